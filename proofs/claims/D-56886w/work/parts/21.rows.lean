/-! ===== rows of zR: instructions that touch no cell (printed by tools/mkrows.py) ===== -/
section zRows0
variable {G : zG} {y : MethodName} {cc : ByteArray} {nL : Nat} {ret : Option FieldType} {hh : List (Nat × Nat × Nat × Nat)} {d pc : Nat} {ls : List (Nat × Value)} {st : List Value} {σ : zT} {Q : zO → zT → Prop}
section zMacc
variable {p : Program} {l : Launch} {R : Room} {s : State} {m : MethodId} {args : Array Value} {meth : Method} {c : Code}
theorem zM.x (M : zM G y cc nL ret hh d p l R s m args meth c) : p.tables.exec = Jvm.exec := M.1
theorem zM.b (M : zM G y cc nL ret hh d p l R s m args meth c) : c.code = cc := M.2.1
theorem zM.ml (M : zM G y cc nL ret hh d p l R s m args meth c) : c.maxLocals = nL := M.2.2.1
theorem zM.r (M : zM G y cc nL ret hh d p l R s m args meth c) : meth.sig.returnType = ret := M.2.2.2.1
theorem zM.own (M : zM G y cc nL ret hh d p l R s m args meth c) : s.vm.findClass y.cls = some m.cls := M.2.2.2.2.1
theorem zM.ws (M : zM G y cc nL ret hh d p l R s m args meth c) : ∀ w ∈ lw_all, w.before args s = true := M.2.2.2.2.2.1
theorem zM.lk (M : zM G y cc nL ret hh d p l R s m args meth c) : meth.locks = false := M.2.2.2.2.2.2.1
theorem zM.ht (M : zM G y cc nL ret hh d p l R s m args meth c) : c.exceptionTable.toList = tableOf hh := M.2.2.2.2.2.2.2.1
theorem zM.tr (M : zM G y cc nL ret hh d p l R s m args meth c) : l.stackTraces = false := M.2.2.2.2.2.2.2.2.1
theorem zM.nm (M : zM G y cc nL ret hh d p l R s m args meth c) : meth.name = y.name := M.2.2.2.2.2.2.2.2.2.1
theorem zM.K (M : zM G y cc nL ret hh d p l R s m args meth c) : zK G s := M.2.2.2.2.2.2.2.2.2.2.1
theorem zM.h0 (M : zM G y cc nL ret hh d p l R s m args meth c) : ∀ a, a < zB G → s.heap[a]? = (zH G)[a]? := M.2.2.2.2.2.2.2.2.2.2.2.1
theorem zM.hb (M : zM G y cc nL ret hh d p l R s m args meth c) : zB G ≤ s.heap.size := M.2.2.2.2.2.2.2.2.2.2.2.2.1
theorem zM.fr (M : zM G y cc nL ret hh d p l R s m args meth c) : d ≤ R.frames := M.2.2.2.2.2.2.2.2.2.2.2.2.2.1
theorem zM.lo (M : zM G y cc nL ret hh d p l R s m args meth c) : 64 * d ≤ R.locals := M.2.2.2.2.2.2.2.2.2.2.2.2.2.2
end zMacc
section zNacc
variable {σ' : zT} {R : Room} {s : State} {H : Heap} {locs : List Loc} {cells slots : Nat} {arr : Array Slot}
theorem zN.sz (N : zN G nL ls σ σ' R s H locs cells slots arr) : s.heap.size ≤ H.size := N.1
theorem zN.rel (N : zN G nL ls σ σ' R s H locs cells slots arr) : zRel G σ H := N.2.1
theorem zN.lc (N : zN G nL ls σ σ' R s H locs cells slots arr) : ∀ z ∈ locs, zB G ≤ z.base := N.2.2.1
theorem zN.c (N : zN G nL ls σ σ' R s H locs cells slots arr) : cells + sZ σ' ≤ R.cells + sZ σ := N.2.2.2.1
theorem zN.sl (N : zN G nL ls σ σ' R s H locs cells slots arr) : slots + sL σ' ≤ R.slots + sL σ := N.2.2.2.2.1
theorem zN.hl (N : zN G nL ls σ σ' R s H locs cells slots arr) : lv_has arr nL ls := N.2.2.2.2.2
theorem zN.re (N : zN G nL ls σ σ' R s H locs cells slots arr) {ls2 : List (Nat × Value)} {arr2 : Array Slot} (h : lv_has arr2 nL ls2) : zN G nL ls2 σ σ' R s H locs cells slots arr2 := ⟨N.1, N.2.1, N.2.2.1, N.2.2.2.1, N.2.2.2.2.1, h⟩
end zNacc
/-- a step that leaves store and locals -/
theorem zR.lift {pc2 : Nat} {st2 : List Value} (h : ∀ (p : Program) (l : Launch) (e : Env) (R : Room) (s : State) (m : MethodId) (args : Array Value) (below : List Frame) (meth : Method) (c : Code) (H : Heap) (locs : List Loc) (cells slots : Nat) (arr : Array Slot) (Q0 : State → Prop),
    zM G y cc nL ret hh d p l R s m args meth c → lv_has arr nL ls → zRel G σ H → W p l e R s m args below meth c H locs cells slots Q0 (F0 m pc2 arr st2) → W p l e R s m args below meth c H locs cells slots Q0 (F0 m pc arr st)) (k : zR G y cc nL ret hh d pc2 ls st2 σ Q) : zR G y cc nL ret hh d pc ls st σ Q := by
  obtain ⟨o, σ', q, h1, h2, h3⟩ := k
  exact ⟨o, σ', q, h1, h2, fun p l e R s m args below meth c H locs cells slots arr M N => h _ _ _ _ _ _ _ _ _ _ _ _ _ _ _ _ M N.hl N.rel (h3 p l e R s m args below meth c H locs cells slots arr M N)⟩
/-- the postcondition weakened -/
theorem zR.mono {Q' : zO → zT → Prop} (hq : ∀ o σ', Q o σ' → Q' o σ') (k : zR G y cc nL ret hh d pc ls st σ Q) : zR G y cc nL ret hh d pc ls st σ Q' := by
  obtain ⟨o, σ', q, h⟩ := k
  exact ⟨o, σ', hq _ _ q, h⟩
def zget : List (Nat × Value) → Nat → Option Value
  | [], _ => none
  | q :: r, i => match Nat.beq q.1 i with
    | true => some q.2
    | false => zget r i
theorem zget_mem : ∀ (l : List (Nat × Value)) {i : Nat} {v : Value}, zget l i = some v → (i, v) ∈ l
  | [], _, _, h => by cases h
  | q :: r, i, v, h => by
    unfold zget at h
    split at h
    · next e =>
      cases h
      have := Nat.eq_of_beq_eq_true e
      subst this
      exact List.mem_cons_self
    · exact List.mem_cons_of_mem _ (zget_mem r h)
theorem zget_at {arr : Array Slot} (h : lv_has arr nL ls) {i : Nat} {v : Value} (hk : zget ls i = some v) : arr[i]? = some (.val v) := h.2.2 (i, v) (zget_mem _ hk)
def zins : List (Nat × Value) → Nat → Value → List (Nat × Value)
  | [], i, v => [(i, v)]
  | q :: r, i, v => match Nat.blt q.1 i with
    | true => q :: zins r i v
    | false => (i, v) :: q :: r
theorem zins_mem : ∀ (l : List (Nat × Value)) (i : Nat) (v : Value) (q : Nat × Value), q ∈ zins l i v → q = (i, v) ∨ q ∈ l
  | [], i, v, q, h => Or.inl (List.mem_singleton.mp h)
  | a :: r, i, v, q, h => by
    unfold zins at h
    split at h
    · rcases List.mem_cons.mp h with h | h
      · exact Or.inr (by rw [h]; exact List.mem_cons_self)
      · rcases zins_mem r i v q h with h | h
        · exact Or.inl h
        · exact Or.inr (List.mem_cons_of_mem _ h)
    · rcases List.mem_cons.mp h with h | h
      · exact Or.inl h
      · exact Or.inr h
/-- the locals with v (of one slot) at i -/
def zset (ls : List (Nat × Value)) (i : Nat) (v : Value) : List (Nat × Value) := zins (ls.filter (fun q => !(q.1 == i) && !(q.1 + 1 == i && q.2.category == 2))) i v
/-- .. (of two slots) -/
def zset2 (ls : List (Nat × Value)) (i : Nat) (v : Value) : List (Nat × Value) := zins (ls.filter (fun q => !(q.1 == i) && (!(q.1 == i + 1) && !(q.1 + 1 == i && q.2.category == 2)))) i v
theorem zset_has {arr : Array Slot} {i : Nat} {v : Value} (h : lv_has arr nL ((i, v) :: ls.filter (fun q => !(q.1 == i) && !(q.1 + 1 == i && q.2.category == 2)))) : lv_has arr nL (zset ls i v) :=
  ⟨h.1, h.2.1, fun q hq => h.2.2 q (by rcases zins_mem _ _ _ _ hq with e | e; · rw [e]; exact List.mem_cons_self
                                       · exact List.mem_cons_of_mem _ e)⟩
theorem zset2_has {arr : Array Slot} {i : Nat} {v : Value} (h : lv_has arr nL ((i, v) :: ls.filter (fun q => !(q.1 == i) && (!(q.1 == i + 1) && !(q.1 + 1 == i && q.2.category == 2))))) : lv_has arr nL (zset2 ls i v) :=
  ⟨h.1, h.2.1, fun q hq => h.2.2 q (by rcases zins_mem _ _ _ _ hq with e | e; · rw [e]; exact List.mem_cons_self
                                       · exact List.mem_cons_of_mem _ e)⟩
/-- fewer locals, by their places -/
theorem zr_sub {ls2 : List (Nat × Value)} (ks : List Nat) (hl : lv_pick ls ks = ls2) (k : zR G y cc nL ret hh d pc ls2 st σ Q) : zR G y cc nL ret hh d pc ls st σ Q := by
  obtain ⟨o, σ', q, h1, h2, h3⟩ := k
  exact ⟨o, σ', q, h1, h2, fun p l e R s m args below meth c H locs cells slots arr M N => h3 p l e R s m args below meth c H locs cells slots arr M (N.re (lv_sub N.hl ks hl))⟩

theorem zr_iconst {n : Int} {v : Int32} (hd : decode cc pc = .ok (.iconst n, 1)) (hv : Int32.ofInt n = v) (k : zR G y cc nL ret hh d (pc + 1) ls (.int v :: st) σ Q) : zR G y cc nL ret hh d pc ls (st) σ Q :=
  zR.lift (fun p l e R s m args below meth c H locs cells slots arr Q0 M hl hR k => lv_iconst M.x M.b hd hv k) k
theorem zr_bipush {n : Int} {v : Int32} (hd : decode cc pc = .ok (.bipush n, 2)) (hv : (Int8.ofInt n).toInt32 = v) (k : zR G y cc nL ret hh d (pc + 2) ls (.int v :: st) σ Q) : zR G y cc nL ret hh d pc ls (st) σ Q :=
  zR.lift (fun p l e R s m args below meth c H locs cells slots arr Q0 M hl hR k => lv_bipush M.x M.b hd hv k) k
theorem zr_sipush {n : Int} {v : Int32} (hd : decode cc pc = .ok (.sipush n, 3)) (hv : (Int16.ofInt n).toInt32 = v) (k : zR G y cc nL ret hh d (pc + 3) ls (.int v :: st) σ Q) : zR G y cc nL ret hh d pc ls (st) σ Q :=
  zR.lift (fun p l e R s m args below meth c H locs cells slots arr Q0 M hl hR k => lv_sipush M.x M.b hd hv k) k
theorem zr_lconst {n : Fin 2} {v : Int64} (hd : decode cc pc = .ok (.lconst n, 1)) (hv : Int64.ofNat (n : Nat) = v) (k : zR G y cc nL ret hh d (pc + 1) ls (.long v :: st) σ Q) : zR G y cc nL ret hh d pc ls (st) σ Q :=
  zR.lift (fun p l e R s m args below meth c H locs cells slots arr Q0 M hl hR k => lv_lconst M.x M.b hd hv k) k
theorem zr_null (hd : decode cc pc = .ok (.aconst_null, 1)) (k : zR G y cc nL ret hh d (pc + 1) ls (.null :: st) σ Q) : zR G y cc nL ret hh d pc ls (st) σ Q :=
  zR.lift (fun p l e R s m args below meth c H locs cells slots arr Q0 M hl hR k => lv_null M.x M.b hd k) k
theorem zr_iload_n {q : Fin 4} {i : Nat} {x : Int32} (hd : decode cc pc = .ok (.iload_n q, 1)) (hi : (q : Nat) = i) (hg : zget ls i = some (.int x)) (k : zR G y cc nL ret hh d (pc + 1) ls (.int x :: st) σ Q) : zR G y cc nL ret hh d pc ls (st) σ Q :=
  zR.lift (fun p l e R s m args below meth c H locs cells slots arr Q0 M hl hR k => lv_iload_n M.x M.b hd hi (zget_at hl hg) k) k
theorem zr_iload {i : Nat} {x : Int32} (hd : decode cc pc = .ok (.iload i, 2)) (hg : zget ls i = some (.int x)) (k : zR G y cc nL ret hh d (pc + 2) ls (.int x :: st) σ Q) : zR G y cc nL ret hh d pc ls (st) σ Q :=
  zR.lift (fun p l e R s m args below meth c H locs cells slots arr Q0 M hl hR k => lv_iload M.x M.b hd (zget_at hl hg) k) k
theorem zr_lload_n {q : Fin 4} {i : Nat} {x : Int64} (hd : decode cc pc = .ok (.lload_n q, 1)) (hi : (q : Nat) = i) (hg : zget ls i = some (.long x)) (k : zR G y cc nL ret hh d (pc + 1) ls (.long x :: st) σ Q) : zR G y cc nL ret hh d pc ls (st) σ Q :=
  zR.lift (fun p l e R s m args below meth c H locs cells slots arr Q0 M hl hR k => lv_lload_n M.x M.b hd hi (zget_at hl hg) k) k
theorem zr_lload {i : Nat} {x : Int64} (hd : decode cc pc = .ok (.lload i, 2)) (hg : zget ls i = some (.long x)) (k : zR G y cc nL ret hh d (pc + 2) ls (.long x :: st) σ Q) : zR G y cc nL ret hh d pc ls (st) σ Q :=
  zR.lift (fun p l e R s m args below meth c H locs cells slots arr Q0 M hl hR k => lv_lload M.x M.b hd (zget_at hl hg) k) k
theorem zr_aload_n {q : Fin 4} {i : Nat} {x : Nat} (hd : decode cc pc = .ok (.aload_n q, 1)) (hi : (q : Nat) = i) (hg : zget ls i = some (.ref x)) (k : zR G y cc nL ret hh d (pc + 1) ls (.ref x :: st) σ Q) : zR G y cc nL ret hh d pc ls (st) σ Q :=
  zR.lift (fun p l e R s m args below meth c H locs cells slots arr Q0 M hl hR k => lv_aload_n M.x M.b hd hi (zget_at hl hg) k) k
theorem zr_aload {i : Nat} {x : Nat} (hd : decode cc pc = .ok (.aload i, 2)) (hg : zget ls i = some (.ref x)) (k : zR G y cc nL ret hh d (pc + 2) ls (.ref x :: st) σ Q) : zR G y cc nL ret hh d pc ls (st) σ Q :=
  zR.lift (fun p l e R s m args below meth c H locs cells slots arr Q0 M hl hR k => lv_aload M.x M.b hd (zget_at hl hg) k) k
theorem zr_fload_n {q : Fin 4} {i : Nat} {x : UInt32} (hd : decode cc pc = .ok (.fload_n q, 1)) (hi : (q : Nat) = i) (hg : zget ls i = some (.float x)) (k : zR G y cc nL ret hh d (pc + 1) ls (.float x :: st) σ Q) : zR G y cc nL ret hh d pc ls (st) σ Q :=
  zR.lift (fun p l e R s m args below meth c H locs cells slots arr Q0 M hl hR k => lv_fload_n M.x M.b hd hi (zget_at hl hg) k) k
theorem zr_fload {i : Nat} {x : UInt32} (hd : decode cc pc = .ok (.fload i, 2)) (hg : zget ls i = some (.float x)) (k : zR G y cc nL ret hh d (pc + 2) ls (.float x :: st) σ Q) : zR G y cc nL ret hh d pc ls (st) σ Q :=
  zR.lift (fun p l e R s m args below meth c H locs cells slots arr Q0 M hl hR k => lv_fload M.x M.b hd (zget_at hl hg) k) k
theorem zr_dload_n {q : Fin 4} {i : Nat} {x : UInt64} (hd : decode cc pc = .ok (.dload_n q, 1)) (hi : (q : Nat) = i) (hg : zget ls i = some (.double x)) (k : zR G y cc nL ret hh d (pc + 1) ls (.double x :: st) σ Q) : zR G y cc nL ret hh d pc ls (st) σ Q :=
  zR.lift (fun p l e R s m args below meth c H locs cells slots arr Q0 M hl hR k => lv_dload_n M.x M.b hd hi (zget_at hl hg) k) k
theorem zr_dload {i : Nat} {x : UInt64} (hd : decode cc pc = .ok (.dload i, 2)) (hg : zget ls i = some (.double x)) (k : zR G y cc nL ret hh d (pc + 2) ls (.double x :: st) σ Q) : zR G y cc nL ret hh d pc ls (st) σ Q :=
  zR.lift (fun p l e R s m args below meth c H locs cells slots arr Q0 M hl hR k => lv_dload M.x M.b hd (zget_at hl hg) k) k
theorem zr_istore_n {i : Nat} {q : Fin 4} {x : Int32} {ls2 : List (Nat × Value)} (hd : decode cc pc = .ok (.istore_n q, 1)) (hi : (q : Nat) = i) (hn : i < nL) (hl : zset ls i (.int x) = ls2) (k : zR G y cc nL ret hh d (pc + 1) ls2 st σ Q) : zR G y cc nL ret hh d pc ls (.int x :: st) σ Q := by
  obtain ⟨o, σ', q0, h1, h2, h3⟩ := k
  subst hl
  exact ⟨o, σ', q0, h1, h2, fun p l e R s m args below meth c H locs cells slots arr M N => lv_istore_n M.x M.b hd hi N.hl hn rfl (fun arr2 hl2 => h3 p l e R s m args below meth c H locs cells slots arr2 M (N.re (zset_has hl2)))⟩
theorem zr_istore {i : Nat} {x : Int32} {ls2 : List (Nat × Value)} (hd : decode cc pc = .ok (.istore i, 2)) (hn : i < nL) (hl : zset ls i (.int x) = ls2) (k : zR G y cc nL ret hh d (pc + 2) ls2 st σ Q) : zR G y cc nL ret hh d pc ls (.int x :: st) σ Q := by
  obtain ⟨o, σ', q0, h1, h2, h3⟩ := k
  subst hl
  exact ⟨o, σ', q0, h1, h2, fun p l e R s m args below meth c H locs cells slots arr M N => lv_istore M.x M.b hd N.hl hn rfl (fun arr2 hl2 => h3 p l e R s m args below meth c H locs cells slots arr2 M (N.re (zset_has hl2)))⟩
theorem zr_lstore_n {i : Nat} {q : Fin 4} {x : Int64} {ls2 : List (Nat × Value)} (hd : decode cc pc = .ok (.lstore_n q, 1)) (hi : (q : Nat) = i) (hn : i + 1 < nL) (hl : zset2 ls i (.long x) = ls2) (k : zR G y cc nL ret hh d (pc + 1) ls2 st σ Q) : zR G y cc nL ret hh d pc ls (.long x :: st) σ Q := by
  obtain ⟨o, σ', q0, h1, h2, h3⟩ := k
  subst hl
  exact ⟨o, σ', q0, h1, h2, fun p l e R s m args below meth c H locs cells slots arr M N => lv_lstore_n M.x M.b hd hi N.hl hn rfl (fun arr2 hl2 => h3 p l e R s m args below meth c H locs cells slots arr2 M (N.re (zset2_has hl2)))⟩
theorem zr_lstore {i : Nat} {x : Int64} {ls2 : List (Nat × Value)} (hd : decode cc pc = .ok (.lstore i, 2)) (hn : i + 1 < nL) (hl : zset2 ls i (.long x) = ls2) (k : zR G y cc nL ret hh d (pc + 2) ls2 st σ Q) : zR G y cc nL ret hh d pc ls (.long x :: st) σ Q := by
  obtain ⟨o, σ', q0, h1, h2, h3⟩ := k
  subst hl
  exact ⟨o, σ', q0, h1, h2, fun p l e R s m args below meth c H locs cells slots arr M N => lv_lstore M.x M.b hd N.hl hn rfl (fun arr2 hl2 => h3 p l e R s m args below meth c H locs cells slots arr2 M (N.re (zset2_has hl2)))⟩
theorem zr_astore_n {i : Nat} {q : Fin 4} {x : Nat} {ls2 : List (Nat × Value)} (hd : decode cc pc = .ok (.astore_n q, 1)) (hi : (q : Nat) = i) (hn : i < nL) (hl : zset ls i (.ref x) = ls2) (k : zR G y cc nL ret hh d (pc + 1) ls2 st σ Q) : zR G y cc nL ret hh d pc ls (.ref x :: st) σ Q := by
  obtain ⟨o, σ', q0, h1, h2, h3⟩ := k
  subst hl
  exact ⟨o, σ', q0, h1, h2, fun p l e R s m args below meth c H locs cells slots arr M N => lv_astore_n M.x M.b hd hi N.hl hn rfl (fun arr2 hl2 => h3 p l e R s m args below meth c H locs cells slots arr2 M (N.re (zset_has hl2)))⟩
theorem zr_astore {i : Nat} {x : Nat} {ls2 : List (Nat × Value)} (hd : decode cc pc = .ok (.astore i, 2)) (hn : i < nL) (hl : zset ls i (.ref x) = ls2) (k : zR G y cc nL ret hh d (pc + 2) ls2 st σ Q) : zR G y cc nL ret hh d pc ls (.ref x :: st) σ Q := by
  obtain ⟨o, σ', q0, h1, h2, h3⟩ := k
  subst hl
  exact ⟨o, σ', q0, h1, h2, fun p l e R s m args below meth c H locs cells slots arr M N => lv_astore M.x M.b hd N.hl hn rfl (fun arr2 hl2 => h3 p l e R s m args below meth c H locs cells slots arr2 M (N.re (zset_has hl2)))⟩
theorem zr_fstore_n {i : Nat} {q : Fin 4} {x : UInt32} {ls2 : List (Nat × Value)} (hd : decode cc pc = .ok (.fstore_n q, 1)) (hi : (q : Nat) = i) (hn : i < nL) (hl : zset ls i (.float x) = ls2) (k : zR G y cc nL ret hh d (pc + 1) ls2 st σ Q) : zR G y cc nL ret hh d pc ls (.float x :: st) σ Q := by
  obtain ⟨o, σ', q0, h1, h2, h3⟩ := k
  subst hl
  exact ⟨o, σ', q0, h1, h2, fun p l e R s m args below meth c H locs cells slots arr M N => lv_fstore_n M.x M.b hd hi N.hl hn rfl (fun arr2 hl2 => h3 p l e R s m args below meth c H locs cells slots arr2 M (N.re (zset_has hl2)))⟩
theorem zr_fstore {i : Nat} {x : UInt32} {ls2 : List (Nat × Value)} (hd : decode cc pc = .ok (.fstore i, 2)) (hn : i < nL) (hl : zset ls i (.float x) = ls2) (k : zR G y cc nL ret hh d (pc + 2) ls2 st σ Q) : zR G y cc nL ret hh d pc ls (.float x :: st) σ Q := by
  obtain ⟨o, σ', q0, h1, h2, h3⟩ := k
  subst hl
  exact ⟨o, σ', q0, h1, h2, fun p l e R s m args below meth c H locs cells slots arr M N => lv_fstore M.x M.b hd N.hl hn rfl (fun arr2 hl2 => h3 p l e R s m args below meth c H locs cells slots arr2 M (N.re (zset_has hl2)))⟩
theorem zr_dstore_n {i : Nat} {q : Fin 4} {x : UInt64} {ls2 : List (Nat × Value)} (hd : decode cc pc = .ok (.dstore_n q, 1)) (hi : (q : Nat) = i) (hn : i + 1 < nL) (hl : zset2 ls i (.double x) = ls2) (k : zR G y cc nL ret hh d (pc + 1) ls2 st σ Q) : zR G y cc nL ret hh d pc ls (.double x :: st) σ Q := by
  obtain ⟨o, σ', q0, h1, h2, h3⟩ := k
  subst hl
  exact ⟨o, σ', q0, h1, h2, fun p l e R s m args below meth c H locs cells slots arr M N => lv_dstore_n M.x M.b hd hi N.hl hn rfl (fun arr2 hl2 => h3 p l e R s m args below meth c H locs cells slots arr2 M (N.re (zset2_has hl2)))⟩
theorem zr_dstore {i : Nat} {x : UInt64} {ls2 : List (Nat × Value)} (hd : decode cc pc = .ok (.dstore i, 2)) (hn : i + 1 < nL) (hl : zset2 ls i (.double x) = ls2) (k : zR G y cc nL ret hh d (pc + 2) ls2 st σ Q) : zR G y cc nL ret hh d pc ls (.double x :: st) σ Q := by
  obtain ⟨o, σ', q0, h1, h2, h3⟩ := k
  subst hl
  exact ⟨o, σ', q0, h1, h2, fun p l e R s m args below meth c H locs cells slots arr M N => lv_dstore M.x M.b hd N.hl hn rfl (fun arr2 hl2 => h3 p l e R s m args below meth c H locs cells slots arr2 M (N.re (zset2_has hl2)))⟩
theorem zr_iinc {i : Nat} {n : Int} {x v : Int32} {ls2 : List (Nat × Value)} (hd : decode cc pc = .ok (.iinc i n, 3)) (hg : zget ls i = some (.int x)) (hv : x + Int32.ofInt n = v) (hn : i < nL) (hl : zset ls i (.int v) = ls2) (k : zR G y cc nL ret hh d (pc + 3) ls2 st σ Q) : zR G y cc nL ret hh d pc ls st σ Q := by
  obtain ⟨o, σ', q0, h1, h2, h3⟩ := k
  subst hl
  obtain ⟨j, hj⟩ := List.getElem?_of_mem (zget_mem _ hg)
  exact ⟨o, σ', q0, h1, h2, fun p l e R s m args below meth c H locs cells slots arr M N => lv_iinc M.x M.b hd N.hl hj hv hn rfl (fun arr2 hl2 => h3 p l e R s m args below meth c H locs cells slots arr2 M (N.re (zset_has hl2)))⟩
theorem zr_iadd {x y0 : Int32} (hd : decode cc pc = .ok (.iadd, 1)) (k : zR G y cc nL ret hh d (pc + 1) ls (.int (x + y0) :: st) σ Q) : zR G y cc nL ret hh d pc ls (.int y0 :: .int x :: st) σ Q :=
  zR.lift (fun p l e R s m args below meth c H locs cells slots arr Q0 M hl hR k => lv_iadd M.x M.b hd k) k
theorem zr_isub {x y0 : Int32} (hd : decode cc pc = .ok (.isub, 1)) (k : zR G y cc nL ret hh d (pc + 1) ls (.int (x - y0) :: st) σ Q) : zR G y cc nL ret hh d pc ls (.int y0 :: .int x :: st) σ Q :=
  zR.lift (fun p l e R s m args below meth c H locs cells slots arr Q0 M hl hR k => lv_isub M.x M.b hd k) k
theorem zr_imul {x y0 : Int32} (hd : decode cc pc = .ok (.imul, 1)) (k : zR G y cc nL ret hh d (pc + 1) ls (.int (x * y0) :: st) σ Q) : zR G y cc nL ret hh d pc ls (.int y0 :: .int x :: st) σ Q :=
  zR.lift (fun p l e R s m args below meth c H locs cells slots arr Q0 M hl hR k => lv_imul M.x M.b hd k) k
theorem zr_iand {x y0 : Int32} (hd : decode cc pc = .ok (.iand, 1)) (k : zR G y cc nL ret hh d (pc + 1) ls (.int (x &&& y0) :: st) σ Q) : zR G y cc nL ret hh d pc ls (.int y0 :: .int x :: st) σ Q :=
  zR.lift (fun p l e R s m args below meth c H locs cells slots arr Q0 M hl hR k => lv_iand M.x M.b hd k) k
theorem zr_ior {x y0 : Int32} (hd : decode cc pc = .ok (.ior, 1)) (k : zR G y cc nL ret hh d (pc + 1) ls (.int (x ||| y0) :: st) σ Q) : zR G y cc nL ret hh d pc ls (.int y0 :: .int x :: st) σ Q :=
  zR.lift (fun p l e R s m args below meth c H locs cells slots arr Q0 M hl hR k => lv_ior M.x M.b hd k) k
theorem zr_ladd {x y0 : Int64} (hd : decode cc pc = .ok (.ladd, 1)) (k : zR G y cc nL ret hh d (pc + 1) ls (.long (x + y0) :: st) σ Q) : zR G y cc nL ret hh d pc ls (.long y0 :: .long x :: st) σ Q :=
  zR.lift (fun p l e R s m args below meth c H locs cells slots arr Q0 M hl hR k => lv_ladd M.x M.b hd k) k
theorem zr_lmul {x y0 : Int64} (hd : decode cc pc = .ok (.lmul, 1)) (k : zR G y cc nL ret hh d (pc + 1) ls (.long (x * y0) :: st) σ Q) : zR G y cc nL ret hh d pc ls (.long y0 :: .long x :: st) σ Q :=
  zR.lift (fun p l e R s m args below meth c H locs cells slots arr Q0 M hl hR k => lv_lmul M.x M.b hd k) k
theorem zr_idiv {x y0 : Int32} (hd : decode cc pc = .ok (.idiv, 1)) (hne : ¬ y0 = 0) (k : zR G y cc nL ret hh d (pc + 1) ls (.int (x / y0) :: st) σ Q) : zR G y cc nL ret hh d pc ls (.int y0 :: .int x :: st) σ Q :=
  zR.lift (fun p l e R s m args below meth c H locs cells slots arr Q0 M hl hR k => lv_idiv M.x M.b hd hne k) k
theorem zr_irem {x y0 : Int32} (hd : decode cc pc = .ok (.irem, 1)) (hne : ¬ y0 = 0) (k : zR G y cc nL ret hh d (pc + 1) ls (.int (x - x / y0 * y0) :: st) σ Q) : zR G y cc nL ret hh d pc ls (.int y0 :: .int x :: st) σ Q :=
  zR.lift (fun p l e R s m args below meth c H locs cells slots arr Q0 M hl hR k => lv_irem M.x M.b hd hne k) k
theorem zr_ineg {x : Int32} (hd : decode cc pc = .ok (.ineg, 1)) (k : zR G y cc nL ret hh d (pc + 1) ls (.int (-x) :: st) σ Q) : zR G y cc nL ret hh d pc ls (.int x :: st) σ Q :=
  zR.lift (fun p l e R s m args below meth c H locs cells slots arr Q0 M hl hR k => lv_ineg M.x M.b hd k) k
theorem zr_i2l {x : Int32} {v : Int64} (hd : decode cc pc = .ok (.i2l, 1)) (hv : x.toInt64 = v) (k : zR G y cc nL ret hh d (pc + 1) ls (.long v :: st) σ Q) : zR G y cc nL ret hh d pc ls (.int x :: st) σ Q :=
  zR.lift (fun p l e R s m args below meth c H locs cells slots arr Q0 M hl hR k => lv_i2l M.x M.b hd hv k) k
theorem zr_i2c {x v : Int32} (hd : decode cc pc = .ok (.i2c, 1)) (hv : (x.toUInt32 % 65536).toInt32 = v) (k : zR G y cc nL ret hh d (pc + 1) ls (.int v :: st) σ Q) : zR G y cc nL ret hh d pc ls (.int x :: st) σ Q :=
  zR.lift (fun p l e R s m args below meth c H locs cells slots arr Q0 M hl hR k => lv_i2c M.x M.b hd hv k) k
theorem zr_dup {a : Value} (hd : decode cc pc = .ok (.dup, 1)) (ha : a.category = 1) (k : zR G y cc nL ret hh d (pc + 1) ls (a :: a :: st) σ Q) : zR G y cc nL ret hh d pc ls (a :: st) σ Q :=
  zR.lift (fun p l e R s m args below meth c H locs cells slots arr Q0 M hl hR k => lv_dup M.x M.b hd ha k) k
theorem zr_pop {a : Value} (hd : decode cc pc = .ok (.pop, 1)) (ha : a.category = 1) (k : zR G y cc nL ret hh d (pc + 1) ls (st) σ Q) : zR G y cc nL ret hh d pc ls (a :: st) σ Q :=
  zR.lift (fun p l e R s m args below meth c H locs cells slots arr Q0 M hl hR k => lv_pop M.x M.b hd ha k) k
theorem zr_dup_x1 {a b : Value} (hd : decode cc pc = .ok (.dup_x1, 1)) (ha : a.category = 1) (hb : b.category = 1) (k : zR G y cc nL ret hh d (pc + 1) ls (a :: b :: a :: st) σ Q) : zR G y cc nL ret hh d pc ls (a :: b :: st) σ Q :=
  zR.lift (fun p l e R s m args below meth c H locs cells slots arr Q0 M hl hR k => lv_dup_x1 M.x M.b hd ha hb k) k
theorem zr_dup_x2 {a b b2 : Value} (hd : decode cc pc = .ok (.dup_x2, 1)) (ha : a.category = 1) (hb : b.category = 1) (hb2 : b2.category = 1) (k : zR G y cc nL ret hh d (pc + 1) ls (a :: b :: b2 :: a :: st) σ Q) : zR G y cc nL ret hh d pc ls (a :: b :: b2 :: st) σ Q :=
  zR.lift (fun p l e R s m args below meth c H locs cells slots arr Q0 M hl hR k => lv_dup_x2 M.x M.b hd ha hb hb2 k) k
theorem zr_dup2 {a b : Value} (hd : decode cc pc = .ok (.dup2, 1)) (ha : a.category = 1) (hb : b.category = 1) (k : zR G y cc nL ret hh d (pc + 1) ls (a :: b :: a :: b :: st) σ Q) : zR G y cc nL ret hh d pc ls (a :: b :: st) σ Q :=
  zR.lift (fun p l e R s m args below meth c H locs cells slots arr Q0 M hl hR k => lv_dup2_11 M.x M.b hd ha hb k) k
theorem zr_if_eq {x : Int32} {off : Int} {tgt : Nat} (hd : decode cc pc = .ok (.ifCond .eq off, 3)) (ht : (pc : Int) + off = (tgt : Int)) (kt : x = 0 → zR G y cc nL ret hh d tgt ls st σ Q) (kf : ¬ (x = 0) → zR G y cc nL ret hh d (pc + 3) ls st σ Q) : zR G y cc nL ret hh d pc ls (.int x :: st) σ Q := by
  by_cases hP : x = 0
  · exact zR.lift (fun p l e R s m args below meth c H locs cells slots arr Q0 M hl hR k => lv_if_eq M.x M.b hd ht (fun _ => k) (fun h => absurd hP h)) (kt hP)
  · exact zR.lift (fun p l e R s m args below meth c H locs cells slots arr Q0 M hl hR k => lv_if_eq M.x M.b hd ht (fun h => absurd h hP) (fun _ => k)) (kf hP)
theorem zr_icmp_eq {x y0 : Int32} {off : Int} {tgt : Nat} (hd : decode cc pc = .ok (.if_icmp .eq off, 3)) (ht : (pc : Int) + off = (tgt : Int)) (kt : x = y0 → zR G y cc nL ret hh d tgt ls st σ Q) (kf : ¬ (x = y0) → zR G y cc nL ret hh d (pc + 3) ls st σ Q) : zR G y cc nL ret hh d pc ls (.int y0 :: .int x :: st) σ Q := by
  by_cases hP : x = y0
  · exact zR.lift (fun p l e R s m args below meth c H locs cells slots arr Q0 M hl hR k => lv_icmp_eq M.x M.b hd ht (fun _ => k) (fun h => absurd hP h)) (kt hP)
  · exact zR.lift (fun p l e R s m args below meth c H locs cells slots arr Q0 M hl hR k => lv_icmp_eq M.x M.b hd ht (fun h => absurd h hP) (fun _ => k)) (kf hP)
theorem zr_if_ne {x : Int32} {off : Int} {tgt : Nat} (hd : decode cc pc = .ok (.ifCond .ne off, 3)) (ht : (pc : Int) + off = (tgt : Int)) (kt : ¬ x = 0 → zR G y cc nL ret hh d tgt ls st σ Q) (kf : x = 0 → zR G y cc nL ret hh d (pc + 3) ls st σ Q) : zR G y cc nL ret hh d pc ls (.int x :: st) σ Q := by
  by_cases hP : x = 0
  · exact zR.lift (fun p l e R s m args below meth c H locs cells slots arr Q0 M hl hR k => lv_if_ne M.x M.b hd ht (fun h => absurd hP h) (fun _ => k)) (kf hP)
  · exact zR.lift (fun p l e R s m args below meth c H locs cells slots arr Q0 M hl hR k => lv_if_ne M.x M.b hd ht (fun _ => k) (fun h => absurd h hP)) (kt hP)
theorem zr_icmp_ne {x y0 : Int32} {off : Int} {tgt : Nat} (hd : decode cc pc = .ok (.if_icmp .ne off, 3)) (ht : (pc : Int) + off = (tgt : Int)) (kt : ¬ x = y0 → zR G y cc nL ret hh d tgt ls st σ Q) (kf : x = y0 → zR G y cc nL ret hh d (pc + 3) ls st σ Q) : zR G y cc nL ret hh d pc ls (.int y0 :: .int x :: st) σ Q := by
  by_cases hP : x = y0
  · exact zR.lift (fun p l e R s m args below meth c H locs cells slots arr Q0 M hl hR k => lv_icmp_ne M.x M.b hd ht (fun h => absurd hP h) (fun _ => k)) (kf hP)
  · exact zR.lift (fun p l e R s m args below meth c H locs cells slots arr Q0 M hl hR k => lv_icmp_ne M.x M.b hd ht (fun _ => k) (fun h => absurd h hP)) (kt hP)
theorem zr_if_lt {x : Int32} {off : Int} {tgt : Nat} (hd : decode cc pc = .ok (.ifCond .lt off, 3)) (ht : (pc : Int) + off = (tgt : Int)) (kt : x < 0 → zR G y cc nL ret hh d tgt ls st σ Q) (kf : ¬ (x < 0) → zR G y cc nL ret hh d (pc + 3) ls st σ Q) : zR G y cc nL ret hh d pc ls (.int x :: st) σ Q := by
  by_cases hP : x < 0
  · exact zR.lift (fun p l e R s m args below meth c H locs cells slots arr Q0 M hl hR k => lv_if_lt M.x M.b hd ht (fun _ => k) (fun h => absurd hP h)) (kt hP)
  · exact zR.lift (fun p l e R s m args below meth c H locs cells slots arr Q0 M hl hR k => lv_if_lt M.x M.b hd ht (fun h => absurd h hP) (fun _ => k)) (kf hP)
theorem zr_icmp_lt {x y0 : Int32} {off : Int} {tgt : Nat} (hd : decode cc pc = .ok (.if_icmp .lt off, 3)) (ht : (pc : Int) + off = (tgt : Int)) (kt : x < y0 → zR G y cc nL ret hh d tgt ls st σ Q) (kf : ¬ (x < y0) → zR G y cc nL ret hh d (pc + 3) ls st σ Q) : zR G y cc nL ret hh d pc ls (.int y0 :: .int x :: st) σ Q := by
  by_cases hP : x < y0
  · exact zR.lift (fun p l e R s m args below meth c H locs cells slots arr Q0 M hl hR k => lv_icmp_lt M.x M.b hd ht (fun _ => k) (fun h => absurd hP h)) (kt hP)
  · exact zR.lift (fun p l e R s m args below meth c H locs cells slots arr Q0 M hl hR k => lv_icmp_lt M.x M.b hd ht (fun h => absurd h hP) (fun _ => k)) (kf hP)
theorem zr_if_ge {x : Int32} {off : Int} {tgt : Nat} (hd : decode cc pc = .ok (.ifCond .ge off, 3)) (ht : (pc : Int) + off = (tgt : Int)) (kt : 0 ≤ x → zR G y cc nL ret hh d tgt ls st σ Q) (kf : ¬ (0 ≤ x) → zR G y cc nL ret hh d (pc + 3) ls st σ Q) : zR G y cc nL ret hh d pc ls (.int x :: st) σ Q := by
  by_cases hP : 0 ≤ x
  · exact zR.lift (fun p l e R s m args below meth c H locs cells slots arr Q0 M hl hR k => lv_if_ge M.x M.b hd ht (fun _ => k) (fun h => absurd hP h)) (kt hP)
  · exact zR.lift (fun p l e R s m args below meth c H locs cells slots arr Q0 M hl hR k => lv_if_ge M.x M.b hd ht (fun h => absurd h hP) (fun _ => k)) (kf hP)
theorem zr_icmp_ge {x y0 : Int32} {off : Int} {tgt : Nat} (hd : decode cc pc = .ok (.if_icmp .ge off, 3)) (ht : (pc : Int) + off = (tgt : Int)) (kt : y0 ≤ x → zR G y cc nL ret hh d tgt ls st σ Q) (kf : ¬ (y0 ≤ x) → zR G y cc nL ret hh d (pc + 3) ls st σ Q) : zR G y cc nL ret hh d pc ls (.int y0 :: .int x :: st) σ Q := by
  by_cases hP : y0 ≤ x
  · exact zR.lift (fun p l e R s m args below meth c H locs cells slots arr Q0 M hl hR k => lv_icmp_ge M.x M.b hd ht (fun _ => k) (fun h => absurd hP h)) (kt hP)
  · exact zR.lift (fun p l e R s m args below meth c H locs cells slots arr Q0 M hl hR k => lv_icmp_ge M.x M.b hd ht (fun h => absurd h hP) (fun _ => k)) (kf hP)
theorem zr_if_gt {x : Int32} {off : Int} {tgt : Nat} (hd : decode cc pc = .ok (.ifCond .gt off, 3)) (ht : (pc : Int) + off = (tgt : Int)) (kt : 0 < x → zR G y cc nL ret hh d tgt ls st σ Q) (kf : ¬ (0 < x) → zR G y cc nL ret hh d (pc + 3) ls st σ Q) : zR G y cc nL ret hh d pc ls (.int x :: st) σ Q := by
  by_cases hP : 0 < x
  · exact zR.lift (fun p l e R s m args below meth c H locs cells slots arr Q0 M hl hR k => lv_if_gt M.x M.b hd ht (fun _ => k) (fun h => absurd hP h)) (kt hP)
  · exact zR.lift (fun p l e R s m args below meth c H locs cells slots arr Q0 M hl hR k => lv_if_gt M.x M.b hd ht (fun h => absurd h hP) (fun _ => k)) (kf hP)
theorem zr_icmp_gt {x y0 : Int32} {off : Int} {tgt : Nat} (hd : decode cc pc = .ok (.if_icmp .gt off, 3)) (ht : (pc : Int) + off = (tgt : Int)) (kt : y0 < x → zR G y cc nL ret hh d tgt ls st σ Q) (kf : ¬ (y0 < x) → zR G y cc nL ret hh d (pc + 3) ls st σ Q) : zR G y cc nL ret hh d pc ls (.int y0 :: .int x :: st) σ Q := by
  by_cases hP : y0 < x
  · exact zR.lift (fun p l e R s m args below meth c H locs cells slots arr Q0 M hl hR k => lv_icmp_gt M.x M.b hd ht (fun _ => k) (fun h => absurd hP h)) (kt hP)
  · exact zR.lift (fun p l e R s m args below meth c H locs cells slots arr Q0 M hl hR k => lv_icmp_gt M.x M.b hd ht (fun h => absurd h hP) (fun _ => k)) (kf hP)
theorem zr_if_le {x : Int32} {off : Int} {tgt : Nat} (hd : decode cc pc = .ok (.ifCond .le off, 3)) (ht : (pc : Int) + off = (tgt : Int)) (kt : x ≤ 0 → zR G y cc nL ret hh d tgt ls st σ Q) (kf : ¬ (x ≤ 0) → zR G y cc nL ret hh d (pc + 3) ls st σ Q) : zR G y cc nL ret hh d pc ls (.int x :: st) σ Q := by
  by_cases hP : x ≤ 0
  · exact zR.lift (fun p l e R s m args below meth c H locs cells slots arr Q0 M hl hR k => lv_if_le M.x M.b hd ht (fun _ => k) (fun h => absurd hP h)) (kt hP)
  · exact zR.lift (fun p l e R s m args below meth c H locs cells slots arr Q0 M hl hR k => lv_if_le M.x M.b hd ht (fun h => absurd h hP) (fun _ => k)) (kf hP)
theorem zr_icmp_le {x y0 : Int32} {off : Int} {tgt : Nat} (hd : decode cc pc = .ok (.if_icmp .le off, 3)) (ht : (pc : Int) + off = (tgt : Int)) (kt : x ≤ y0 → zR G y cc nL ret hh d tgt ls st σ Q) (kf : ¬ (x ≤ y0) → zR G y cc nL ret hh d (pc + 3) ls st σ Q) : zR G y cc nL ret hh d pc ls (.int y0 :: .int x :: st) σ Q := by
  by_cases hP : x ≤ y0
  · exact zR.lift (fun p l e R s m args below meth c H locs cells slots arr Q0 M hl hR k => lv_icmp_le M.x M.b hd ht (fun _ => k) (fun h => absurd hP h)) (kt hP)
  · exact zR.lift (fun p l e R s m args below meth c H locs cells slots arr Q0 M hl hR k => lv_icmp_le M.x M.b hd ht (fun h => absurd h hP) (fun _ => k)) (kf hP)
theorem zr_goto {off : Int} {tgt : Nat} (hd : decode cc pc = .ok (.goto off, 3)) (ht : (pc : Int) + off = (tgt : Int)) (k : zR G y cc nL ret hh d tgt ls st σ Q) : zR G y cc nL ret hh d pc ls (st) σ Q :=
  zR.lift (fun p l e R s m args below meth c H locs cells slots arr Q0 M hl hR k => lv_goto M.x M.b hd ht k) k
theorem zr_ifnonnull {x : Nat} {off : Int} {tgt : Nat} (hd : decode cc pc = .ok (.ifnonnull off, 3)) (ht : (pc : Int) + off = (tgt : Int)) (k : zR G y cc nL ret hh d tgt ls st σ Q) : zR G y cc nL ret hh d pc ls (.ref x :: st) σ Q :=
  zR.lift (fun p l e R s m args below meth c H locs cells slots arr Q0 M hl hR k => lv_ifnonnull M.x M.b hd ht k) k
theorem zr_ifnull {x : Nat} {off : Int} (hd : decode cc pc = .ok (.ifnull off, 3)) (k : zR G y cc nL ret hh d (pc + 3) ls st σ Q) : zR G y cc nL ret hh d pc ls (.ref x :: st) σ Q :=
  zR.lift (fun p l e R s m args below meth c H locs cells slots arr Q0 M hl hR k => lv_ifnull M.x M.b hd k) k
theorem zr_ifnullN {off : Int} {tgt : Nat} (hd : decode cc pc = .ok (.ifnull off, 3)) (ht : (pc : Int) + off = (tgt : Int)) (k : zR G y cc nL ret hh d tgt ls st σ Q) : zR G y cc nL ret hh d pc ls (.null :: st) σ Q :=
  zR.lift (fun p l e R s m args below meth c H locs cells slots arr Q0 M hl hR k => lv_ifnullN M.x M.b hd ht k) k
theorem zr_ifnonnullN {off : Int} (hd : decode cc pc = .ok (.ifnonnull off, 3)) (k : zR G y cc nL ret hh d (pc + 3) ls st σ Q) : zR G y cc nL ret hh d pc ls (.null :: st) σ Q :=
  zR.lift (fun p l e R s m args below meth c H locs cells slots arr Q0 M hl hR k => lv_ifnonnullN M.x M.b hd k) k
end zRows0
