/-! ===== further rows (printed by tools/mkrows2.py) ===== -/
section zW
variable {p : Program} {l : Launch} {e : Env} {R : Room} {s : State} {m : MethodId} {args : Array Value} {below : List Frame} {meth : Method} {c : Code} {H : Heap} {locs : List Loc} {cells slots : Nat} {Q : State → Prop}
variable {pc : Nat} {ls : Array Slot} {rest : List Value} {D : va_G} {cl : List vw_C} {a : Nat} {tys : List (ClassId × FieldType)}

theorem zw_copy {cc : ByteArray} (hexec : p.tables.exec = Jvm.exec) (hb : c.code = cc) (hml : c.maxLocals = ls.size) {own : String} {index : Nat} (hown : s.vm.findClass own = some m.cls) (hlink : (Cond.methodLink own index arraycopyName).before args s = true) (hnat : (Cond.native arraycopyName).before args s = true) (hstat : (Cond.static arraycopyName).before args s = true) (hini : (Cond.initialized "java/lang/System").before args s = true)
    (hK : va_K D cl tys s) (t0 t1 : Nat) {a0 : Nat} {c0 c1 : ClassId} {n0 n1 : Nat} {f g : Nat → Option Nat} {E0 E1 : String} (ha0 : H[a0]? = some (vp_cell c0 (n0, .inr (.inr (.inr (.inr f)))))) (ha1 : H[a]? = some (vp_cell c1 (n1, .inr (.inr (.inr (.inr g)))))) (ht0 : tys[t0]? = some (c0, .object E0)) (ht1 : tys[t1]? = some (c1, .object E1))
    {sp dp n : Int32} (h1 : ¬ sp < 0) (h2 : ¬ dp < 0) (h3 : ¬ n < 0) (h4 : sp.toNatClampNeg + n.toNatClampNeg ≤ n0) (h5 : dp.toNatClampNeg + n.toNatClampNeg ≤ n1) (hel : ∀ i : Nat, i < n.toNatClampNeg → ∀ y : Nat, f (sp.toNatClampNeg + i) = some y → va_Any E1 s H y)
    (hframes : 1 ≤ R.frames) (hlocals : (rest.map fun v => v.category).sum + (nativeFrameWords "java/lang/System" "arraycopy" 5 + 11) ≤ R.locals) (hdg : decode cc pc = .ok (.invokestatic index, 3))
    (kk : ∀ (H1 : Heap) (locs1 : List Loc), H1[a]? = some (vp_cell c1 (n1, .inr (.inr (.inr (.inr (va_cpy f g sp.toNatClampNeg dp.toNatClampNeg n.toNatClampNeg)))))) → H1.size = H.size → (∀ q, q ≠ a → H1[q]? = H[q]?) → (∀ z ∈ locs1, z ∈ locs ∨ z.base = a) → W p l e R s m args below meth c H1 locs1 cells slots Q (F0 m (pc + 3) ls rest)) : W p l e R s m args below meth c H locs cells slots Q (F0 m pc ls (.int n :: .int dp :: .ref a :: .int sp :: .ref a0 :: rest)) := by
  have nn : ∀ z : Int32, ¬ z < 0 → z.toInt = (z.toNatClampNeg : Int) := by
    intro z hz
    have hz0 : (0 : Int) ≤ z.toInt := by
      have := Int32.not_lt.mp hz
      simpa using Int32.le_iff_toInt_le.mp this
    show z.toInt = ((z.toInt.toNat : Nat) : Int)
    omega
  intro T hT X
  have hc0 : H[a0]? = some (vp_cell c0 (n0, .inr (.inr (.inr (.inr f))))) := ha0
  have hc1 : H[a]? = some (vp_cell c1 (n1, .inr (.inr (.inr (.inr g))))) := ha1
  obtain ⟨-, k0, hk0, cm0, hkk0⟩ := (hK.2 t0 _ ht0).1 n0 (fun j => va_rf (f j))
  obtain ⟨-, k1, hk1, cm1, hkk1⟩ := (hK.2 t1 _ ht1).1 n1 (fun j => va_rf (g j))
  obtain ⟨vm', X', step⟩ := X.arraycopy hexec hown hlink hnat hstat hini (src := a0) (dst := a) (cs := vp_cell c0 (n0, .inr (.inr (.inr (.inr f))))) (cd := vp_cell c1 (n1, .inr (.inr (.inr (.inr g))))) (srcPos := sp) (destPos := dp) (n := n) (by rw [hT]; exact hc0) (by rw [hT]; exact hc1)
    (fun _ h => by cases h) (fun _ h => by cases h) (fun h => by cases h) (fun h => by cases h) hk0 hk1 hkk0 hkk1 rfl h1 h2 h3
    (by rw [nn sp h1, nn n h3]; show ¬ _ > ((arrV c0 n0 (fun j => va_rf (f j))).slots.size : Int); rw [arrV_size]; omega)
    (by rw [nn dp h2, nn n h3]; show ¬ _ > ((arrV c1 n1 (fun j => va_rf (g j))).slots.size : Int); rw [arrV_size]; omega)
    (fun vm₁ hal i hi => by
      have e : (vp_cell c0 (n0, .inr (.inr (.inr (.inr f))))).slots.getD (sp.toNatClampNeg + i) .null = va_rf (f (sp.toNatClampNeg + i)) := by
        show (arrV c0 n0 (fun j => va_rf (f j))).slots.getD _ _ = _
        rw [Array.getD_eq_getD_getElem?, arrV_read _ _ (by omega)]
        rfl
      rw [e]
      cases hy : f (sp.toNatClampNeg + i) with
      | none => exact ⟨rfl, trivial⟩
      | some y =>
        obtain ⟨cellV, g1, g2, ⟨kC, hkC⟩, hasg⟩ := hel i hi y hy
        obtain ⟨kA, comp, r1, r2, r3, -⟩ := (hK.2 t1 _ ht1).2
        cases hk1.symm.trans r1
        cases hkk1.symm.trans r2
        obtain ⟨kE, hkE, -⟩ := Vm.findClass_spec r3
        obtain ⟨kC', hkC', -⟩ := hal.2.2 _ _ hkC
        obtain ⟨kE', hkE', -⟩ := hal.2.2 _ _ hkE
        refine ⟨rfl, cellV, (show T.heap[y]? = some cellV by rw [hT]; exact g1), (fun q h => by rw [h] at g2; cases g2), ⟨kC', hkC'⟩, ?_, ?_⟩
        · exact ⟨kE', hkE'⟩
        · show vm₁.assignable _ _ = true
          rw [hal.assignable]
          exact hasg _ r3)
    (g := F0 m pc ls (.int n :: .int dp :: .ref a :: .int sp :: .ref a0 :: rest)) rfl (by rw [hml]) (rest := rest) rfl (by rw [hb]; exact hdg) hframes (by show 2 * 0 + _ + _ ≤ _; omega)
  have e1 : copied (vp_cell c0 (n0, .inr (.inr (.inr (.inr f))))) (vp_cell c1 (n1, .inr (.inr (.inr (.inr g))))) sp dp n = vp_cell c1 (n1, .inr (.inr (.inr (.inr (va_cpy f g sp.toNatClampNeg dp.toNatClampNeg n.toNatClampNeg))))) := by
    rw [vp_cell_q, vp_cell_q, vp_cell_q]
    exact va_copied (fun z => va_rf z) c0 c1 f g h4
  rw [e1] at X' step
  have hl : a < H.size := (Array.getElem?_eq_some_iff.mp hc1).1
  have hheap : ((T.setVm vm').setCell a (vp_cell c1 (n1, .inr (.inr (.inr (.inr (va_cpy f g sp.toNatClampNeg dp.toNatClampNeg n.toNatClampNeg))))))).heap = H.setIfInBounds a (vp_cell c1 (n1, .inr (.inr (.inr (.inr (va_cpy f g sp.toNatClampNeg dp.toNatClampNeg n.toNatClampNeg)))))) := by rw [← hT]; rfl
  have oq : ∀ q : Nat, q ≠ a → (H.setIfInBounds a (vp_cell c1 (n1, .inr (.inr (.inr (.inr (va_cpy f g sp.toNatClampNeg dp.toNatClampNeg n.toNatClampNeg)))))))[q]? = H[q]? := fun q hq => by simp [Array.getElem?_setIfInBounds, Ne.symm hq]
  obtain ⟨t, a1, b1⟩ := kk _ _ (show (H.setIfInBounds a _)[a]? = some _ by simp [Array.getElem?_setIfInBounds, hl]) (by simp) oq (fun q hq => by
      rcases List.mem_append.mp hq with h | h
      · exact Or.inl h
      · obtain ⟨z, -, hz⟩ := List.mem_map.mp h
        rw [← hz]
        exact Or.inr rfl) _ hheap X'
  exact ⟨t, step t a1, b1⟩

theorem zw_clone {cc : ByteArray} (hexec : p.tables.exec = Jvm.exec) (hb : c.code = cc) (hml : c.maxLocals = ls.size) {own ad : String} {index : Nat} (hown : s.vm.findClass own = some m.cls)
    (hlink : (Cond.methodLink own index ⟨ad, "clone", "()Ljava/lang/Object;"⟩).before args s = true) (hsame : (Cond.sameMethod ad "java/lang/Object" "clone" "()Ljava/lang/Object;").before args s = true)
    (hnat : (Cond.native ⟨"java/lang/Object", "clone", "()Ljava/lang/Object;"⟩).before args s = true) (hinst : (Cond.instanceMethod ⟨"java/lang/Object", "clone", "()Ljava/lang/Object;"⟩).before args s = true)
    (hsel : (Cond.selects ad ⟨ad, "clone", "()Ljava/lang/Object;"⟩ ⟨"java/lang/Object", "clone", "()Ljava/lang/Object;"⟩).before args s = true) (hcl : va_Nw (.castable ad "java/lang/Cloneable") s)
    (hK : va_K D cl tys s) (t0 : Nat) {cA : ClassId} {x : vp_A} {ty : FieldType} (ha : H[a]? = some (vp_cell cA x)) (ht : tys[t0]? = some (cA, ty))
    (hnm : s.vm.findClass ad = some cA) (hfit : ∀ (i : Nat) (v : Value), (vp_cell cA x).slots[i]? = some v → fits ty v = true)
    (hframes : 1 ≤ R.frames) (hlocals : (rest.map fun v => v.category).sum + 14 ≤ R.locals) (hcells : cells + 1 ≤ R.cells) (hslots : slots + x.1 ≤ R.slots) (hdg : decode cc pc = .ok (.invokevirtual index, 3))
    (kk : ∀ (H1 : Heap), H1[H.size]? = some (vp_cell cA x) → H1.size = H.size + 1 → (∀ q, q < H.size → H1[q]? = H[q]?) →
      W p l e R s m args below meth c H1 locs (cells + 1) (slots + x.1) Q (F0 m (pc + 3) ls (.ref H.size :: rest))) : W p l e R s m args below meth c H locs cells slots Q (F0 m pc ls (.ref a :: rest)) := by
  have hsz : (vp_cell cA x).slots.size = x.1 := by
    obtain ⟨n, f | f | f | f | f⟩ := x <;> exact arrV_size _ _ _
  have hvm0 : (vp_cell cA x).vm = .none := by
    obtain ⟨n, f | f | f | f | f⟩ := x <;> rfl
  have hcl0 : (vp_cell cA x).cls = cA := by
    obtain ⟨n, f | f | f | f | f⟩ := x <;> rfl
  have hcellE : ({ cls := (vp_cell cA x).cls, slots := (vp_cell cA x).slots } : Cell) = vp_cell cA x := by
    obtain ⟨n, f | f | f | f | f⟩ := x <;> rfl
  obtain ⟨c0, t0', f1, f2, f3⟩ := Cond.castable_spec (va_Nw.use (A := args) rfl hcl)
  cases hnm.symm.trans f1
  intro T hT X
  have hcellT : T.heap[a]? = some (vp_cell cA x) := by rw [hT]; exact ha
  obtain ⟨-, kA, hkA, comp, hkind⟩ := State.isArrayOf_alike X.warmed.alike ((hK.2 t0 _ ht).1 0 (fun _ => .null))
  obtain ⟨-, kS, hkS, compS, hkindS⟩ := (hK.2 t0 _ ht).1 0 (fun _ => .null)
  obtain ⟨vm', X', st⟩ := X.cloneArray hexec hown hlink hsame hnat hinst hsel (a := a) (cell := vp_cell cA x) hcellT (fun k h => by rw [hvm0] at h; cases h) (by rw [hvm0]; exact fun h => by cases h) (by rw [hcl0]; exact hnm) f2 (by rw [hcl0]; exact f3)
    (fun i v hv => by
      rw [hcl0]
      have hk' : T.vm.classes[cA]? = some kA := hkA
      simpa [State.fitsSlot, State.slotType?, hk', hkind] using hfit i v hv)
    (g := F0 m pc ls (.ref a :: rest)) rfl (by rw [hml]) rfl (by rw [hb]; exact hdg) hframes (by show 2 * 0 + _ + 14 ≤ _; omega) hcells (by rw [hsz]; exact hslots) (hloader := by rw [hcl0]; exact Vm.clonesLoader_of_array hkS hkindS)
  rw [hcellE, hsz] at X'
  generalize hH1 : H.push (vp_cell cA x) = H1
  have z1 : H1.size = H.size + 1 := by rw [← hH1, Array.size_push]
  have e1 : H1[H.size]? = some (vp_cell cA x) := by rw [← hH1, Array.getElem?_push_size]
  have o1 : ∀ q : Nat, q < H.size → H1[q]? = H[q]? := fun q hq => by rw [← hH1, Array.getElem?_push, if_neg (Nat.ne_of_lt hq)]
  obtain ⟨t, b1, b2⟩ := kk H1 e1 z1 o1 ((T.setVm vm').pushCell (vp_cell cA x)) (by rw [← hH1, ← hT]; rfl) X'
  refine ⟨t, st t ?_, b2⟩
  rw [hcellE, hT]
  exact b1

theorem zw_make0 {cc : ByteArray} {pc : Nat} (hexec : p.tables.exec = Jvm.exec) (hb : c.code = cc) (hl : l.stackTraces = false) {own cls : String} {names : List String} {ik ic ci : Nat} {A : Nat → Prop} {T0 : u_T}
    (hown : s.vm.findClass own = some m.cls) (hcls : Bundle.fit cls = true) (hnames : ∀ n ∈ names, Bundle.fit n = true)
    (hk : (Cond.classLink own ik cls).before args s = true) (hini : (Cond.initialized cls).before args s = true) (hat : ∀ w ∈ vx_at0 own ic cls names, w.before args s = true)
    (hgood : ∀ w ∈ Cond.classLink own ik cls :: Cond.initialized cls :: vx_at0 own ic cls names, vx_ot w = true)
    (hU : vx_Zq Bundle.tN "UNASSIGNED_STACK" Bundle.steD A s s.heap) (hN : vx_Zq Bundle.tN "SUPPRESSED_SENTINEL" Bundle.listD A s s.heap) (hS : va_S A s.heap H locs) (hsize : ls.size = c.maxLocals)
    (d0 : decode cc pc = .ok (.new ik, 3)) (d3 : decode cc (pc + 3) = .ok (.dup, 1)) (d4 : decode cc (pc + 4) = .ok (.invokespecial ic, 3))
    (hK : va_K D cl tys s) (hc : cl[ci]? = some (cls, T0, 0))
    (hRframes : names.length + 3 < R.frames) (hRlocals : (rest.map fun v => v.category).sum + (13 * (names.length + 1) + 42) ≤ R.locals) (hRcells : cells + 1 ≤ R.cells) (hRslots : slots + 6 ≤ R.slots)
    (kk : ∀ (H1 : Heap), va_at D cl (H.size, .inr (ci, [])) H1 → H1.size = H.size + 1 → (∀ q, q < H.size → H1[q]? = H[q]?) → W p l e R s m args below meth c H1 locs (cells + 1) (slots + 6) Q (F0 m (pc + 7) ls (.ref H.size :: rest))) :
    W p l e R s m args below meth c H locs cells slots Q (F0 m pc ls rest) := by
  intro T hT X
  subst hT
  have htr : e.platform.stackTraces = false := (show e.platform.stackTraces = l.stackTraces by rw [X.admits.platform]).trans hl
  have Y := vx_rebase X (R' := { frames := R.frames, locals := R.locals, cells := 1, slots := 6 }) (Nat.le_refl _) (Nat.le_refl _) hRcells hRslots
  obtain ⟨s', hA'⟩ : ∃ z, z = (T.setVm s.vm).setFrames (.invoking m args :: below) := ⟨_, rfl⟩
  rw [← hA'] at Y
  have hvm : s'.vm = s.vm := by rw [hA']; rfl
  have hhp : s'.heap = T.heap := by rw [hA']; rfl
  have hW0 : s.WarmedH s'.vm := by rw [hvm]; exact State.WarmedH.refl s
  have hat' : ∀ w ∈ vx_at0 own ic cls names, w.before args s' = true := fun w hw => vx_ot_at hW0 hvm.symm (hgood w (List.mem_cons_of_mem _ (List.mem_cons_of_mem _ hw))) (hat w hw)
  have hk' : (Cond.classLink own ik cls).before args s' = true := vx_ot_at hW0 hvm.symm (hgood _ List.mem_cons_self) hk
  have hini' : (Cond.initialized cls).before args s' = true := vx_ot_at hW0 hvm.symm (hgood _ (List.mem_cons_of_mem _ List.mem_cons_self)) hini
  have hU' : vx_Zq Bundle.tN "UNASSIGNED_STACK" Bundle.steD A s' s'.heap := by rw [hhp]; exact vx_Zq.moved hW0.alike (hU.kept hS.2.1)
  have hN' : vx_Zq Bundle.tN "SUPPRESSED_SENTINEL" Bundle.listD A s' s'.heap := by rw [hhp]; exact vx_Zq.moved hW0.alike (hN.kept hS.2.1)
  have h : ∀ w ∈ Bundle.ownAtoms0 own ic cls names, w.before args s' = true := vx_own hat' (vx_isRefq hU'.1) (vx_isRefq hN'.1) hU'.2.word hN'.2.word
  have hown' : s'.vm.findClass own = some m.cls := by rw [hvm]; exact hown
  have hins : (Cond.instantiable cls 6).before args s' = true := h _ (by simp [Bundle.ownAtoms0])
  obtain ⟨vm₁, cX, kX, hfX, hkX, -, -, X₁, st1⟩ := Y.newCold hexec (own := own) (C := cls) (index := ik) (n := 6) hown' hk' hins hini'
    (g := F0 m pc ls rest) rfl (by rw [hb]; exact d0) (Nat.le_refl _) (Nat.le_refl _)
  generalize hT1 : (T.setVm vm₁).pushCell { cls := cX, slots := kX.instanceTypes.map defaultValue, vm := .none } = T1 at X₁ st1
  have hcat : (Value.ref T.heap.size).category = 1 := rfl
  have hcellA : T1.heap[T.heap.size]? = some (freshCell cX kX) := by rw [← hT1]; exact State.heap_pushCell_size _ _
  have d3' : decode c.code (pc + 3) = .ok (.dup, 1) := by rw [hb]; exact d3
  obtain ⟨V, ce, L, Z, hL, hlt, hcl9, hvm9, st⟩ := vx_ctorMade0 X₁ hexec htr (own := own) (cls := cls) (names := names) (ic := ic) hown' hcls hnames h (fun x hx => nomatch hx) hfX hkX hcellA (by rw [hhp]; exact Nat.le_refl _)
    (g := { method := m, pc := pc + 4, locals := ls, stack := .ref T.heap.size :: .ref T.heap.size :: rest, locked := none }) rfl hsize (rest := rest) rfl
    (by rw [hb]; exact d4) hRframes (by simp only [List.map_cons, List.sum_cons, hcat]; omega)
  have Z0 := Stand.forget (locs := []) Z (fun y hy => by rw [hL y hy, hhp]; exact Nat.le_refl _)
  obtain ⟨f1, f2⟩ := vx_frame Z0.same
  rw [hhp] at f1 f2
  have hcid : ce.cls = D.1 ci := by
    rw [hcl9]
    have h1 := (hK.1 ci _ hc).2.1
    rw [hvm] at hfX
    exact Option.some.inj (hfX.symm.trans h1)
  have hh : (V.setCell T.heap.size ce).heap[T.heap.size]? = some ce := heapAt_setCell_self (s := V) ce hlt
  subst hA'
  have X5 := vx_back9 X Y Z0
  have X6 : Stand p l e R s m args below meth c (V.setCell T.heap.size ce) locs (cells + 1) (slots + 6) := { X5 with same := X5.same.mono (by omega) (by omega) }
  have hz9 : (V.setCell T.heap.size ce).heap.size ≤ T.heap.size + 1 := by
    have h := Z0.heapSize
    rw [hhp] at h
    exact h
  have hz8 : T.heap.size < (V.setCell T.heap.size ce).heap.size := (Array.getElem?_eq_some_iff.mp hh).1
  obtain ⟨t, a1, b1⟩ := kk (V.setCell T.heap.size ce).heap ⟨_, hc, ce, hh, hcid, hvm9, fun k hk => absurd hk (Nat.not_lt_zero k)⟩ (by omega) (fun q h1 => f2 q h1 (fun z hz => nomatch hz)) _ rfl X6
  refine ⟨t, st1 _ ?_, b1⟩
  show Steps p.tables e below (T1.setTop { method := m, pc := pc + 3, locals := ls, stack := .ref T.heap.size :: rest, locked := none }) _
  jvm_step X₁.here [X₁.here.top, hexec, d3', Value.category]
  exact st _ a1
end zW

section zRows2
variable {G : zG} {y : MethodName} {cc : ByteArray} {nL : Nat} {ret : Option FieldType} {hh : List (Nat × Nat × Nat × Nat)} {d pc : Nat} {ls : List (Nat × Value)} {st : List Value} {σ : zT} {Q : zO → zT → Prop}
/-- loads and stores of references that may be null -/
theorem zr_aload_nR {q : Fin 4} {i : Nat} {x : Option Nat} (hd : decode cc pc = .ok (.aload_n q, 1)) (hi : (q : Nat) = i) (hg : zget ls i = some (va_rf x)) (k : zR G y cc nL ret hh d (pc + 1) ls (va_rf x :: st) σ Q) : zR G y cc nL ret hh d pc ls st σ Q := by
  cases x with
  | none => exact zR.lift (fun p l e R s m args below meth c H locs cells slots arr Q0 M hl hR k => lv_aload_nN M.x M.b hd hi (zget_at hl hg) k) k
  | some a => exact zr_aload_n hd hi hg k
theorem zr_aloadR {i : Nat} {x : Option Nat} (hd : decode cc pc = .ok (.aload i, 2)) (hg : zget ls i = some (va_rf x)) (k : zR G y cc nL ret hh d (pc + 2) ls (va_rf x :: st) σ Q) : zR G y cc nL ret hh d pc ls st σ Q := by
  cases x with
  | none => exact zR.lift (fun p l e R s m args below meth c H locs cells slots arr Q0 M hl hR k => lv_aloadN M.x M.b hd (zget_at hl hg) k) k
  | some a => exact zr_aload hd hg k
theorem zr_astore_nR {i : Nat} {q : Fin 4} {x : Option Nat} {ls2 : List (Nat × Value)} (hd : decode cc pc = .ok (.astore_n q, 1)) (hi : (q : Nat) = i) (hn : i < nL) (hl : zset ls i (va_rf x) = ls2) (k : zR G y cc nL ret hh d (pc + 1) ls2 st σ Q) : zR G y cc nL ret hh d pc ls (va_rf x :: st) σ Q := by
  cases x with
  | none =>
    obtain ⟨o, σ', q0, h1, h2, h3⟩ := k
    subst hl
    exact ⟨o, σ', q0, h1, h2, fun p l e R s m args below meth c H locs cells slots arr M N => lv_astore_nN M.x M.b hd hi N.hl hn rfl (fun arr2 hl2 => h3 p l e R s m args below meth c H locs cells slots arr2 M (N.re (zset_has hl2)))⟩
  | some a => exact zr_astore_n hd hi hn hl k
theorem zr_astoreR {i : Nat} {x : Option Nat} {ls2 : List (Nat × Value)} (hd : decode cc pc = .ok (.astore i, 2)) (hn : i < nL) (hl : zset ls i (va_rf x) = ls2) (k : zR G y cc nL ret hh d (pc + 2) ls2 st σ Q) : zR G y cc nL ret hh d pc ls (va_rf x :: st) σ Q := by
  cases x with
  | none =>
    obtain ⟨o, σ', q0, h1, h2, h3⟩ := k
    subst hl
    exact ⟨o, σ', q0, h1, h2, fun p l e R s m args below meth c H locs cells slots arr M N => lv_astoreN M.x M.b hd N.hl hn rfl (fun arr2 hl2 => h3 p l e R s m args below meth c H locs cells slots arr2 M (N.re (zset_has hl2)))⟩
  | some a => exact zr_astore hd hn hl k
theorem zr_acmp_eq {rx ry : Option Nat} {off : Int} {tgt : Nat} (hd : decode cc pc = .ok (.if_acmp .eq off, 3)) (ht : (pc : Int) + off = (tgt : Int)) (kt : rx = ry → zR G y cc nL ret hh d tgt ls st σ Q) (kf : ¬ rx = ry → zR G y cc nL ret hh d (pc + 3) ls st σ Q) : zR G y cc nL ret hh d pc ls (va_rf ry :: va_rf rx :: st) σ Q := by
  by_cases hP : rx = ry
  · exact zR.lift (fun p l e R s m args below meth c H locs cells slots arr Q0 M hl hR k => lv_acmp_eq M.x M.b hd ht (fun _ => k) (fun h => absurd hP h)) (kt hP)
  · exact zR.lift (fun p l e R s m args below meth c H locs cells slots arr Q0 M hl hR k => lv_acmp_eq M.x M.b hd ht (fun h => absurd h hP) (fun _ => k)) (kf hP)
theorem zr_acmp_ne {rx ry : Option Nat} {off : Int} {tgt : Nat} (hd : decode cc pc = .ok (.if_acmp .ne off, 3)) (ht : (pc : Int) + off = (tgt : Int)) (kt : ¬ rx = ry → zR G y cc nL ret hh d tgt ls st σ Q) (kf : rx = ry → zR G y cc nL ret hh d (pc + 3) ls st σ Q) : zR G y cc nL ret hh d pc ls (va_rf ry :: va_rf rx :: st) σ Q := by
  by_cases hP : rx = ry
  · exact zR.lift (fun p l e R s m args below meth c H locs cells slots arr Q0 M hl hR k => lv_acmp_ne M.x M.b hd ht (fun h => absurd hP h) (fun _ => k)) (kf hP)
  · exact zR.lift (fun p l e R s m args below meth c H locs cells slots arr Q0 M hl hR k => lv_acmp_ne M.x M.b hd ht (fun _ => k) (fun h => absurd h hP)) (kt hP)
theorem zr_ifnonnullR {x : Option Nat} {off : Int} {tgt : Nat} (hd : decode cc pc = .ok (.ifnonnull off, 3)) (ht : (pc : Int) + off = (tgt : Int)) (kt : ∀ a, x = some a → zR G y cc nL ret hh d tgt ls st σ Q) (kf : x = none → zR G y cc nL ret hh d (pc + 3) ls st σ Q) : zR G y cc nL ret hh d pc ls (va_rf x :: st) σ Q := by
  cases x with
  | none => exact zr_ifnonnullN hd (kf rfl)
  | some a => exact zr_ifnonnull hd ht (kt a rfl)
theorem zr_ifnullR {x : Option Nat} {off : Int} {tgt : Nat} (hd : decode cc pc = .ok (.ifnull off, 3)) (ht : (pc : Int) + off = (tgt : Int)) (kt : x = none → zR G y cc nL ret hh d tgt ls st σ Q) (kf : ∀ a, x = some a → zR G y cc nL ret hh d (pc + 3) ls st σ Q) : zR G y cc nL ret hh d pc ls (va_rf x :: st) σ Q := by
  cases x with
  | none => exact zr_ifnullN hd ht (kt rfl)
  | some a => exact zr_ifnull hd (kf a rfl)
/-- booleans as ints -/
def bI (b : Bool) : Int32 := match b with
  | true => 1
  | false => 0
theorem bI_if (b : Bool) : bI b = if b = true then 1 else 0 := by cases b <;> rfl
theorem bI_dec (P : Prop) [Decidable P] : bI (decide P) = if P then 1 else 0 := by
  by_cases h : P <;> simp [h, bI]
theorem zr_ifeqB {b : Bool} {off : Int} {tgt : Nat} (hd : decode cc pc = .ok (.ifCond .eq off, 3)) (ht : (pc : Int) + off = (tgt : Int)) (kt : b = false → zR G y cc nL ret hh d tgt ls st σ Q) (kf : b = true → zR G y cc nL ret hh d (pc + 3) ls st σ Q) : zR G y cc nL ret hh d pc ls (.int (bI b) :: st) σ Q := by
  cases b with
  | true => exact zr_if_eq hd ht (fun h => absurd h (by decide)) (fun _ => kf rfl)
  | false => exact zr_if_eq hd ht (fun _ => kt rfl) (fun h => absurd rfl h)
theorem zr_ifneB {b : Bool} {off : Int} {tgt : Nat} (hd : decode cc pc = .ok (.ifCond .ne off, 3)) (ht : (pc : Int) + off = (tgt : Int)) (kt : b = true → zR G y cc nL ret hh d tgt ls st σ Q) (kf : b = false → zR G y cc nL ret hh d (pc + 3) ls st σ Q) : zR G y cc nL ret hh d pc ls (.int (bI b) :: st) σ Q := by
  cases b with
  | true => exact zr_if_ne hd ht (fun _ => kt rfl) (fun h => absurd h (by decide))
  | false => exact zr_if_ne hd ht (fun h => absurd rfl h) (fun _ => kf rfl)
/-- switches -/
theorem zr_lookup {dflt : Int} {ps : Array (Int × Int)} {len : Nat} {x : Int32} {off : Int} {tgt : Nat} (hd : decode cc pc = .ok (.lookupswitch dflt ps, len)) (hp : (ps.toList.zip (ps.toList.drop 1)).all (fun (a, next) => a.1 < next.1) = true) (ho : Op.lookupswitch.offset ps.toList dflt x.toInt = off) (ht : (pc : Int) + off = (tgt : Int)) (k : zR G y cc nL ret hh d tgt ls st σ Q) : zR G y cc nL ret hh d pc ls (.int x :: st) σ Q :=
  zR.lift (fun p l e R s m args below meth c H locs cells slots arr Q0 M hl hR k => lv_lookup M.x M.b hd hp ho ht k) k
theorem zr_tableOut {dflt lo hi : Int} {offs : Array Int} {len : Nat} {x : Int32} {tgt : Nat} (hd : decode cc pc = .ok (.tableswitch dflt lo hi offs, len)) (h : x.toInt < lo ∨ hi < x.toInt) (ht : (pc : Int) + dflt = (tgt : Int)) (k : zR G y cc nL ret hh d tgt ls st σ Q) : zR G y cc nL ret hh d pc ls (.int x :: st) σ Q :=
  zR.lift (fun p l e R s m args below meth c H locs cells slots arr Q0 M hl hR k => lv_tableOut M.x M.b hd h ht k) k
theorem zr_tableIn {dflt lo hi : Int} {offs : Array Int} {len : Nat} {x : Int32} {off : Int} {tgt : Nat} (hd : decode cc pc = .ok (.tableswitch dflt lo hi offs, len)) (h1 : ¬ x.toInt < lo) (h2 : ¬ hi < x.toInt) (ho : offs[(x.toInt - lo).toNat]? = some off) (ht : (pc : Int) + off = (tgt : Int)) (k : zR G y cc nL ret hh d tgt ls st σ Q) : zR G y cc nL ret hh d pc ls (.int x :: st) σ Q :=
  zR.lift (fun p l e R s m args below meth c H locs cells slots arr Q0 M hl hR k => lv_tableIn M.x M.b hd h1 h2 ho ht k) k
theorem zr_lcmp {x z : Int64} (hd : decode cc pc = .ok (.lcmp, 1)) (k : zR G y cc nL ret hh d (pc + 1) ls (.int (lg_cmp x z) :: st) σ Q) : zR G y cc nL ret hh d pc ls (.long z :: .long x :: st) σ Q :=
  zR.lift (fun p l e R s m args below meth c H locs cells slots arr Q0 M hl hR k => W.lcmp M.x M.b hd k) k
theorem zr_i2f {x : Int32} (hd : decode cc pc = .ok (.i2f, 1)) (k : zR G y cc nL ret hh d (pc + 1) ls (.float (FP.i2f x) :: st) σ Q) : zR G y cc nL ret hh d pc ls (.int x :: st) σ Q :=
  zR.lift (fun p l e R s m args below meth c H locs cells slots arr Q0 M hl hR k => lv_i2f M.x M.b hd k) k
theorem zr_fdiv {x z : UInt32} (hd : decode cc pc = .ok (.fdiv, 1)) (hn : vf_n32 (FP.fdiv x z)) (k : zR G y cc nL ret hh d (pc + 1) ls (.float (FP.fdiv x z) :: st) σ Q) : zR G y cc nL ret hh d pc ls (.float z :: .float x :: st) σ Q :=
  zR.lift (fun p l e R s m args below meth c H locs cells slots arr Q0 M hl hR k => lv_fdiv M.x M.b hd hn k) k
theorem zr_i2d {x : Int32} (hd : decode cc pc = .ok (.i2d, 1)) (k : zR G y cc nL ret hh d (pc + 1) ls (.double (FP.i2d x) :: st) σ Q) : zR G y cc nL ret hh d pc ls (.int x :: st) σ Q :=
  zR.lift (fun p l e R s m args below meth c H locs cells slots arr Q0 M hl hR k => lv_i2d M.x M.b hd k) k
theorem zr_ddiv {x z : UInt64} (hd : decode cc pc = .ok (.ddiv, 1)) (hn : vf_n64 (FP.ddiv x z)) (k : zR G y cc nL ret hh d (pc + 1) ls (.double (FP.ddiv x z) :: st) σ Q) : zR G y cc nL ret hh d pc ls (.double z :: .double x :: st) σ Q :=
  zR.lift (fun p l e R s m args below meth c H locs cells slots arr Q0 M hl hR k => lv_ddiv M.x M.b hd hn k) k
theorem zr_f2d {x : UInt32} (hd : decode cc pc = .ok (.f2d, 1)) (hn : vf_n64 (FP.f2d x)) (k : zR G y cc nL ret hh d (pc + 1) ls (.double (FP.f2d x) :: st) σ Q) : zR G y cc nL ret hh d pc ls (.float x :: st) σ Q :=
  zR.lift (fun p l e R s m args below meth c H locs cells slots arr Q0 M hl hR k => lv_f2d M.x M.b hd hn k) k
theorem zr_dcmp {x z : UInt64} {op : CmpOp} (hd : decode cc pc = .ok (.dcmp op, 1)) (k : zR G y cc nL ret hh d (pc + 1) ls (.int (Op.cmpValue (FP.dcmp x z) op) :: st) σ Q) : zR G y cc nL ret hh d pc ls (.double z :: .double x :: st) σ Q :=
  zR.lift (fun p l e R s m args below meth c H locs cells slots arr Q0 M hl hR k => lv_dcmp M.x M.b hd k) k
theorem zr_fcmp {x z : UInt32} {op : CmpOp} (hd : decode cc pc = .ok (.fcmp op, 1)) (k : zR G y cc nL ret hh d (pc + 1) ls (.int (Op.cmpValue (FP.fcmp x z) op) :: st) σ Q) : zR G y cc nL ret hh d pc ls (.float z :: .float x :: st) σ Q :=
  zR.lift (fun p l e R s m args below meth c H locs cells slots arr Q0 M hl hR k => lv_fcmp M.x M.b hd k) k
theorem zr_fconst0 (hd : decode cc pc = .ok (.fconst 0, 1)) (k : zR G y cc nL ret hh d (pc + 1) ls (.float FP.fconst0 :: st) σ Q) : zR G y cc nL ret hh d pc ls st σ Q :=
  zR.lift (fun p l e R s m args below meth c H locs cells slots arr Q0 M hl hR k => lv_fconst0 M.x M.b hd k) k
theorem zr_dconst0 (hd : decode cc pc = .ok (.dconst 0, 1)) (k : zR G y cc nL ret hh d (pc + 1) ls (.double FP.dconst0 :: st) σ Q) : zR G y cc nL ret hh d pc ls st σ Q :=
  zR.lift (fun p l e R s m args below meth c H locs cells slots arr Q0 M hl hR k => lv_dconst0 M.x M.b hd k) k
/-- the class object of an object or of an array of Objects -/
theorem zr_getC {C : String} {idx mi a ci : Nat} {fs : List Value} {T : u_T} {N : Nat} (hd1 : 1 ≤ d) (ha : zAt G σ a (.inr (ci, fs))) (hc : zcl[ci]? = some (C, T, N)) (hl : Cond.methodLink y.cls idx ⟨"java/lang/Object", "getClass", "()Ljava/lang/Class;"⟩ ∈ lw_all) (hdc : Cond.declares ⟨"java/lang/Object", "getClass", "()Ljava/lang/Class;"⟩ ∈ lw_tbl) (hs : Cond.selects C ⟨"java/lang/Object", "getClass", "()Ljava/lang/Class;"⟩ ⟨"java/lang/Object", "getClass", "()Ljava/lang/Class;"⟩ ∈ lw_all) (hi : Cond.instanceMethod ⟨"java/lang/Object", "getClass", "()Ljava/lang/Class;"⟩ ∈ lw_all) (hna : Cond.native ⟨"java/lang/Object", "getClass", "()Ljava/lang/Class;"⟩ ∈ lw_all) (hM : ∀ U, zSt G U → va_Mi C mi U) (hw : (st.map fun v => v.category).sum ≤ 8) (hd : decode cc pc = .ok (.invokevirtual idx, 3)) (k : zR G y cc nL ret hh d (pc + 3) ls (.ref mi :: st) σ Q) : zR G y cc nL ret hh d pc ls (.ref a :: st) σ Q :=
  zR.lift (fun p l e R s m args below meth c H locs cells slots arr Q0 M hl9 hR k => by
    have f := M.fr
    have g := M.lo
    exact va_getC M.x M.b (M.ml.trans hl9.1.symm) M.own (M.ws _ hl) (va_Nw.use rfl (M.K.2.1 _ hdc rfl)) (M.ws _ hs) (M.ws _ hi) (M.ws _ hna) (hM s M.K.2.2.2.1) (va_recv M.K.1 (hR.P ha) hc (q0 := 0) rfl) (by omega) (by omega) hd k) k
theorem zr_getCO {idx mi a n : Nat} {f : Nat → Option Nat} (hd1 : 1 ≤ d) (ha : zAt G σ a (aO G n f)) (hl : Cond.methodLink y.cls idx ⟨"java/lang/Object", "getClass", "()Ljava/lang/Class;"⟩ ∈ lw_all) (hdc : Cond.declares ⟨"java/lang/Object", "getClass", "()Ljava/lang/Class;"⟩ ∈ lw_tbl) (hs : Cond.selects "[Ljava/lang/Object;" ⟨"java/lang/Object", "getClass", "()Ljava/lang/Class;"⟩ ⟨"java/lang/Object", "getClass", "()Ljava/lang/Class;"⟩ ∈ lw_all) (hi : Cond.instanceMethod ⟨"java/lang/Object", "getClass", "()Ljava/lang/Class;"⟩ ∈ lw_all) (hna : Cond.native ⟨"java/lang/Object", "getClass", "()Ljava/lang/Class;"⟩ ∈ lw_all) (hM : ∀ U, zSt G U → va_Mi "[Ljava/lang/Object;" mi U) (hw : (st.map fun v => v.category).sum ≤ 8) (hd : decode cc pc = .ok (.invokevirtual idx, 3)) (k : zR G y cc nL ret hh d (pc + 3) ls (.ref mi :: st) σ Q) : zR G y cc nL ret hh d pc ls (.ref a :: st) σ Q :=
  zR.lift (fun p l e R s m args below meth c H locs cells slots arr Q0 M hl9 hR k => by
    have f := M.fr
    have g := M.lo
    exact va_getC M.x M.b (M.ml.trans hl9.1.symm) M.own (M.ws _ hl) (va_Nw.use rfl (M.K.2.1 _ hdc rfl)) (M.ws _ hs) (M.ws _ hi) (M.ws _ hna) (hM s M.K.2.2.2.1) ⟨_, hR.at ha, rfl, va_nmO (M.K.1.2 4 _ (zty_at G 4 (Nat.le_of_ble_eq_true rfl))).2 rfl⟩ (by omega) (by omega) hd k) k
/-- System.arraycopy between arrays of Objects, of elements that are objects of known classes (castable to Object) -/
theorem zr_copyO {idx a0 a n0 n1 : Nat} {f g f2 : Nat → Option Nat} {sp dp n : Int32} (hd1 : 1 ≤ d) (hl : Cond.methodLink y.cls idx arraycopyName ∈ lw_all) (hna : Cond.native arraycopyName ∈ lw_all) (hs : Cond.static arraycopyName ∈ lw_all) (hi : Cond.initialized "java/lang/System" ∈ lw_all) (ha0 : zAt G σ a0 (aO G n0 f)) (ha : sF σ a = some (aO G n1 g)) (h1 : ¬ sp < 0) (h2 : ¬ dp < 0) (h3 : ¬ n < 0) (h4 : sp.toNatClampNeg + n.toNatClampNeg ≤ n0) (h5 : dp.toNatClampNeg + n.toNatClampNeg ≤ n1)
    (hel : ∀ i : Nat, i < n.toNatClampNeg → ∀ z : Nat, f (sp.toNatClampNeg + i) = some z → ∃ ci vs C T N, zAt G σ z (.inr (ci, vs)) ∧ zcl[ci]? = some (C, T, N) ∧ Cond.castable C "java/lang/Object" ∈ lw_tbl) (hf : va_cpy f g sp.toNatClampNeg dp.toNatClampNeg n.toNatClampNeg = f2) (hw : (st.map fun v => v.category).sum ≤ 8) (hd : decode cc pc = .ok (.invokestatic idx, 3)) (k : zR G y cc nL ret hh d (pc + 3) ls st (sUp σ a (aO G n1 f2)) Q) : zR G y cc nL ret hh d pc ls (.int n :: .int dp :: .ref a :: .int sp :: .ref a0 :: st) σ Q := by
  subst hf
  obtain ⟨o, σ', q, k1, k2, k3⟩ := k
  refine ⟨o, σ', q, k1, k2, fun p l e R s m args below meth c H locs cells slots arr M N9 => ?_⟩
  have f9 := M.fr
  have g9 := M.lo
  have hnw : nativeFrameWords "java/lang/System" "arraycopy" 5 + 11 ≤ 56 := by decide
  refine zw_copy M.x M.b (M.ml.trans N9.hl.1.symm) M.own (M.ws _ hl) (M.ws _ hna) (M.ws _ hs) (M.ws _ hi) M.K.1 4 4 (N9.rel.at ha0) (N9.rel.at (.new ha)) (zty_at G 4 (Nat.le_of_ble_eq_true rfl)) (zty_at G 4 (Nat.le_of_ble_eq_true rfl)) h1 h2 h3 h4 h5 (fun i hi z hz => ?_) (by omega) (by omega) hd fun H1 locs1 e1 z1 o1 hl1 => ?_
  · obtain ⟨ci, vs, C, T, N, b1, b2, b3⟩ := hel i hi z hz
    obtain ⟨cell, g1, g2, g3⟩ := va_recv M.K.1 (N9.rel.P b1) b2 (q0 := 0) rfl
    obtain ⟨c0, t1, f1, f2, f3⟩ := Cond.castable_spec (va_Nw.use (A := args) rfl (M.K.2.1 _ b3 rfl))
    obtain ⟨k9, h9, -⟩ := Vm.findClass_spec g3
    refine ⟨cell, g1, g2, ⟨k9, h9⟩, fun comp hc => ?_⟩
    cases hc.symm.trans f2
    cases f1.symm.trans g3
    exact f3
  · exact k3 p l e R s m args below meth c H1 locs1 cells slots arr M ⟨by rw [z1]; exact N9.sz, N9.rel.up ha e1 z1 o1 (fun _ h9 => by cases h9), fun w hw2 => (hl1 w hw2).elim (N9.lc w) (fun h => by rw [h]; exact (N9.rel.2.2.2 a _ ha).1), N9.c, N9.sl, N9.hl⟩
/-- an int array's clone -/
theorem zr_cloneI {idx a n : Nat} {f : Nat → Int32} (t : Nat) (hd1 : 1 ≤ d) (ha : zAt G σ a (aI G n f)) (hl : Cond.methodLink y.cls idx ⟨"[I", "clone", "()Ljava/lang/Object;"⟩ ∈ lw_all) (hsm : Cond.sameMethod "[I" "java/lang/Object" "clone" "()Ljava/lang/Object;" ∈ lw_all) (hna : Cond.native ⟨"java/lang/Object", "clone", "()Ljava/lang/Object;"⟩ ∈ lw_all) (hi : Cond.instanceMethod ⟨"java/lang/Object", "clone", "()Ljava/lang/Object;"⟩ ∈ lw_all) (hs : Cond.selects "[I" ⟨"[I", "clone", "()Ljava/lang/Object;"⟩ ⟨"java/lang/Object", "clone", "()Ljava/lang/Object;"⟩ ∈ lw_all) (hca : Cond.castable "[I" "java/lang/Cloneable" ∈ lw_tbl) (hw : (st.map fun v => v.category).sum ≤ 8) (hd : decode cc pc = .ok (.invokevirtual idx, 3)) (k : zR G y cc nL ret hh d (pc + 3) ls (.ref (sZ σ) :: st) (sNew σ t (aI G n f) n) Q) : zR G y cc nL ret hh d pc ls (.ref a :: st) σ Q := by
  obtain ⟨o, σ', q, k1, k2, k3⟩ := k
  rw [sZ_new] at k1
  rw [sL_new] at k2
  refine ⟨o, σ', q, by omega, by omega, fun p l e R s m args below meth c H locs cells slots arr M N9 => ?_⟩
  have n1 := N9.c
  have n2 := N9.sl
  have n3 := N9.sz
  have n4 := N9.rel.1
  have f9 := M.fr
  have g9 := M.lo
  refine zw_clone M.x M.b (M.ml.trans N9.hl.1.symm) M.own (M.ws _ hl) (M.ws _ hsm) (M.ws _ hna) (M.ws _ hi) (M.ws _ hs) (M.K.2.1 _ hca rfl) M.K.1 0 (N9.rel.at ha) (zty_at G 0 (Nat.le_of_ble_eq_true rfl)) (M.K.1.2 0 _ (zty_at G 0 (Nat.le_of_ble_eq_true rfl))).2 (fun i v hv => ?_) (by omega) (by omega) (by omega) (by show slots + n ≤ R.slots; omega) hd fun H1 e1 z1 o1 => ?_
  · have hlt := (Array.getElem?_eq_some_iff.mp hv).1
    have hlt' : i < n := by
      have h9 : (arrV (zA G 0) n (fun j => .int (f j))).slots.size = n := arrV_size _ _ _
      have h8 : i < (arrV (zA G 0) n (fun j => .int (f j))).slots.size := hlt
      omega
    have hv2 : (arrV (zA G 0) n (fun j => .int (f j))).slots[i]? = some v := hv
    rw [arrV_read _ _ hlt'] at hv2
    cases hv2
    rfl
  · rw [N9.rel.1]
    exact k3 p l e R s m args below meth c H1 locs _ _ arr M ⟨by omega, N9.rel.new t n e1 z1 o1 (fun _ h9 => by cases h9), N9.lc, by rw [sZ_new]; omega, by rw [sL_new]; show slots + n + sL σ' ≤ _; omega, N9.hl⟩
/-- 'new X()' of an exception: new, dup, the constructor; its address is the heap's end -/
theorem zr_make0 {E : String} {names : List String} {ik ic ci : Nat} {T0 : u_T} (t : Nat) (hd1 : 12 ≤ d) (hB : (zH G).size = zB G) (hcls : Bundle.fit E = true) (hnames : ∀ n ∈ names, Bundle.fit n = true) (hnl : names.length ≤ 4) (hk : Cond.classLink y.cls ik E ∈ lw_all) (hini : Cond.initialized E ∈ lw_all) (hat : ∀ w ∈ vx_at0 y.cls ic E names, w ∈ lw_all ∨ (w ∈ lw_tbl ∧ zNok w = true))
    (hgood : ∀ w ∈ Cond.classLink y.cls ik E :: Cond.initialized E :: vx_at0 y.cls ic E names, vx_ot w = true) (d0 : decode cc pc = .ok (.new ik, 3)) (d3 : decode cc (pc + 3) = .ok (.dup, 1)) (d4 : decode cc (pc + 4) = .ok (.invokespecial ic, 3)) (hc : zcl[ci]? = some (E, T0, 0)) (hw : (st.map fun v => v.category).sum ≤ 8)
    (k : zR G y cc nL ret hh d (pc + 7) ls (.ref (sZ σ) :: st) (sNew σ t (.inr (ci, [])) 6) Q) : zR G y cc nL ret hh d pc ls st σ Q := by
  obtain ⟨o, σ', q, k1, k2, k3⟩ := k
  rw [sZ_new] at k1
  rw [sL_new] at k2
  refine ⟨o, σ', q, by omega, by omega, fun p l e R s m args below meth c H locs cells slots arr M N9 => ?_⟩
  have n1 := N9.c
  have n2 := N9.sl
  have n3 := N9.sz
  have n4 := N9.rel.1
  have f9 := M.fr
  have g9 := M.lo
  have hU : vx_Zq Bundle.tN "UNASSIGNED_STACK" Bundle.steD (zb G) s s.heap := vx_Zq.kept (M.K.2.2.2.1.2.2.2.2.1) (fun a ha hq => M.h0 a (by omega))
  have hN : vx_Zq Bundle.tN "SUPPRESSED_SENTINEL" Bundle.listD (zb G) s s.heap := vx_Zq.kept (M.K.2.2.2.1.2.2.2.2.2.1) (fun a ha hq => M.h0 a (by omega))
  refine zw_make0 M.x M.b M.tr M.own hcls hnames (M.ws _ hk) (M.ws _ hini) (fun w hw9 => ?_) hgood hU hN (zS_va M N9.rel N9.sz N9.lc) (N9.hl.1.trans M.ml.symm) d0 d3 d4 M.K.1 hc (by omega) (by omega) (by omega) (by omega) fun H1 e1 z1 o1 => ?_
  · rcases hat w hw9 with h | ⟨h, h'⟩
    · exact M.ws _ h
    · have h9 := M.K.2.1 w h h'
      cases w with
      | arrayOver t => 
        cases t with
        | object C => exact va_AO.use h9
        | _ => cases h'
      | _ => first | exact va_Nw.use rfl h9 | cases h'
  · rw [N9.rel.1]
    exact k3 p l e R s m args below meth c H1 locs _ _ arr M ⟨by omega, N9.rel.new t 6 e1 z1 o1 (fun _ h9 => by cases h9; cases hc), N9.lc, by rw [sZ_new]; omega, by rw [sL_new]; omega, N9.hl⟩
end zRows2
