/-! ===== the layer: stores, the relation to the machine's heap, the judgements zR (a method under way) and zC (a method's contract) ===== -/
/-- the classes whose objects the stores hold, by their numbers -/
abbrev zcl : List vw_C := [(RJ18, TJ18, 1), (RX1, TX1, 3), (RX2, TX2, 27), (RX3, TX3, 6), (RX4, TX4, 5), (RX5, TX5, 31), (RX6, TX6, 3), (RX7, TX7, 3), (RX8, TX8, 7), (RX9, TX9, 2), (RX10, TX10, 6), (RX11, TX11, 3), (RX12, TX12, 5), (RX13, TX13, 5), (RX14, TX14, 3), (RX15, TX15, 2), (RX16, TX16, 7), (RX17, TX17, 3), (RX18, TX18, 5), (RX19, TX19, 2), (RJ2, TJ2, 3), (RJ23, TJ23, 4), (RJ28, TJ28, 5), (RJ26, TJ26, 5),
  (RJ10, TJ10, 0), (RJ19, TJ19, 0), (RJ22, TJ22, 0), (RJ9, TJ9, 0), (RJ27, TJ27, 0), (RJ30, TJ30, 0)]
/-- what is known of the start: the classes' numbers and slots; the array classes; the first new address; the heap at the start; addresses of things that are there from the start -/
abbrev zG : Type := va_G × (Nat → ClassId) × Nat × Heap × (Nat → Nat)
def zD (G : zG) : va_G := G.1
def zA (G : zG) (k : Nat) : ClassId := G.2.1 k
def zB (G : zG) : Nat := G.2.2.1
def zH (G : zG) : Heap := G.2.2.2.1
def zc (G : zG) (k : Nat) : Nat := G.2.2.2.2 k
def zb (G : zG) : Nat → Prop := fun q => zB G ≤ q
/-- the array classes: 0 int, 1 boolean, 2 long, 3 double, 4 Object, 5 Integer -/
def ztys (G : zG) : List (ClassId × FieldType) := [(zA G 0, .int), (zA G 1, .boolean), (zA G 2, .long), (zA G 3, .double), (zA G 4, .object "java/lang/Object"), (zA G 5, .object "java/lang/Integer")]
/-- a store: the new cells, a tag for each address (ours, no matter of the machine's), the heap's size, the slots made so far -/
abbrev zT : Type := (Nat → Option va_E) × (Nat → Nat) × Nat × Nat
def sF (σ : zT) (a : Nat) : Option va_E := σ.1 a
def sT (σ : zT) (a : Nat) : Nat := σ.2.1 a
def sZ (σ : zT) : Nat := σ.2.2.1
def sL (σ : zT) : Nat := σ.2.2.2
def sUp (σ : zT) (a : Nat) (e : va_E) : zT := (fun x => if x = a then some e else σ.1 x, σ.2.1, σ.2.2.1, σ.2.2.2)
def sNew (σ : zT) (t : Nat) (e : va_E) (n : Nat) : zT := (fun x => if x = σ.2.2.1 then some e else σ.1 x, fun x => if x = σ.2.2.1 then t else σ.2.1 x, σ.2.2.1 + 1, σ.2.2.2 + n)
theorem sF_up (σ : zT) (a : Nat) (e : va_E) (x : Nat) : sF (sUp σ a e) x = if x = a then some e else sF σ x := rfl
theorem sF_upS (σ : zT) (a : Nat) (e : va_E) : sF (sUp σ a e) a = some e := if_pos rfl
theorem sF_upN (σ : zT) (a : Nat) (e : va_E) {x : Nat} (h : x ≠ a) : sF (sUp σ a e) x = sF σ x := if_neg h
theorem sT_up (σ : zT) (a : Nat) (e : va_E) (x : Nat) : sT (sUp σ a e) x = sT σ x := rfl
theorem sZ_up (σ : zT) (a : Nat) (e : va_E) : sZ (sUp σ a e) = sZ σ := rfl
theorem sL_up (σ : zT) (a : Nat) (e : va_E) : sL (sUp σ a e) = sL σ := rfl
theorem sF_new (σ : zT) (t : Nat) (e : va_E) (n x : Nat) : sF (sNew σ t e n) x = if x = sZ σ then some e else sF σ x := rfl
theorem sF_newS (σ : zT) (t : Nat) (e : va_E) (n : Nat) : sF (sNew σ t e n) (sZ σ) = some e := if_pos rfl
theorem sF_newN (σ : zT) (t : Nat) (e : va_E) (n : Nat) {x : Nat} (h : x ≠ sZ σ) : sF (sNew σ t e n) x = sF σ x := if_neg h
theorem sT_new (σ : zT) (t : Nat) (e : va_E) (n x : Nat) : sT (sNew σ t e n) x = if x = sZ σ then t else sT σ x := rfl
theorem sT_newS (σ : zT) (t : Nat) (e : va_E) (n : Nat) : sT (sNew σ t e n) (sZ σ) = t := if_pos rfl
theorem sT_newN (σ : zT) (t : Nat) (e : va_E) (n : Nat) {x : Nat} (h : x ≠ sZ σ) : sT (sNew σ t e n) x = sT σ x := if_neg h
theorem sZ_new (σ : zT) (t : Nat) (e : va_E) (n : Nat) : sZ (sNew σ t e n) = sZ σ + 1 := rfl
theorem sL_new (σ : zT) (t : Nat) (e : va_E) (n : Nat) : sL (sNew σ t e n) = sL σ + n := rfl
/-- a Lower's monitor is free (its getCause is synchronized) -/
def zMo (H : Heap) (a : Nat) (e : va_E) : Prop := ∀ fs, e = .inr (10, fs) → ∀ cell : Cell, H[a]? = some cell → cell.monitor = {}
/-- the store as the heap has it; what was there at the start is as it was -/
def zRel (G : zG) (σ : zT) (H : Heap) : Prop := H.size = sZ σ ∧ zB G ≤ sZ σ ∧ (∀ a, a < zB G → H[a]? = (zH G)[a]?) ∧ ∀ a e, sF σ a = some e → zB G ≤ a ∧ va_at (zD G) zcl (a, e) H ∧ zMo H a e
/-- a cell that can be read: new, or of the start -/
def zAt (G : zG) (σ : zT) (a : Nat) (e : va_E) : Prop := sF σ a = some e ∨ (a < zB G ∧ va_at (zD G) zcl (a, e) (zH G))
theorem zAt.new {G : zG} {σ : zT} {a : Nat} {e : va_E} (h : sF σ a = some e) : zAt G σ a e := Or.inl h
theorem zRel.lt {G : zG} {σ : zT} {H : Heap} (h : zRel G σ H) {a : Nat} {e : va_E} (ha : sF σ a = some e) : a < sZ σ := by
  rw [← h.1]; exact (h.2.2.2 a e ha).2.1.lt
theorem zRel.at {G : zG} {σ : zT} {H : Heap} (h : zRel G σ H) {a : Nat} {e : va_E} (ha : zAt G σ a e) : va_at (zD G) zcl (a, e) H := by
  rcases ha with ha | ⟨h1, h2⟩
  · exact (h.2.2.2 a e ha).2.1
  · exact h2.kept (h.2.2.1 a h1)
theorem zRel.P {G : zG} {σ : zT} {H : Heap} (h : zRel G σ H) {a : Nat} {e : va_E} (ha : zAt G σ a e) : va_P (zD G) zcl [(a, e)] H := by
  intro k q hk
  have hz : k < 1 := (List.getElem?_eq_some_iff.mp hk).1
  rw [show k = 0 by omega] at hk
  cases hk
  exact h.at ha
theorem zRel.up {G : zG} {σ : zT} {H H1 : Heap} (h : zRel G σ H) {a : Nat} {e e1 : va_E} (ha : sF σ a = some e) (h1 : va_at (zD G) zcl (a, e1) H1) (hz : H1.size = H.size) (ho : ∀ q, q ≠ a → H1[q]? = H[q]?) (hm : zMo H1 a e1) : zRel G (sUp σ a e1) H1 := by
  have hb := (h.2.2.2 a e ha).1
  refine ⟨hz.trans h.1, h.2.1, fun q hq => (ho q (by omega)).trans (h.2.2.1 q hq), fun x ex hx => ?_⟩
  rw [sF_up] at hx
  by_cases c : x = a
  · subst c
    rw [if_pos rfl] at hx
    cases hx
    exact ⟨hb, h1, hm⟩
  · rw [if_neg c] at hx
    exact ⟨(h.2.2.2 x ex hx).1, (h.2.2.2 x ex hx).2.1.kept (ho x c), fun fs h9 cell hc => (h.2.2.2 x ex hx).2.2 fs h9 cell ((ho x c).symm.trans hc)⟩
theorem zRel.new {G : zG} {σ : zT} {H H1 : Heap} (h : zRel G σ H) (t : Nat) {e1 : va_E} (n : Nat) (h1 : va_at (zD G) zcl (H.size, e1) H1) (hz : H1.size = H.size + 1) (ho : ∀ q, q < H.size → H1[q]? = H[q]?) (hm : zMo H1 H.size e1) : zRel G (sNew σ t e1 n) H1 := by
  have hs : sZ σ = H.size := h.1.symm
  have hB := h.2.1
  refine ⟨by rw [sZ_new, hz, hs], by rw [sZ_new]; omega, fun q hq => (ho q (by omega)).trans (h.2.2.1 q hq), fun x ex hx => ?_⟩
  rw [sF_new] at hx
  by_cases c : x = sZ σ
  · subst c
    rw [if_pos rfl] at hx
    cases hx
    exact ⟨hB, by rw [hs]; exact h1, by rw [hs]; exact hm⟩
  · rw [if_neg c] at hx
    exact ⟨(h.2.2.2 x ex hx).1, (h.2.2.2 x ex hx).2.1.kept (ho x (by rw [← hs]; exact h.lt hx)), fun fs h9 cell hc => (h.2.2.2 x ex hx).2.2 fs h9 cell ((ho x (by rw [← hs]; exact h.lt hx)).symm.trans hc)⟩
/-- the calls through an interface: receiver's class, the named method, the called one -/
def zFws : List (String × MethodName × MethodName) :=
  [("java/util/ArrayList", ⟨"java/util/List", "get", "(I)Ljava/lang/Object;"⟩, ⟨"java/util/ArrayList", "get", "(I)Ljava/lang/Object;"⟩),
   ("java/util/ArrayList", ⟨"java/util/List", "size", "()I"⟩, ⟨"java/util/ArrayList", "size", "()I"⟩),
   ("java/util/ArrayList", ⟨"java/util/List", "isEmpty", "()Z"⟩, ⟨"java/util/ArrayList", "isEmpty", "()Z"⟩),
   ("java/util/ArrayList", ⟨"java/util/List", "add", "(Ljava/lang/Object;)Z"⟩, ⟨"java/util/ArrayList", "add", "(Ljava/lang/Object;)Z"⟩),
   ("java/util/ArrayList", ⟨"java/util/List", "iterator", "()Ljava/util/Iterator;"⟩, ⟨"java/util/ArrayList", "iterator", "()Ljava/util/Iterator;"⟩),
   ("java/util/ArrayList", ⟨"java/util/List", "subList", "(II)Ljava/util/List;"⟩, ⟨"java/util/ArrayList", "subList", "(II)Ljava/util/List;"⟩),
   ("java/util/ArrayList$Itr", ⟨"java/util/Iterator", "hasNext", "()Z"⟩, ⟨"java/util/ArrayList$Itr", "hasNext", "()Z"⟩),
   ("java/util/ArrayList$Itr", ⟨"java/util/Iterator", "next", "()Ljava/lang/Object;"⟩, ⟨"java/util/ArrayList$Itr", "next", "()Ljava/lang/Object;"⟩),
   ("java/util/ArrayList$SubList", ⟨"java/util/List", "get", "(I)Ljava/lang/Object;"⟩, ⟨"java/util/ArrayList$SubList", "get", "(I)Ljava/lang/Object;"⟩),
   ("java/util/ArrayList$SubList", ⟨"java/util/List", "size", "()I"⟩, ⟨"java/util/ArrayList$SubList", "size", "()I"⟩),
   ("java/util/ArrayList$SubList", ⟨"java/util/List", "iterator", "()Ljava/util/Iterator;"⟩, ⟨"java/util/ArrayList$SubList", "iterator", "()Ljava/util/Iterator;"⟩),
   ("java/util/ArrayList$SubList$1", ⟨"java/util/Iterator", "hasNext", "()Z"⟩, ⟨"java/util/ArrayList$SubList$1", "hasNext", "()Z"⟩),
   ("java/util/ArrayList$SubList$1", ⟨"java/util/Iterator", "next", "()Ljava/lang/Object;"⟩, ⟨"java/util/ArrayList$SubList$1", "next", "()Ljava/lang/Object;"⟩),
   ("java/util/ArrayList", ⟨"java/util/Collection", "toArray", "()[Ljava/lang/Object;"⟩, ⟨"java/util/ArrayList", "toArray", "()[Ljava/lang/Object;"⟩)]
/-- the words of the tables that are carried at each start -/
def zNok : Cond → Bool
  | .fieldLinkNest .. => true
  | .methodLinkNest .. => true
  | .castable .. => true
  | .declares _ => true
  | .arrayOver (.object _) => true
  | .interfaceMethod .. => true
  | .publicMethod _ => true
  | .unhidden .. => true
  | _ => false
/-- the exceptions that pass a handler of another -/
def zNcs : List (String × String) := [("java/lang/IndexOutOfBoundsException", "java/lang/IllegalArgumentException"), ("java/lang/IndexOutOfBoundsException", "java/lang/IllegalStateException"), ("java/lang/IndexOutOfBoundsException", "java/lang/UnsupportedOperationException"), ("java/lang/IndexOutOfBoundsException", "java/util/NoSuchElementException"), ("java/lang/IndexOutOfBoundsException", "java/lang/ArithmeticException"), ("java/lang/IllegalArgumentException", "java/lang/IndexOutOfBoundsException"), ("java/lang/IllegalArgumentException", "java/lang/IllegalStateException"), ("java/lang/IllegalArgumentException", "java/lang/UnsupportedOperationException"), ("java/lang/IllegalArgumentException", "java/util/NoSuchElementException"), ("java/lang/IllegalArgumentException", "java/lang/ArithmeticException"), ("java/lang/IllegalStateException", "java/lang/IndexOutOfBoundsException"), ("java/lang/IllegalStateException", "java/lang/IllegalArgumentException"), ("java/lang/IllegalStateException", "java/lang/UnsupportedOperationException"), ("java/lang/IllegalStateException", "java/util/NoSuchElementException"), ("java/lang/IllegalStateException", "java/lang/ArithmeticException"), ("java/lang/UnsupportedOperationException", "java/lang/IndexOutOfBoundsException"), ("java/lang/UnsupportedOperationException", "java/lang/IllegalArgumentException"), ("java/lang/UnsupportedOperationException", "java/lang/IllegalStateException"), ("java/lang/UnsupportedOperationException", "java/util/NoSuchElementException"), ("java/lang/UnsupportedOperationException", "java/lang/ArithmeticException"), ("java/util/NoSuchElementException", "java/lang/IndexOutOfBoundsException"), ("java/util/NoSuchElementException", "java/lang/IllegalArgumentException"), ("java/util/NoSuchElementException", "java/lang/IllegalStateException"), ("java/util/NoSuchElementException", "java/lang/UnsupportedOperationException"), ("java/util/NoSuchElementException", "java/lang/ArithmeticException"), ("java/lang/ArithmeticException", "java/lang/IndexOutOfBoundsException"), ("java/lang/ArithmeticException", "java/lang/IllegalArgumentException"), ("java/lang/ArithmeticException", "java/lang/IllegalStateException"), ("java/lang/ArithmeticException", "java/lang/UnsupportedOperationException"), ("java/lang/ArithmeticException", "java/util/NoSuchElementException")]
/-- a reference or null, told by a number -/
def zq (G : zG) (k : Nat) : Option Nat := if zc G k = 0 then none else some (zc G k - 1)
/-- what the statics hold, class objects, texts -/
def zSt (G : zG) (U : State) : Prop :=
  va_Z "java/util/ArrayList" "DEFAULTCAPACITY_EMPTY_ELEMENTDATA" "[Ljava/lang/Object;" (.ref (zc G 0)) (zb G) U (zH G) ∧
  va_Z "java/util/ArrayList" "EMPTY_ELEMENTDATA" "[Ljava/lang/Object;" (.ref (zc G 1)) (zb G) U (zH G) ∧
  va_Z "java/lang/Integer$IntegerCache" "cache" "[Ljava/lang/Integer;" (.ref (zc G 2)) (zb G) U (zH G) ∧
  va_Z "java/lang/Integer$IntegerCache" "high" "I" (.int 127) (zb G) U (zH G) ∧
  vx_Zq Bundle.tN "UNASSIGNED_STACK" Bundle.steD (zb G) U (zH G) ∧
  vx_Zq Bundle.tN "SUPPRESSED_SENTINEL" Bundle.listD (zb G) U (zH G) ∧
  va_Mi "[Ljava/lang/Object;" (zc G 3) U ∧ va_Mi "java/util/ArrayList" (zc G 6) U ∧
  va_Z "java/lang/Throwable" "UNASSIGNED_STACK" "[Ljava/lang/StackTraceElement;" (va_rf (zq G 7)) (zb G) U (zH G) ∧
  va_Z "java/lang/Throwable" "SUPPRESSED_SENTINEL" "Ljava/util/List;" (va_rf (zq G 8)) (zb G) U (zH G)
theorem zSt.moved {G : zG} {u U : State} (hv : u.vm.Alike U.vm) (h : zSt G u) : zSt G U := by
  obtain ⟨h1, h2, h3, h4, h5, h6, h7, h8, h9, h10⟩ := h
  exact ⟨va_Z.moved hv h1, va_Z.moved hv h2, va_Z.moved hv h3, va_Z.moved hv h4, vx_Zq.moved hv h5, vx_Zq.moved hv h6, va_Mi.moved hv h7, va_Mi.moved hv h8, va_Z.moved hv h9, va_Z.moved hv h10⟩
/-- what the tables say all through the run, beside lw_all -/
def zK (G : zG) (U : State) : Prop := va_K (zD G) zcl (ztys G) U ∧ (∀ w ∈ lw_tbl, zNok w = true → va_Nw w U) ∧ (∀ q ∈ zFws, va_Fw q.1 q.2.1 q.2.2 U) ∧ zSt G U ∧ (vk_R "ColumnarPress$Narrow" 1 "" (zc G 4) U ∧ vk_R "ColumnarPress$Lower" 1 "" (zc G 5) U) ∧ ∀ q ∈ zNcs, va_Nc q.1 q.2 U
theorem zNok_I {a b n t : String} {s U : State} (hW : s.WarmedH U.vm) (h : va_Nw (.interfaceMethod a b n t) s) : va_Nw (.interfaceMethod a b n t) U :=
  va_tabs rfl (rfl : (s.setVm U.vm).vm = U.vm) (by
    have hal := hW.alike
    have e : (Cond.interfaceMethod a b n t).before #[] (s.setVm U.vm) = (Cond.interfaceMethod a b n t).before #[] s := by
      simp only [Cond.before, Cond.holds, Cond.value, State.vm_setVm, hal.findClass, State.methodFound?_setVm hal, State.methodNamed?_setVm hal, arm_isInterface_setVm hal]
    rw [e]; exact h)
theorem zNok_P {x : MethodName} {s U : State} (hW : s.WarmedH U.vm) (h : va_Nw (.publicMethod x) s) : va_Nw (.publicMethod x) U :=
  va_tabs rfl (rfl : (s.setVm U.vm).vm = U.vm) (by rw [Cond.publicMethod_setVm hW.alike]; exact h)
theorem zNok_U {a n t : String} {s U : State} (hW : s.WarmedH U.vm) (h : va_Nw (.unhidden a n t) s) : va_Nw (.unhidden a n t) U :=
  va_tabs rfl (rfl : (s.setVm U.vm).vm = U.vm) (by rw [Cond.unhidden_setVm hW.alike]; exact h)
theorem zNok_warm {w : Cond} (hw : zNok w = true) {s U : State} (hW : s.WarmedH U.vm) (h : va_Nw w s) : va_Nw w U := by
  cases w with
  | fieldLinkNest a i b n d h' => exact va_Nw.warmF hW h
  | methodLinkNest a i x h' => exact va_Nw.warmM hW h
  | castable C T => exact va_Nw.warmC hW h
  | declares x => exact va_Nw.warmD hW h
  | interfaceMethod a b n t => exact zNok_I hW h
  | publicMethod x => exact zNok_P hW h
  | unhidden a n t => exact zNok_U hW h
  | arrayOver t =>
    cases t with
    | object C => exact va_AO.moved hW.alike h
    | _ => cases hw
  | _ => cases hw
theorem zFws_ok : ∀ q ∈ zFws, q.2.1.cls ≠ "java/lang/invoke/MethodHandle" ∧ q.2.1.cls ≠ "java/lang/invoke/VarHandle" := by decide +kernel
theorem zK.warm {G : zG} {s U : State} (hW : s.WarmedH U.vm) (h : zK G s) : zK G U :=
  ⟨va_K.moved hW.alike h.1, fun w hw hn => zNok_warm hn hW (h.2.1 w hw hn), fun q hq => va_Fw.moved (zFws_ok q hq) hW.alike (h.2.2.1 q hq), zSt.moved hW.alike h.2.2.2.1, ⟨vk_R.warm hW h.2.2.2.2.1.1, vk_R.warm hW h.2.2.2.2.1.2⟩, fun q hq => va_Nc.moved hW.alike (h.2.2.2.2.2 q hq)⟩
theorem zNok_same {w : Cond} (hw : zNok w = true) {u U : State} (hv : u.vm = U.vm) (h : va_Nw w u) : va_Nw w U := by
  cases w with
  | arrayOver t =>
    cases t with
    | object C => exact va_AO.moved (by rw [hv]; exact Vm.Alike.refl _) h
    | _ => cases hw
  | _ => first | exact va_Nw.same rfl hv h | cases hw
theorem zK.calling {G : zG} {U : State} (h : zK G U) (g : JFrame) (mk : MethodId) (a : Array Value) : zK G (U.calling g mk a) :=
  ⟨va_K.moved (u := U) (U := U.calling g mk a) (Vm.Alike.refl U.vm) h.1, fun w hw hn => zNok_same (u := U) hn rfl (h.2.1 w hw hn), fun q hq => va_Fw.moved (u := U) (zFws_ok q hq) (Vm.Alike.refl U.vm) (h.2.2.1 q hq), zSt.moved (u := U) (Vm.Alike.refl U.vm) h.2.2.2.1, ⟨vk_R.same (u := U) rfl h.2.2.2.2.1.1, vk_R.same (u := U) rfl h.2.2.2.2.1.2⟩, fun q hq => va_Nc.moved (u := U) (Vm.Alike.refl U.vm) (h.2.2.2.2.2 q hq)⟩
/-- an outcome: a value answered (none: void), or an object thrown, by its class and address -/
abbrev zO : Type := Option Value ⊕ (String × Nat)
/-- what stays while a method's body runs -/
def zM (G : zG) (y : MethodName) (cc : ByteArray) (nL : Nat) (ret : Option FieldType) (hh : List (Nat × Nat × Nat × Nat)) (d : Nat) (p : Program) (l : Launch) (R : Room) (s : State) (m : MethodId) (args : Array Value) (meth : Method) (c : Code) : Prop :=
  p.tables.exec = Jvm.exec ∧ c.code = cc ∧ c.maxLocals = nL ∧ meth.sig.returnType = ret ∧ s.vm.findClass y.cls = some m.cls ∧ (∀ w ∈ lw_all, w.before args s = true) ∧ meth.locks = false ∧ c.exceptionTable.toList = tableOf hh ∧ l.stackTraces = false ∧ meth.name = y.name ∧ zK G s ∧ (∀ a, a < zB G → s.heap[a]? = (zH G)[a]?) ∧ zB G ≤ s.heap.size ∧ d ≤ R.frames ∧ 64 * d ≤ R.locals
/-- a body's end with the outcome o and the store σ -/
def zF (G : zG) (below : List Frame) (o : zO) (σ : zT) (a : Array Value) (s : State) (mc ms : Nat) : State → Prop :=
  vx_MQ below (fun _ _ oc t => ∃ v, o = .inl v ∧ oc = .returned v ∧ zRel G σ t.heap) (fun q E _ t => o = .inr (E, q) ∧ zRel G σ t.heap) a s mc ms (zb G)
/-- what stands at a point of a body: the machine's numbers -/
def zN (G : zG) (nL : Nat) (ls : List (Nat × Value)) (σ : zT) (σ' : zT) (R : Room) (s : State) (H : Heap) (locs : List Loc) (cells slots : Nat) (arr : Array Slot) : Prop :=
  s.heap.size ≤ H.size ∧ zRel G σ H ∧ (∀ z ∈ locs, zB G ≤ z.base) ∧ cells + sZ σ' ≤ R.cells + sZ σ ∧ slots + sL σ' ≤ R.slots + sL σ ∧ lv_has arr nL ls
/-- from the point (pc, locals, stack, store σ) the body comes to the outcome o and the store σ' -/
def zS (G : zG) (y : MethodName) (cc : ByteArray) (nL : Nat) (ret : Option FieldType) (hh : List (Nat × Nat × Nat × Nat)) (d : Nat) (pc : Nat) (ls : List (Nat × Value)) (st : List Value) (σ : zT) (o : zO) (σ' : zT) : Prop :=
  sZ σ ≤ sZ σ' ∧ sL σ ≤ sL σ' ∧ ∀ (p : Program) (l : Launch) (e : Env) (R : Room) (s : State) (m : MethodId) (args : Array Value) (below : List Frame) (meth : Method) (c : Code) (H : Heap) (locs : List Loc) (cells slots : Nat) (arr : Array Slot),
    zM G y cc nL ret hh d p l R s m args meth c → zN G nL ls σ σ' R s H locs cells slots arr → W p l e R s m args below meth c H locs cells slots (zF G below o σ' args s R.cells R.slots) (F0 m pc arr st)
/-- .. with an object thrown over the frame -/
def zSx (G : zG) (y : MethodName) (cc : ByteArray) (nL : Nat) (ret : Option FieldType) (hh : List (Nat × Nat × Nat × Nat)) (d : Nat) (pc : Nat) (ls : List (Nat × Value)) (E : String) (q : Nat) (σ : zT) (o : zO) (σ' : zT) : Prop :=
  sZ σ ≤ sZ σ' ∧ sL σ ≤ sL σ' ∧ ∀ (p : Program) (l : Launch) (e : Env) (R : Room) (s : State) (m : MethodId) (args : Array Value) (below : List Frame) (meth : Method) (c : Code) (H : Heap) (locs : List Loc) (cells slots : Nat) (arr : Array Slot) (st : List Value) (ce : Cell),
    zM G y cc nL ret hh d p l R s m args meth c → zN G nL ls σ σ' R s H locs cells slots arr → H[q]? = some ce → ce.vm = .none → s.vm.findClass E = some ce.cls → vx_W p l e R s m args below meth c H locs cells slots (zF G below o σ' args s R.cells R.slots) (F0 m pc arr st) q
def zR (G : zG) (y : MethodName) (cc : ByteArray) (nL : Nat) (ret : Option FieldType) (hh : List (Nat × Nat × Nat × Nat)) (d : Nat) (pc : Nat) (ls : List (Nat × Value)) (st : List Value) (σ : zT) (Q : zO → zT → Prop) : Prop :=
  ∃ o σ', Q o σ' ∧ zS G y cc nL ret hh d pc ls st σ o σ'
def zRx (G : zG) (y : MethodName) (cc : ByteArray) (nL : Nat) (ret : Option FieldType) (hh : List (Nat × Nat × Nat × Nat)) (d : Nat) (pc : Nat) (ls : List (Nat × Value)) (E : String) (q : Nat) (σ : zT) (Q : zO → zT → Prop) : Prop :=
  ∃ o σ', Q o σ' ∧ zSx G y cc nL ret hh d pc ls E q σ o σ'
/-- a method: its name, code, locals, answer, handlers (none: the row 'code') -/
abbrev zI : Type := MethodName × ByteArray × Nat × Option FieldType × Option (List (Nat × Nat × Nat × Nat))
def zws (I : zI) : List Cond := match I.2.2.2.2 with
  | none => ws_ I.1 I.2.1 I.2.2.1 I.2.2.2.1
  | some hh => wsW_ I.1 I.2.1 I.2.2.1 I.2.2.2.1 hh
def zPc (G : zG) (as : List Value) (σ : zT) : Array Value → State → Prop := fun a U => a = as.toArray ∧ zRel G σ U.heap ∧ zK G U
def zrm (d mc ms : Nat) : Room := { frames := d, cells := mc, slots := ms, locals := 64 * d }
/-- called with these values in this store the method comes to the outcome o and the store σ' (d: the depth that it may use) -/
def zC (G : zG) (I : zI) (d : Nat) (as : List Value) (σ : zT) (o : zO) (σ' : zT) : Prop :=
  sZ σ ≤ sZ σ' ∧ sL σ ≤ sL σ' ∧ ∀ (l : Launch) (mc ms : Nat), l.stackTraces = false → sZ σ' ≤ sZ σ + mc → sL σ' ≤ sL σ + ms → vx_Met l I.1 (zws I) (zrm d mc ms) (zPc G as σ)
    (fun _ _ oc t => ∃ v, o = .inl v ∧ oc = .returned v ∧ zRel G σ' t.heap) (fun q E _ t => o = .inr (E, q) ∧ zRel G σ' t.heap) mc ms (zb G)
def zCall (G : zG) (I : zI) (d : Nat) (as : List Value) (σ : zT) (Q : zO → zT → Prop) : Prop := ∃ o σ', Q o σ' ∧ zC G I d as σ o σ'
