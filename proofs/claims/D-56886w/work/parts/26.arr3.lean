/-! rows of zR: arrays .. (tools/mkarr.py) -/
section zArr
variable {G : zG} {y : MethodName} {cc : ByteArray} {nL : Nat} {ret : Option FieldType} {hh : List (Nat × Nat × Nat × Nat)} {d pc : Nat} {ls : List (Nat × Value)} {st : List Value} {σ : zT} {Q : zO → zT → Prop}
theorem zr_newaI {n : Int32} {N' : Nat} (t : Nat) (hw : Cond.arrayClass .int ∈ lw_all) (hn : ¬ n < 0) (hN : n.toNatClampNeg = N') (hb : N' * 8 ≤ 536870912) (hd : decode cc pc = .ok (.newarray .int, 2)) (k : zR G y cc nL ret hh d (pc + 2) ls (.ref (sZ σ) :: st) (sNew σ t (aI G N' (fun _ => 0)) N') Q) : zR G y cc nL ret hh d pc ls (.int n :: st) σ Q := by
  obtain ⟨o, σ', q, k1, k2, k3⟩ := k
  rw [sZ_new] at k1
  rw [sL_new] at k2
  refine ⟨o, σ', q, by omega, by omega, fun p l e R s m args below meth c H locs cells slots arr M N9 => ?_⟩
  have n1 := N9.c
  have n2 := N9.sl
  have n3 := N9.sz
  have n4 := N9.rel.1
  have hb9 : N' * componentBytes .int ≤ 536870912 := Nat.le_trans (Nat.mul_le_mul_left _ (by decide : componentBytes .int ≤ 8)) hb
  refine va_newaK (atype := .int) M.x M.b (M.ws _ hw) rfl hd rfl hn hN hb9 (by omega) (by omega) rfl fun H1 cA e1 z1 o1 hAr hNm => ?_
  have hcA : cA = zA G 0 := by
    have h9 : s.vm.findClass ("[" ++ (.int : FieldType).toString) = some (zA G 0) := (M.K.1.2 0 _ (zty_at G 0 (Nat.le_of_ble_eq_true rfl))).2
    exact Option.some.inj (hNm.symm.trans h9)
  subst hcA
  rw [N9.rel.1]
  refine k3 p l e R s m args below meth c H1 locs _ _ arr M ⟨by omega, N9.rel.new t N' ?_ z1 o1 (fun _ h9 => by cases h9), N9.lc, by rw [sZ_new]; omega, by rw [sL_new]; omega, N9.hl⟩
  show H1[H.size]? = some (vp_cell _ _)
  rw [e1]
  rfl
theorem zr_newaZ {n : Int32} {N' : Nat} (t : Nat) (hw : Cond.arrayClass .boolean ∈ lw_all) (hn : ¬ n < 0) (hN : n.toNatClampNeg = N') (hb : N' * 8 ≤ 536870912) (hd : decode cc pc = .ok (.newarray .boolean, 2)) (k : zR G y cc nL ret hh d (pc + 2) ls (.ref (sZ σ) :: st) (sNew σ t (aZ G N' (fun _ => 0)) N') Q) : zR G y cc nL ret hh d pc ls (.int n :: st) σ Q := by
  obtain ⟨o, σ', q, k1, k2, k3⟩ := k
  rw [sZ_new] at k1
  rw [sL_new] at k2
  refine ⟨o, σ', q, by omega, by omega, fun p l e R s m args below meth c H locs cells slots arr M N9 => ?_⟩
  have n1 := N9.c
  have n2 := N9.sl
  have n3 := N9.sz
  have n4 := N9.rel.1
  have hb9 : N' * componentBytes .boolean ≤ 536870912 := Nat.le_trans (Nat.mul_le_mul_left _ (by decide : componentBytes .boolean ≤ 8)) hb
  refine va_newaK (atype := .boolean) M.x M.b (M.ws _ hw) rfl hd rfl hn hN hb9 (by omega) (by omega) rfl fun H1 cA e1 z1 o1 hAr hNm => ?_
  have hcA : cA = zA G 1 := by
    have h9 : s.vm.findClass ("[" ++ (.boolean : FieldType).toString) = some (zA G 1) := (M.K.1.2 1 _ (zty_at G 1 (Nat.le_of_ble_eq_true rfl))).2
    exact Option.some.inj (hNm.symm.trans h9)
  subst hcA
  rw [N9.rel.1]
  refine k3 p l e R s m args below meth c H1 locs _ _ arr M ⟨by omega, N9.rel.new t N' ?_ z1 o1 (fun _ h9 => by cases h9), N9.lc, by rw [sZ_new]; omega, by rw [sL_new]; omega, N9.hl⟩
  show H1[H.size]? = some (vp_cell _ _)
  rw [e1]
  rfl
theorem zr_newaJ {n : Int32} {N' : Nat} (t : Nat) (hw : Cond.arrayClass .long ∈ lw_all) (hn : ¬ n < 0) (hN : n.toNatClampNeg = N') (hb : N' * 8 ≤ 536870912) (hd : decode cc pc = .ok (.newarray .long, 2)) (k : zR G y cc nL ret hh d (pc + 2) ls (.ref (sZ σ) :: st) (sNew σ t (aJ G N' (fun _ => 0)) N') Q) : zR G y cc nL ret hh d pc ls (.int n :: st) σ Q := by
  obtain ⟨o, σ', q, k1, k2, k3⟩ := k
  rw [sZ_new] at k1
  rw [sL_new] at k2
  refine ⟨o, σ', q, by omega, by omega, fun p l e R s m args below meth c H locs cells slots arr M N9 => ?_⟩
  have n1 := N9.c
  have n2 := N9.sl
  have n3 := N9.sz
  have n4 := N9.rel.1
  have hb9 : N' * componentBytes .long ≤ 536870912 := Nat.le_trans (Nat.mul_le_mul_left _ (by decide : componentBytes .long ≤ 8)) hb
  refine va_newaK (atype := .long) M.x M.b (M.ws _ hw) rfl hd rfl hn hN hb9 (by omega) (by omega) rfl fun H1 cA e1 z1 o1 hAr hNm => ?_
  have hcA : cA = zA G 2 := by
    have h9 : s.vm.findClass ("[" ++ (.long : FieldType).toString) = some (zA G 2) := (M.K.1.2 2 _ (zty_at G 2 (Nat.le_of_ble_eq_true rfl))).2
    exact Option.some.inj (hNm.symm.trans h9)
  subst hcA
  rw [N9.rel.1]
  refine k3 p l e R s m args below meth c H1 locs _ _ arr M ⟨by omega, N9.rel.new t N' ?_ z1 o1 (fun _ h9 => by cases h9), N9.lc, by rw [sZ_new]; omega, by rw [sL_new]; omega, N9.hl⟩
  show H1[H.size]? = some (vp_cell _ _)
  rw [e1]
  rfl
theorem zr_newaD {n : Int32} {N' : Nat} (t : Nat) (hw : Cond.arrayClass .double ∈ lw_all) (hn : ¬ n < 0) (hN : n.toNatClampNeg = N') (hb : N' * 8 ≤ 536870912) (hd : decode cc pc = .ok (.newarray .double, 2)) (k : zR G y cc nL ret hh d (pc + 2) ls (.ref (sZ σ) :: st) (sNew σ t (aD G N' (fun _ => 0)) N') Q) : zR G y cc nL ret hh d pc ls (.int n :: st) σ Q := by
  obtain ⟨o, σ', q, k1, k2, k3⟩ := k
  rw [sZ_new] at k1
  rw [sL_new] at k2
  refine ⟨o, σ', q, by omega, by omega, fun p l e R s m args below meth c H locs cells slots arr M N9 => ?_⟩
  have n1 := N9.c
  have n2 := N9.sl
  have n3 := N9.sz
  have n4 := N9.rel.1
  have hb9 : N' * componentBytes .double ≤ 536870912 := Nat.le_trans (Nat.mul_le_mul_left _ (by decide : componentBytes .double ≤ 8)) hb
  refine va_newaK (atype := .double) M.x M.b (M.ws _ hw) rfl hd rfl hn hN hb9 (by omega) (by omega) rfl fun H1 cA e1 z1 o1 hAr hNm => ?_
  have hcA : cA = zA G 3 := by
    have h9 : s.vm.findClass ("[" ++ (.double : FieldType).toString) = some (zA G 3) := (M.K.1.2 3 _ (zty_at G 3 (Nat.le_of_ble_eq_true rfl))).2
    exact Option.some.inj (hNm.symm.trans h9)
  subst hcA
  rw [N9.rel.1]
  refine k3 p l e R s m args below meth c H1 locs _ _ arr M ⟨by omega, N9.rel.new t N' ?_ z1 o1 (fun _ h9 => by cases h9), N9.lc, by rw [sZ_new]; omega, by rw [sL_new]; omega, N9.hl⟩
  show H1[H.size]? = some (vp_cell _ _)
  rw [e1]
  rfl
theorem zr_newaO {n : Int32} {N' idx : Nat} (t : Nat) (hcl : Cond.classLink y.cls idx "java/lang/Object" ∈ lw_all) (hov : Cond.arrayOver (.object "java/lang/Object") ∈ lw_tbl) (hn : ¬ n < 0) (hN : n.toNatClampNeg = N') (hb : N' * 4 ≤ 536870912) (hd : decode cc pc = .ok (.anewarray idx, 3)) (k : zR G y cc nL ret hh d (pc + 3) ls (.ref (sZ σ) :: st) (sNew σ t (aO G N' (fun _ => none)) N') Q) : zR G y cc nL ret hh d pc ls (.int n :: st) σ Q := by
  subst hN
  obtain ⟨o, σ', q, k1, k2, k3⟩ := k
  rw [sZ_new] at k1
  rw [sL_new] at k2
  refine ⟨o, σ', q, by omega, by omega, fun p l e R s m args below meth c H locs cells slots arr M N9 => ?_⟩
  have n1 := N9.c
  have n2 := N9.sl
  have n3 := N9.sz
  have n4 := N9.rel.1
  have hAO : va_AO "java/lang/Object" s := M.K.2.1 _ hov rfl
  refine W.anew M.x M.b M.own (M.ws _ hcl) (va_AO.use hAO) rfl hd rfl hn hb (by omega) (by omega) fun cA kA comp f1 f2 f3 f4 => ?_
  have hcA : cA = zA G 4 := by
    obtain ⟨-, -, -, -, -, h9⟩ := (M.K.1.2 4 _ (zty_at G 4 (Nat.le_of_ble_eq_true rfl))).2
    exact Option.some.inj (f1.symm.trans h9)
  subst hcA
  generalize hH1 : H.push ({ cls := zA G 4, slots := Array.replicate n.toNatClampNeg .null, vm := .none } : Cell) = H1
  have z1 : H1.size = H.size + 1 := by rw [← hH1, Array.size_push]
  have e1 : H1[H.size]? = some (arrV (zA G 4) n.toNatClampNeg (fun _ => .null)) := by rw [← hH1, Array.getElem?_push_size, ← arrV_new]
  have o1 : ∀ q, q < H.size → H1[q]? = H[q]? := fun q hq => by rw [← hH1, Array.getElem?_push, if_neg (Nat.ne_of_lt hq)]
  rw [N9.rel.1]
  refine k3 p l e R s m args below meth c H1 locs _ _ arr M ⟨by omega, N9.rel.new t _ ?_ z1 o1 (fun _ h9 => by cases h9), N9.lc, by rw [sZ_new]; omega, by rw [sL_new]; omega, N9.hl⟩
  show H1[H.size]? = some (vp_cell _ _)
  rw [e1]
  rfl
end zArr
