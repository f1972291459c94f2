/-! ===== the component: widths of grids, of any box, fitting (rows printed by tools/p53.py) ===== -/
theorem zr_eqi {G : zG} {y : MethodName} {cc : ByteArray} {nL : Nat} {ret : Option FieldType} {hh : List (Nat × Nat × Nat × Nat)} {d pc : Nat} {ls : List (Nat × Value)} {st : List Value} {σ : zT} {Q : zO → zT → Prop} {x z : Int32} (h : x = z) (k : zR G y cc nL ret hh d pc ls (.int z :: st) σ Q) : zR G y cc nL ret hh d pc ls (.int x :: st) σ Q := by rw [h]; exact k
theorem zL.upI {G : zG} {σ : zT} {t l : Nat} {mod : Int32} {xs : List Nat} (h : zL G σ t l mod xs) {a n : Nat} {g : Nat → Int32} {e : va_E} {cA : ClassId} (ha : sF σ a = some (.inl (cA, n, .inl g))) : zL G (sUp σ a e) t l mod xs := by
  obtain ⟨arr, cap, f, h1, h2, h3, h4, h5, h6⟩ := h
  refine ⟨arr, cap, f, by rw [sF_upN σ a e (sF_ne h1 ha (fun e => by cases e))]; exact h1, h2, h3, h4, h5, ?_⟩
  rcases h6 with h6 | ⟨h6, h7, h8⟩
  · exact Or.inl h6
  · exact Or.inr ⟨h6, by rw [sF_upN σ a e (sF_ne h7 ha (fun e => by cases e))]; exact h7, h8⟩
theorem c_size {G : zG} {σ : zT} {d t l m : Nat} {mod : Int32} {xs : List Nat} (hd : 1 ≤ d) (hL : zL G σ t l mod xs) (hm : xs.length = m) : zC G I_J2_size d [.ref l] σ (.inl (some (.int (nI m)))) σ := by
  have h := c_J2_size hd hL
  rw [hm] at h
  exact h
theorem sum_filter_le {l : List Nat} {p : Nat → Bool} {g : Nat → Nat} : ((l.filter p).map g).sum ≤ (l.map g).sum := by
  induction l with
  | nil => exact Nat.le_refl _
  | cons a r ih =>
    rw [List.filter_cons]
    by_cases h : p a = true
    · rw [if_pos h, List.map_cons, List.sum_cons, List.map_cons, List.sum_cons]; omega
    · rw [if_neg h, List.map_cons, List.sum_cons]; omega
theorem sum_add_const {l : List Nat} {g : Nat → Nat} {k : Nat} : (l.map (fun j => g j + k)).sum = (l.map g).sum + k * l.length := by
  induction l with
  | nil => simp
  | cons a r ih => rw [List.map_cons, List.sum_cons, List.map_cons, List.sum_cons, List.length_cons, ih, Nat.mul_add]; omega

set_option maxHeartbeats 4000000 in
theorem l_X1_columnWidths {G : zG} {σ : zT} {d f N m : Nat} {c : zCS} {i wa l : Nat} {mod : Int32} {es : List Nat} {least : Bool} {Q : zO → zT → Prop} (hd : 6 ≤ d) (hG : zOk G) (hw : zGd G σ) (hS : CSys G σ c) (hi : i < kN c) (hes : ∀ j, j ∈ es → j < kN c ∧ kN c ≤ f + j) (hel : es.length ≤ 24) (hCW : ∀ (σ : zT) (j : Nat), zGd G σ → CSys G σ c → j < kN c → kN c ≤ f + j → zCall G I_X1_contentWidth (d - 1) [.ref (kA c (rB j)), .int (bI least)] σ (fun o σ' => o = .inl (some (.int (cCW f c j least))) ∧ zX G S0 σ σ' (KW f c j))) (hm1 : 1 ≤ m) (hm4 : m ≤ 4) (hcol : kF c i 15 = nI m) : ∀ (ys : List Nat) (k n : Nat) (g : Nat → Int32) (σ1 : zT), es.drop k = ys → k ≤ es.length → zX G S0 σ σ1 n → zL G σ1 (dT l) l mod (es.map (fun j => kA c (rB j))) → n + (ys.map (fun j => KW f c j)).sum ≤ N → sF σ1 wa = some (aI G m g) → sZ σ ≤ wa → (∀ σ2, zX G S0 σ σ2 N → sF σ2 wa = some (aI G m ((nums ys k).foldl (colf c (fun j => cCW f c j least) (kF c i 15)) g)) → Q (.inl (some (.ref wa))) σ2) → zR G yX1_columnWidths cX1_columnWidths 6 (Option.some (Jvm.ClassFile.FieldType.array Jvm.ClassFile.FieldType.int)) [] d 15 [(0, .ref (kA c (rB i))), (1, .int (bI least)), (2, .ref wa), (3, .ref l), (4, .int (nI k))] [] σ1 Q := by
  intro ys
  induction ys with
  | nil =>
    intro k n g σ1 hy hk hX hL1 hN hA hwa kQ
    obtain ⟨fl, hfl⟩ := hL1.A
    have hkl := drop_nil hy hk
    refine zr_iload dX1_columnWidths_15 rfl ?_
    refine zr_aload_n dX1_columnWidths_17 rfl rfl ?_
    refine zr_call51 (rest := [.int (nI k)]) (zs_F (As := []) (by omega) okF_J2_size (by decide +kernel) q1178 q162 q164 q56 q166 hfl rfl rfl rfl (Nat.le_of_ble_eq_true rfl) dX1_columnWidths_18) (c_size (by omega) hL1 (List.length_map _)) ?_
    refine zr_icmp_ge (tgt := 82) dX1_columnWidths_23 (by decide) (fun _ => ?_) (fun h9 => absurd (by rw [hkl]; exact Int32.le_refl _) h9)
    refine zr_aload_n dX1_columnWidths_82 rfl rfl ?_
    exact zr_aret rfl (.inr ⟨_, rfl⟩) (.inr ⟨_, rfl⟩) dX1_columnWidths_83 (kQ σ1 (hX.le (by simpa using hN)) hA)
  | cons j ys ih =>
    intro k n g σ1 hy hk hX hL1 hN hA hwa kQ
    have hS1 := hS.keep0 hw hX
    obtain ⟨fl, hfl⟩ := hL1.A
    obtain ⟨hx, hy2, hkl, hm⟩ := drop_cons hy
    obtain ⟨hj, hjf⟩ := hes j hm
    have hmod : k % m < m := Nat.mod_lt _ (by omega)
    have hrem : nI k - nI k / nI m * nI m = nI (k % m) := pk_rem (by omega) (by omega) (by omega)
    rw [List.map_cons, List.sum_cons] at hN
    obtain ⟨_, σ3, ⟨rfl, hX3⟩, hC⟩ := hCW _ j hX.gd hS1 hj hjf
    have hX4 := hX.trans hX3
    have hS3 := hS.keep0 hw hX4
    have hL3 := hX3.L hX.gd hL1 (fun h => h) (fun h => h)
    have hA3 := hX3.f hX.gd hA (fun h => h)
    obtain ⟨fl3, hfl3⟩ := hL3.A
    refine zr_iload dX1_columnWidths_15 rfl ?_
    refine zr_aload_n dX1_columnWidths_17 rfl rfl ?_
    refine zr_call51 (rest := [.int (nI k)]) (zs_F (As := []) (by omega) okF_J2_size (by decide +kernel) q1178 q162 q164 q56 q166 hfl rfl rfl rfl (Nat.le_of_ble_eq_true rfl) dX1_columnWidths_18) (c_size (by omega) hL1 (List.length_map _)) ?_
    refine zr_icmp_ge (tgt := 82) dX1_columnWidths_23 (by decide) (fun h9 => absurd h9 (nI_ge hkl (by omega))) (fun _ => ?_)
    refine zr_iload dX1_columnWidths_26 rfl ?_
    refine zr_aload_n dX1_columnWidths_28 rfl rfl ?_
    refine zr_getN (k := 15) (v := .int (kF c i 15)) in_X2 (hS1.bx hi) rfl (Nat.le_of_ble_eq_true rfl) q268 (.inl rfl) rfl dX1_columnWidths_29 ?_
    refine zr_eqi (z := (nI m)) (hcol) ?_
    refine zr_irem dX1_columnWidths_32 (nI_ne0 (by omega) (by omega)) ?_
    refine zr_eqi (z := (nI (k % m))) (hrem) ?_
    refine zr_istore (ls2 := [(0, .ref (kA c (rB i))), (1, .int (bI least)), (2, .ref wa), (3, .ref l), (4, .int (nI k)), (5, .int (nI (k % m)))]) dX1_columnWidths_33 (Nat.le_of_ble_eq_true rfl) rfl ?_
    refine zr_aload_n dX1_columnWidths_35 rfl rfl ?_
    refine zr_iload dX1_columnWidths_36 rfl ?_
    refine zr_aload_n dX1_columnWidths_38 rfl rfl ?_
    refine zr_iload dX1_columnWidths_39 rfl ?_
    refine zr_iald (v := .int (g (k % m))) (.new hA) (vp_in_nI hmod (by omega)) (by rw [nI_clamp (by omega)]) dX1_columnWidths_41 ?_
    refine zr_aload_n dX1_columnWidths_42 rfl rfl ?_
    refine zr_iload dX1_columnWidths_43 rfl ?_
    refine zr_call51 (rest := [.int (g (k % m)), .int (nI (k % m)), .ref wa]) (zs_F (As := [.int (nI k)]) (by omega) okF_J2_get (by decide +kernel) q1180 q1106 q959 q56 q960 hfl rfl rfl rfl (Nat.le_of_ble_eq_true rfl) dX1_columnWidths_45) (c_J2_get (by omega) hG hL1 (map_at (fun j => kA c (rB j)) hx)) ?_
    refine zr_castS (hS1.bx hj) rfl q151 dX1_columnWidths_50 ?_
    refine zr_iload_n dX1_columnWidths_53 rfl rfl ?_
    refine zr_call1 (rest := [.int (g (k % m)), .int (nI (k % m)), .ref wa]) (zs_S (As := [.ref (kA c (rB j)), .int (bI least)]) (by omega) ok_X1_contentWidth q1162 q1140 q53 q1141 rfl rfl (Nat.le_of_ble_eq_true rfl) dX1_columnWidths_54) hC ?_
    refine zr_aload_n dX1_columnWidths_57 rfl rfl ?_
    refine zr_iload dX1_columnWidths_58 rfl ?_
    refine zr_call51 (rest := [.int (cCW f c j least), .int (g (k % m)), .int (nI (k % m)), .ref wa]) (zs_F (As := [.int (nI k)]) (by omega) okF_J2_get (by decide +kernel) q1180 q1106 q959 q56 q960 hfl3 rfl rfl rfl (Nat.le_of_ble_eq_true rfl) dX1_columnWidths_60) (c_J2_get (by omega) hG hL3 (map_at (fun j => kA c (rB j)) hx)) ?_
    refine zr_castS (hS3.bx hj) rfl q151 dX1_columnWidths_65 ?_
    refine zr_call1 (rest := [.int (cCW f c j least), .int (g (k % m)), .int (nI (k % m)), .ref wa]) (zs_V (As := []) (by omega) ok_X2_sides q1163 q1164 q1165 q57 q1166 rfl (hS3.bx hj) rfl rfl rfl (Nat.le_of_ble_eq_true rfl) dX1_columnWidths_68) (c_X2_sides (by omega) hS3 hj) ?_
    refine zr_iadd dX1_columnWidths_71 ?_
    refine zr_max (by omega) q1158 q376 q60 q377 (Nat.le_of_ble_eq_true rfl) dX1_columnWidths_72 ?_
    refine zr_iast (f2 := colf c (fun j => cCW f c j least) (kF c i 15) g (k, j)) hA3 (vp_in_nI hmod (by omega)) (by unfold colf; rw [hcol, hrem, nI_clamp (by omega)]) dX1_columnWidths_75 ?_
    refine zr_iinc (v := ((nI k) + 1)) (ls2 := [(0, .ref (kA c (rB i))), (1, .int (bI least)), (2, .ref wa), (3, .ref l), (4, .int ((nI k) + 1)), (5, .int (nI (k % m)))]) dX1_columnWidths_76 rfl rfl (Nat.le_of_ble_eq_true rfl) rfl ?_
    rw [show nI k + 1 = nI (k + 1) from nI_1 k]
    refine zr_goto (tgt := 15) dX1_columnWidths_79 (by decide) ?_
    refine zr_sub (ls2 := [(0, .ref (kA c (rB i))), (1, .int (bI least)), (2, .ref wa), (3, .ref l), (4, .int (nI (k + 1)))]) [0, 1, 2, 3, 4] rfl ?_
    exact ih (k + 1) _ _ _ hy2 (by omega) (hX4.upNA hA3 hwa) (hL3.upI hA3) (by omega) (sF_upS _ _ _) hwa kQ
set_option maxHeartbeats 4000000 in
theorem c_X1_columnWidths {G : zG} {σ : zT} {d : Nat} {c : zCS} {i f m : Nat} {least : Bool} (hd : 8 ≤ d) (hG : zOk G) (hw : zGd G σ) (hS : CSys G σ c) (hi : i < kN c) (hf : kN c ≤ f + 1 + i) (hm1 : 1 ≤ m) (hm4 : m ≤ 4) (hcol : kF c i 15 = nI m) (hCW : ∀ (σ : zT) (j : Nat), zGd G σ → CSys G σ c → j < kN c → kN c ≤ f + j → zCall G I_X1_contentWidth (d - 1) [.ref (kA c (rB j)), .int (bI least)] σ (fun o σ' => o = .inl (some (.int (cCW f c j least))) ∧ zX G S0 σ σ' (KW f c j))) : zCall G I_X1_columnWidths d [.ref (kA c (rB i)), .int (bI least)] σ ((fun o σ' => ∃ wa, o = .inl (some (.ref wa)) ∧ sZ σ ≤ wa ∧ sF σ' wa = some (aI G m ((nums (kItemsOf c i) 0).foldl (colf c (fun j => cCW f c j least) (kF c i 15)) (fun _ => 0))) ∧ zX G S0 σ σ' (23 + 62 * (kCh c i).length + ((kItemsOf c i).map (fun j => KW f c j)).sum))) := by
  refine zCall_of (ls := [(0, .ref (kA c (rB i))), (1, .int (bI least))]) (by decide) (Nat.le_of_ble_eq_true rfl) rfl ?_
  refine zr_aload_n dX1_columnWidths_0 rfl rfl ?_
  refine zr_getN (k := 15) (v := .int (kF c i 15)) in_X2 (hS.bx hi) rfl (Nat.le_of_ble_eq_true rfl) q268 (.inl rfl) rfl dX1_columnWidths_1 ?_
  refine zr_eqi (z := (nI m)) (hcol) ?_
  refine zr_newaI (N' := m) 0 q1302 (nI_pos (by omega)) (nI_clamp (by omega)) (by omega) dX1_columnWidths_4 ?_
  refine zr_astore_n (ls2 := [(0, .ref (kA c (rB i))), (1, .int (bI least)), (2, .ref (sZ σ))]) dX1_columnWidths_6 rfl (Nat.le_of_ble_eq_true rfl) rfl ?_
  refine zr_aload_n dX1_columnWidths_7 rfl rfl ?_
  have hX0 := zX.new S0 hw 0 (by omega) (aI G m (fun _ => 0)) m
  have hS0 := hS.keep0 hw hX0
  obtain ⟨_, σ1, ⟨l, mod, rfl, hl, hL1, hX1⟩, hC⟩ := c_X1_items (d := d - 1) (by omega) hG hX0.gd hS0 hi
  have hX2 := hX0.trans hX1
  have hS1 := hS.keep0 hw hX2
  have hA1 := hX1.f hX0.gd (sF_newS _ _ _ _) (fun h => h)
  have hchl := hS.chl hi
  have hfl := List.length_filter_le (fun j => !kLifted c j) (kCh c i)
  refine zr_call1 (rest := []) (zs_S (As := [.ref (kA c (rB i))]) (by omega) ok_X1_items q1170 q1122 q53 q1123 rfl rfl (Nat.le_of_ble_eq_true rfl) dX1_columnWidths_8) hC ?_
  refine zr_astore_n (ls2 := [(0, .ref (kA c (rB i))), (1, .int (bI least)), (2, .ref (sZ σ)), (3, .ref l)]) dX1_columnWidths_11 rfl (Nat.le_of_ble_eq_true rfl) rfl ?_
  refine zr_iconst (v := 0) dX1_columnWidths_12 (by decide) ?_
  refine zr_istore (ls2 := [(0, .ref (kA c (rB i))), (1, .int (bI least)), (2, .ref (sZ σ)), (3, .ref l), (4, .int 0)]) dX1_columnWidths_13 (Nat.le_of_ble_eq_true rfl) rfl ?_
  refine l_X1_columnWidths (N := (m + 4 + (15 + 62 * (kCh c i).length)) + ((kItemsOf c i).map (fun j => KW f c j)).sum) (wa := sZ σ) (by omega) hG hw hS hi (fun j hj => ?_) (Nat.le_trans hfl hchl) hCW hm1 hm4 hcol (kItemsOf c i) 0 _ _ σ1 rfl (Nat.zero_le _) hX2 hL1 (Nat.le_refl _) hA1 (Nat.le_refl _) (fun σ2 h2 a2 => ⟨_, rfl, Nat.le_refl _, a2, h2.le (by omega)⟩)
  have h9 := hS.ch hi (List.mem_filter.mp hj).1
  exact ⟨h9.2, by omega⟩
