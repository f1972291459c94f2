/-! ===== the reference: area, filled, meanLine (rows printed by tools/p120.py) ===== -/
def nArea (c : zCS) : Nat × Value := if kLw c = 0 then (1, .null) else (0, .long ((List.range (kN c)).foldl (fun s j => s + (kP c j 2).toInt64 * (kP c j 3).toInt64) 0))
def nFil (c : zCS) : Nat × Value := if kLw c = 0 then (1, .null) else if kP c 0 2 * kP c 0 3 = 0 then (2, .null) else (0, .float (FP.fdiv (FP.i2f (pSum c * 10)) (FP.i2f (kP c 0 2 * kP c 0 3))))
def nMS (c : zCS) (p : Int32 × Int32) (j : Nat) : Int32 × Int32 := (p.1 + nI (kWd c j).length, p.2 + (if kLw c = 0 then 0 else nI (kLn c j).length))
def nMM (c : zCS) : Int32 × Int32 := (List.range (kN c)).foldl (nMS c) (0, 0)
def nMean (c : zCS) : Nat × Value := if kLw c = 0 then (1, .null) else if (nMM c).2 = 0 then (2, .null) else (0, .double (FP.ddiv (FP.i2d (nMM c).1) (FP.i2d (nMM c).2)))
set_option maxHeartbeats 4000000 in
theorem l_X4_area {G : zG} {σ : zT} {d N : Nat} {c : zCS} {th ct : Int32} {it : Nat} {Q : zO → zT → Prop} (hd : 12 ≤ d) (hG : zOk G) (hw : zGd G σ) (hS : MSys G σ c th ct) (hit : sZ σ ≤ it) : ∀ (ys : List Nat) (k n : Nat) (lr : Int32) (s : Int64) (σ1 : zT), (List.range (kN c)).drop k = ys → k ≤ kN c → zX G S0 σ σ1 n → n + 8 * ys.length ≤ N → sF σ1 it = some (.inr (21, [.int (nI k), .int lr, .int (kM c 2), .ref (kA c 2)])) → sT σ1 it = 0 → (∀ σ2, zX G S0 σ σ2 N → zR G yX4_area cX4_area 5 (Option.some Jvm.ClassFile.FieldType.long) [] d 65 [(0, .ref (kA c 1)), (1, .long (ys.foldl (fun s j => s + (kP c j 2).toInt64 * (kP c j 3).toInt64) s))] [] σ2 Q) → zR G yX4_area cX4_area 5 (Option.some Jvm.ClassFile.FieldType.long) [] d 26 [(0, .ref (kA c 1)), (1, .long s), (3, .ref it)] [] σ1 Q := by
  intro ys
  induction ys with
  | nil =>
    intro k n lr s σ1 hy hk hX hN hI hT kQ
    have hS1 := hS.keep0 hw hX
    have hL1 := hS1.bxL
    have hkl := drop_nil hy (by rw [List.length_range]; exact hk)
    rw [List.length_range] at hkl
    refine zr_aload_n dX4_area_26 rfl rfl ?_
    refine zr_call51 (rest := []) (zs_F (As := []) (by omega) okF_J23_hasNext (by decide +kernel) q2324 q927 q929 q84 q931 (.new hI) rfl rfl rfl (Nat.le_of_ble_eq_true rfl) dX4_area_27) (c_hasNext0 hL1 hI (by rw [List.length_map, List.length_range]; exact hkl)) ?_
    refine zr_if_eq (tgt := 65) dX4_area_32 (by decide) (fun _ => ?_) (fun h9 => absurd (rfl) h9)
    refine zr_sub (ls2 := [(0, .ref (kA c 1)), (1, .long s)]) [0, 1] rfl ?_
    exact kQ σ1 (hX.le (by simpa using hN))
  | cons i ys ih =>
    intro k n lr s σ1 hy hk hX hN hI hT kQ
    have hS1 := hS.keep0 hw hX
    have hL1 := hS1.bxL
    have hle := hS.le
    obtain ⟨hx, hy2, hkl, hm⟩ := drop_cons hy
    rw [List.length_range] at hkl
    have hi := List.mem_range.mp hm
    rw [List.length_cons] at hN
    have hX2 := hX.upN (gs := [.int (nI (k + 1)), .int (nI k), .int (kM c 2), .ref (kA c 2)]) hI hit
    have hI2 : sF (sUp σ1 it (.inr (21, [.int (nI (k + 1)), .int (nI k), .int (kM c 2), .ref (kA c 2)]))) it = _ := sF_upS _ _ _
    have hT2 : sT (sUp σ1 it (.inr (21, [.int (nI (k + 1)), .int (nI k), .int (kM c 2), .ref (kA c 2)]))) it = 0 := hT
    generalize hσ2 : sUp σ1 it (.inr (21, [.int (nI (k + 1)), .int (nI k), .int (kM c 2), .ref (kA c 2)])) = σ2 at hX2 hI2 hT2
    have hS2 := hS.keep0 hw hX2
    rw [List.foldl_cons] at kQ
    obtain ⟨flw, hflw⟩ := (hS2.wdL hi).A
    obtain ⟨mo, xs, l1, l2, -⟩ := hS2.lnL hi
    obtain ⟨fll, hfll⟩ := l1.A
    have hone2 := hS2.one
    refine zr_aload_n dX4_area_26 rfl rfl ?_
    refine zr_call51 (rest := []) (zs_F (As := []) (by omega) okF_J23_hasNext (by decide +kernel) q2324 q927 q929 q84 q931 (.new hI) rfl rfl rfl (Nat.le_of_ble_eq_true rfl) dX4_area_27) (c_hasNext1 hL1 hI (by rw [List.length_map, List.length_range]; exact hkl)) ?_
    refine zr_if_eq (tgt := 65) dX4_area_32 (by decide) (fun h9 => absurd h9 (by decide)) (fun _ => ?_)
    refine zr_aload_n dX4_area_35 rfl rfl ?_
    refine zr_call51 (rest := []) (zs_F (As := []) (by omega) okF_J23_next (by decide +kernel) q2326 q1044 q1046 q84 q1048 (.new hI) rfl rfl rfl (Nat.le_of_ble_eq_true rfl) dX4_area_36) (c_J23_next (by omega) hG hL1 hI (map_at (fun j => kA c (rB j)) hx)) ?_
    rw [hσ2]
    refine zr_castS (hS2.bx hi) rfl q2084 dX4_area_41 ?_
    refine zr_astore (ls2 := [(0, .ref (kA c 1)), (1, .long s), (3, .ref it), (4, .ref (kA c (rB i)))]) dX4_area_44 (Nat.le_of_ble_eq_true rfl) rfl ?_
    refine zr_lload_n dX4_area_46 rfl rfl ?_
    refine zr_aload dX4_area_47 rfl ?_
    refine zr_get (k := 29) (v := .int (kP c i 2)) in_X5 (hS2.bx hi) rfl (Nat.le_of_ble_eq_true rfl) q2151 (.inl rfl) rfl dX4_area_49 ?_
    refine zr_i2l (v := (Int32.toInt64 (kP c i 2))) dX4_area_52 rfl ?_
    refine zr_aload dX4_area_53 rfl ?_
    refine zr_get (k := 30) (v := .int (kP c i 3)) in_X5 (hS2.bx hi) rfl (Nat.le_of_ble_eq_true rfl) q2153 (.inl rfl) rfl dX4_area_55 ?_
    refine zr_i2l (v := (Int32.toInt64 (kP c i 3))) dX4_area_58 rfl ?_
    refine zr_lmul dX4_area_59 ?_
    refine zr_ladd dX4_area_60 ?_
    refine zr_lstore_n (ls2 := [(0, .ref (kA c 1)), (1, .long (s + ((Int32.toInt64 (kP c i 2)) * (Int32.toInt64 (kP c i 3))))), (3, .ref it), (4, .ref (kA c (rB i)))]) dX4_area_61 rfl (Nat.le_of_ble_eq_true rfl) rfl ?_
    refine zr_goto (tgt := 26) dX4_area_62 (by decide) ?_
    refine zr_sub (ls2 := [(0, .ref (kA c 1)), (1, .long (s + ((Int32.toInt64 (kP c i 2)) * (Int32.toInt64 (kP c i 3))))), (3, .ref it)]) [0, 1, 2] rfl ?_
    exact ih (k + 1) _ _ _ σ2 hy2 (by omega) hX2 (by omega) hI2 hT2 kQ
set_option maxHeartbeats 4000000 in
theorem c_X4_area {G : zG} {σ : zT} {d : Nat} {c : zCS} {th ct : Int32} (hd : 16 ≤ d) (hG : zOk G) (hw : zGd G σ) (hS : MSys G σ c th ct) : zCall G I_X4_area d [.ref (kA c 1)] σ ((fun o σ' => oM o (nArea c) ∧ MSys G σ' c (nI (nArea c).1) ct ∧ zX G SM σ σ' 220)) := by
  refine zCall_of (ls := [(0, .ref (kA c 1))]) (by decide) (Nat.le_of_ble_eq_true rfl) rfl ?_
  have hle := hS.le
  refine zr_aload_n dX4_area_0 rfl rfl ?_
  refine zr_aload_n dX4_area_1 rfl rfl ?_
  refine zr_get (k := 4) (v := .int (kLw c)) in_X4 hS.one rfl (Nat.le_of_ble_eq_true rfl) q2222 (.inl rfl) rfl dX4_area_2 ?_
  refine zr_if_eq (tgt := 12) dX4_area_5 (by decide) (fun h1 => ?_) (fun h1 => ?_)
  · rw [show nArea c = (1, .null) from if_pos (by first | exact h1 | exact Decidable.not_not.mp h1)]
    refine zr_iconst (v := 1) dX4_area_12 (by decide) ?_
    refine zr_put (k := 1) (fs' := (mO c 1 ct)) zt_X4 hS.1.1 rfl (Nat.le_of_ble_eq_true rfl) q2219 (.inl rfl) rfl rfl rfl (Nat.le_of_ble_eq_true rfl) rfl dX4_area_13 ?_
    have hS1 := hS.setT 1
    have hX1 := hS.XO hw (mO c 1 ct)
    generalize hσ1 : sUp σ (kA c 1) (.inr (4, mO c 1 ct)) = σ1 at hS1 hX1 ⊢
    have hone1 := hS1.one
    obtain ⟨fl_hfl1, hfl1⟩ := hS1.bxL.A
    refine zr_lconst (v := 0) dX4_area_16 rfl ?_
    refine zr_lstore_n (ls2 := [(0, .ref (kA c 1)), (1, .long 0)]) dX4_area_17 rfl (Nat.le_of_ble_eq_true rfl) rfl ?_
    refine zr_aload_n dX4_area_18 rfl rfl ?_
    refine zr_get (k := 0) (v := .ref (kA c 2)) in_X4 hone1 rfl (Nat.le_of_ble_eq_true rfl) q2218 (.inl rfl) rfl dX4_area_19 ?_
    refine zr_call1 (rest := []) (zs_V (As := []) (by omega) ok_J2_iterator q2322 q834 q2841 q56 q836 rfl hfl1 rfl rfl rfl (Nat.le_of_ble_eq_true rfl) dX4_area_22) (c_J2_iterator (by omega) hX1.gd.1 hS1.bxL) ?_
    refine zr_astore_n (ls2 := [(0, .ref (kA c 1)), (1, .long 0), (3, .ref (sZ σ1))]) dX4_area_25 rfl (Nat.le_of_ble_eq_true rfl) rfl ?_
    have hXi := zX.new S0 hX1.gd 0 (by omega) (.inr (21, [.int 0, .int (-1), .int (kM c 2), .ref (kA c 2)])) 4
    refine l_X4_area (N := 8 + 8 * 24) (by omega) hG hX1.gd hS1 (Nat.le_refl _) (List.range (kN c)) 0 _ (-1) 0 _ rfl (Nat.zero_le _) hXi (by rw [List.length_range]; omega) (sF_newS _ _ _ _) (sT_newS _ _ _ _) (fun σ3 hY => ?_)
    have hS3 := hS1.keep0 hX1.gd hY
    have hX3 := hX1.trans hY.in
    have hone3 := hS3.one
    show zR G yX4_area cX4_area 5 (Option.some Jvm.ClassFile.FieldType.long) [] d 65 [(0, .ref (kA c 1)), (1, .long ((List.range (kN c)).foldl (fun s j => s + (kP c j 2).toInt64 * (kP c j 3).toInt64) 0))] [] σ3 _
    refine zr_aload_n dX4_area_65 rfl rfl ?_
    refine zr_get (k := 1) (v := .int 1) in_X4 hone3 rfl (Nat.le_of_ble_eq_true rfl) q2219 (.inl rfl) rfl dX4_area_66 ?_
    refine zr_if_le (tgt := 76) dX4_area_69 (by decide) (fun h9 => absurd h9 (by decide)) (fun _ => ?_)
    refine zr_lconst (v := 0) dX4_area_72 rfl ?_
    refine zr_goto (tgt := 77) dX4_area_73 (by decide) ?_
    exact zr_lret rfl dX4_area_77 (⟨⟨_, rfl, fun h => by cases h⟩, hS3, hX3.le (by omega)⟩)
  · rw [show nArea c = (0, .long ((List.range (kN c)).foldl (fun s j => s + (kP c j 2).toInt64 * (kP c j 3).toInt64) 0)) from if_neg (by first | exact h1 | exact fun h => h1 h)]
    refine zr_iconst (v := 0) dX4_area_8 (by decide) ?_
    refine zr_goto (tgt := 13) dX4_area_9 (by decide) ?_
    refine zr_put (k := 1) (fs' := (mO c 0 ct)) zt_X4 hS.1.1 rfl (Nat.le_of_ble_eq_true rfl) q2219 (.inl rfl) rfl rfl rfl (Nat.le_of_ble_eq_true rfl) rfl dX4_area_13 ?_
    have hS1 := hS.setT 0
    have hX1 := hS.XO hw (mO c 0 ct)
    generalize hσ1 : sUp σ (kA c 1) (.inr (4, mO c 0 ct)) = σ1 at hS1 hX1 ⊢
    have hone1 := hS1.one
    obtain ⟨fl_hfl1, hfl1⟩ := hS1.bxL.A
    refine zr_lconst (v := 0) dX4_area_16 rfl ?_
    refine zr_lstore_n (ls2 := [(0, .ref (kA c 1)), (1, .long 0)]) dX4_area_17 rfl (Nat.le_of_ble_eq_true rfl) rfl ?_
    refine zr_aload_n dX4_area_18 rfl rfl ?_
    refine zr_get (k := 0) (v := .ref (kA c 2)) in_X4 hone1 rfl (Nat.le_of_ble_eq_true rfl) q2218 (.inl rfl) rfl dX4_area_19 ?_
    refine zr_call1 (rest := []) (zs_V (As := []) (by omega) ok_J2_iterator q2322 q834 q2841 q56 q836 rfl hfl1 rfl rfl rfl (Nat.le_of_ble_eq_true rfl) dX4_area_22) (c_J2_iterator (by omega) hX1.gd.1 hS1.bxL) ?_
    refine zr_astore_n (ls2 := [(0, .ref (kA c 1)), (1, .long 0), (3, .ref (sZ σ1))]) dX4_area_25 rfl (Nat.le_of_ble_eq_true rfl) rfl ?_
    have hXi := zX.new S0 hX1.gd 0 (by omega) (.inr (21, [.int 0, .int (-1), .int (kM c 2), .ref (kA c 2)])) 4
    refine l_X4_area (N := 8 + 8 * 24) (by omega) hG hX1.gd hS1 (Nat.le_refl _) (List.range (kN c)) 0 _ (-1) 0 _ rfl (Nat.zero_le _) hXi (by rw [List.length_range]; omega) (sF_newS _ _ _ _) (sT_newS _ _ _ _) (fun σ3 hY => ?_)
    have hS3 := hS1.keep0 hX1.gd hY
    have hX3 := hX1.trans hY.in
    have hone3 := hS3.one
    show zR G yX4_area cX4_area 5 (Option.some Jvm.ClassFile.FieldType.long) [] d 65 [(0, .ref (kA c 1)), (1, .long ((List.range (kN c)).foldl (fun s j => s + (kP c j 2).toInt64 * (kP c j 3).toInt64) 0))] [] σ3 _
    refine zr_aload_n dX4_area_65 rfl rfl ?_
    refine zr_get (k := 1) (v := .int 0) in_X4 hone3 rfl (Nat.le_of_ble_eq_true rfl) q2219 (.inl rfl) rfl dX4_area_66 ?_
    refine zr_if_le (tgt := 76) dX4_area_69 (by decide) (fun _ => ?_) (fun h9 => absurd (by decide) h9)
    refine zr_lload_n dX4_area_76 rfl rfl ?_
    exact zr_lret rfl dX4_area_77 (⟨⟨_, rfl, fun _ => rfl⟩, hS3, hX3.le (by omega)⟩)
set_option maxHeartbeats 4000000 in
theorem l_X4_mean {G : zG} {σ : zT} {d N : Nat} {c : zCS} {th ct : Int32} {it : Nat} {Q : zO → zT → Prop} (hd : 12 ≤ d) (hG : zOk G) (hw : zGd G σ) (hS : MSys G σ c th ct) (hit : sZ σ ≤ it) : ∀ (ys : List Nat) (k n : Nat) (lr : Int32) (s : Int32 × Int32) (σ1 : zT), (List.range (kN c)).drop k = ys → k ≤ kN c → zX G S0 σ σ1 n → n + 8 * ys.length ≤ N → sF σ1 it = some (.inr (21, [.int (nI k), .int lr, .int (kM c 2), .ref (kA c 2)])) → sT σ1 it = 0 → (∀ σ2, zX G S0 σ σ2 N → zR G yX4_meanLine cX4_meanLine 5 (Option.some Jvm.ClassFile.FieldType.double) [] d 68 [(0, .ref (kA c 1)), (1, .int (ys.foldl (nMS c) s).1), (2, .int (ys.foldl (nMS c) s).2)] [] σ2 Q) → zR G yX4_meanLine cX4_meanLine 5 (Option.some Jvm.ClassFile.FieldType.double) [] d 12 [(0, .ref (kA c 1)), (1, .int s.1), (2, .int s.2), (3, .ref it)] [] σ1 Q := by
  intro ys
  induction ys with
  | nil =>
    intro k n lr s σ1 hy hk hX hN hI hT kQ
    have hS1 := hS.keep0 hw hX
    have hL1 := hS1.bxL
    have hkl := drop_nil hy (by rw [List.length_range]; exact hk)
    rw [List.length_range] at hkl
    refine zr_aload_n dX4_meanLine_12 rfl rfl ?_
    refine zr_call51 (rest := []) (zs_F (As := []) (by omega) okF_J23_hasNext (by decide +kernel) q2324 q927 q929 q84 q931 (.new hI) rfl rfl rfl (Nat.le_of_ble_eq_true rfl) dX4_meanLine_13) (c_hasNext0 hL1 hI (by rw [List.length_map, List.length_range]; exact hkl)) ?_
    refine zr_if_eq (tgt := 68) dX4_meanLine_18 (by decide) (fun _ => ?_) (fun h9 => absurd (rfl) h9)
    refine zr_sub (ls2 := [(0, .ref (kA c 1)), (1, .int s.1), (2, .int s.2)]) [0, 1, 2] rfl ?_
    exact kQ σ1 (hX.le (by simpa using hN))
  | cons i ys ih =>
    intro k n lr s σ1 hy hk hX hN hI hT kQ
    have hS1 := hS.keep0 hw hX
    have hL1 := hS1.bxL
    have hle := hS.le
    obtain ⟨hx, hy2, hkl, hm⟩ := drop_cons hy
    rw [List.length_range] at hkl
    have hi := List.mem_range.mp hm
    rw [List.length_cons] at hN
    have hX2 := hX.upN (gs := [.int (nI (k + 1)), .int (nI k), .int (kM c 2), .ref (kA c 2)]) hI hit
    have hI2 : sF (sUp σ1 it (.inr (21, [.int (nI (k + 1)), .int (nI k), .int (kM c 2), .ref (kA c 2)]))) it = _ := sF_upS _ _ _
    have hT2 : sT (sUp σ1 it (.inr (21, [.int (nI (k + 1)), .int (nI k), .int (kM c 2), .ref (kA c 2)]))) it = 0 := hT
    generalize hσ2 : sUp σ1 it (.inr (21, [.int (nI (k + 1)), .int (nI k), .int (kM c 2), .ref (kA c 2)])) = σ2 at hX2 hI2 hT2
    have hS2 := hS.keep0 hw hX2
    rw [List.foldl_cons] at kQ
    obtain ⟨flw, hflw⟩ := (hS2.wdL hi).A
    obtain ⟨mo, xs, l1, l2, -⟩ := hS2.lnL hi
    obtain ⟨fll, hfll⟩ := l1.A
    have hone2 := hS2.one
    refine zr_aload_n dX4_meanLine_12 rfl rfl ?_
    refine zr_call51 (rest := []) (zs_F (As := []) (by omega) okF_J23_hasNext (by decide +kernel) q2324 q927 q929 q84 q931 (.new hI) rfl rfl rfl (Nat.le_of_ble_eq_true rfl) dX4_meanLine_13) (c_hasNext1 hL1 hI (by rw [List.length_map, List.length_range]; exact hkl)) ?_
    refine zr_if_eq (tgt := 68) dX4_meanLine_18 (by decide) (fun h9 => absurd h9 (by decide)) (fun _ => ?_)
    refine zr_aload_n dX4_meanLine_21 rfl rfl ?_
    refine zr_call51 (rest := []) (zs_F (As := []) (by omega) okF_J23_next (by decide +kernel) q2326 q1044 q1046 q84 q1048 (.new hI) rfl rfl rfl (Nat.le_of_ble_eq_true rfl) dX4_meanLine_22) (c_J23_next (by omega) hG hL1 hI (map_at (fun j => kA c (rB j)) hx)) ?_
    rw [hσ2]
    refine zr_castS (hS2.bx hi) rfl q2084 dX4_meanLine_27 ?_
    refine zr_astore (ls2 := [(0, .ref (kA c 1)), (1, .int s.1), (2, .int s.2), (3, .ref it), (4, .ref (kA c (rB i)))]) dX4_meanLine_30 (Nat.le_of_ble_eq_true rfl) rfl ?_
    refine zr_iload_n dX4_meanLine_32 rfl rfl ?_
    refine zr_aload dX4_meanLine_33 rfl ?_
    refine zr_get (k := 5) (v := .ref (kA c (rW i))) in_X5 (hS2.bx hi) rfl (Nat.le_of_ble_eq_true rfl) q2103 (.inl rfl) rfl dX4_meanLine_35 ?_
    refine zr_call1 (rest := [.int s.1]) (zs_V (As := []) (by omega) ok_J2_size q2246 q164 q2839 q56 q166 rfl hflw rfl rfl rfl (Nat.le_of_ble_eq_true rfl) dX4_meanLine_38) (c_size (m := (kWd c i).length) (by omega) (hS2.wdL hi) (List.length_map _)) ?_
    refine zr_iadd dX4_meanLine_41 ?_
    refine zr_istore_n (ls2 := [(0, .ref (kA c 1)), (1, .int (s.1 + (nI (kWd c i).length))), (2, .int s.2), (3, .ref it), (4, .ref (kA c (rB i)))]) dX4_meanLine_42 rfl (Nat.le_of_ble_eq_true rfl) rfl ?_
    refine zr_iload_n dX4_meanLine_43 rfl rfl ?_
    refine zr_aload_n dX4_meanLine_44 rfl rfl ?_
    refine zr_get (k := 4) (v := .int (kLw c)) in_X4 hone2 rfl (Nat.le_of_ble_eq_true rfl) q2222 (.inl rfl) rfl dX4_meanLine_45 ?_
    refine zr_if_eq (tgt := 62) dX4_meanLine_48 (by decide) (fun h1 => ?_) (fun h1 => ?_)
    · have e9 : nMS c s i = (s.1 + nI (kWd c i).length, s.2 + 0) := by unfold nMS; rw [if_pos (by first | exact h1 | exact Decidable.not_not.mp h1)]
      rw [e9] at kQ
      refine zr_iconst (v := 0) dX4_meanLine_62 (by decide) ?_
      refine zr_iadd dX4_meanLine_63 ?_
      refine zr_istore_n (ls2 := [(0, .ref (kA c 1)), (1, .int (s.1 + (nI (kWd c i).length))), (2, .int (s.2 + 0)), (3, .ref it), (4, .ref (kA c (rB i)))]) dX4_meanLine_64 rfl (Nat.le_of_ble_eq_true rfl) rfl ?_
      refine zr_goto (tgt := 12) dX4_meanLine_65 (by decide) ?_
      refine zr_sub (ls2 := [(0, .ref (kA c 1)), (1, .int (s.1 + (nI (kWd c i).length))), (2, .int (s.2 + 0)), (3, .ref it)]) [0, 1, 2, 3] rfl ?_
      exact ih (k + 1) _ _ (s.1 + nI (kWd c i).length, s.2 + 0) σ2 hy2 (by omega) hX2 (by omega) hI2 hT2 kQ
    · have e9 : nMS c s i = (s.1 + nI (kWd c i).length, s.2 + nI (kLn c i).length) := by unfold nMS; rw [if_neg (by first | exact h1 | exact fun h => h1 h)]
      rw [e9] at kQ
      refine zr_aload dX4_meanLine_51 rfl ?_
      refine zr_get (k := 6) (v := .ref (kA c (rL i))) in_X5 (hS2.bx hi) rfl (Nat.le_of_ble_eq_true rfl) q2105 (.inl rfl) rfl dX4_meanLine_53 ?_
      refine zr_call1 (rest := [.int s.2]) (zs_V (As := []) (by omega) ok_J2_size q2246 q164 q2839 q56 q166 rfl hfll rfl rfl rfl (Nat.le_of_ble_eq_true rfl) dX4_meanLine_56) (c_size (by omega) l1 l2) ?_
      refine zr_goto (tgt := 63) dX4_meanLine_59 (by decide) ?_
      refine zr_iadd dX4_meanLine_63 ?_
      refine zr_istore_n (ls2 := [(0, .ref (kA c 1)), (1, .int (s.1 + (nI (kWd c i).length))), (2, .int (s.2 + (nI (kLn c i).length))), (3, .ref it), (4, .ref (kA c (rB i)))]) dX4_meanLine_64 rfl (Nat.le_of_ble_eq_true rfl) rfl ?_
      refine zr_goto (tgt := 12) dX4_meanLine_65 (by decide) ?_
      refine zr_sub (ls2 := [(0, .ref (kA c 1)), (1, .int (s.1 + (nI (kWd c i).length))), (2, .int (s.2 + (nI (kLn c i).length))), (3, .ref it)]) [0, 1, 2, 3] rfl ?_
      exact ih (k + 1) _ _ (s.1 + nI (kWd c i).length, s.2 + nI (kLn c i).length) σ2 hy2 (by omega) hX2 (by omega) hI2 hT2 kQ
set_option maxHeartbeats 4000000 in
theorem c_X4_meanLine {G : zG} {σ : zT} {d : Nat} {c : zCS} {th ct : Int32} (hd : 16 ≤ d) (hG : zOk G) (hw : zGd G σ) (hS : MSys G σ c th ct) : zCall G I_X4_meanLine d [.ref (kA c 1)] σ ((fun o σ' => oM o (nMean c) ∧ MSys G σ' c (nI (nMean c).1) ct ∧ zX G SM σ σ' 220)) := by
  refine zCall_of (ls := [(0, .ref (kA c 1))]) (by decide) (Nat.le_of_ble_eq_true rfl) rfl ?_
  have hle := hS.le
  have hX0 := zX.rf S0 hw 0
  obtain ⟨fl_hfl, hfl⟩ := hS.bxL.A
  refine zr_iconst (v := 0) dX4_meanLine_0 (by decide) ?_
  refine zr_istore_n (ls2 := [(0, .ref (kA c 1)), (1, .int 0)]) dX4_meanLine_1 rfl (Nat.le_of_ble_eq_true rfl) rfl ?_
  refine zr_iconst (v := 0) dX4_meanLine_2 (by decide) ?_
  refine zr_istore_n (ls2 := [(0, .ref (kA c 1)), (1, .int 0), (2, .int 0)]) dX4_meanLine_3 rfl (Nat.le_of_ble_eq_true rfl) rfl ?_
  refine zr_aload_n dX4_meanLine_4 rfl rfl ?_
  refine zr_get (k := 0) (v := .ref (kA c 2)) in_X4 hS.one rfl (Nat.le_of_ble_eq_true rfl) q2218 (.inl rfl) rfl dX4_meanLine_5 ?_
  refine zr_call1 (rest := []) (zs_V (As := []) (by omega) ok_J2_iterator q2322 q834 q2841 q56 q836 rfl hfl rfl rfl rfl (Nat.le_of_ble_eq_true rfl) dX4_meanLine_8) (c_J2_iterator (by omega) hX0.gd.1 hS.bxL) ?_
  refine zr_astore_n (ls2 := [(0, .ref (kA c 1)), (1, .int 0), (2, .int 0), (3, .ref (sZ σ))]) dX4_meanLine_11 rfl (Nat.le_of_ble_eq_true rfl) rfl ?_
  have hXi := zX.new S0 hX0.gd 0 (by omega) (.inr (21, [.int 0, .int (-1), .int (kM c 2), .ref (kA c 2)])) 4
  refine l_X4_mean (N := 8 + 8 * 24) (by omega) hG hX0.gd hS (Nat.le_refl _) (List.range (kN c)) 0 _ (-1) (0, 0) _ rfl (Nat.zero_le _) hXi (by rw [List.length_range]; omega) (sF_newS _ _ _ _) (sT_newS _ _ _ _) (fun σ3 hY => ?_)
  have hS3 := hS.keep0 hX0.gd hY
  have hX3 := hX0.trans hY.in
  have hone3 := hS3.one
  show zR G yX4_meanLine cX4_meanLine 5 (Option.some Jvm.ClassFile.FieldType.double) [] d 68 [(0, .ref (kA c 1)), (1, .int (nMM c).1), (2, .int (nMM c).2)] [] σ3 _
  refine zr_aload_n dX4_meanLine_68 rfl rfl ?_
  refine zr_aload_n dX4_meanLine_69 rfl rfl ?_
  refine zr_get (k := 4) (v := .int (kLw c)) in_X4 hone3 rfl (Nat.le_of_ble_eq_true rfl) q2222 (.inl rfl) rfl dX4_meanLine_70 ?_
  refine zr_if_ne (tgt := 80) dX4_meanLine_73 (by decide) (fun h1 => ?_) (fun h1 => ?_)
  · refine zr_iload_n dX4_meanLine_80 rfl rfl ?_
    refine zr_if_ne (tgt := 88) dX4_meanLine_81 (by decide) (fun h2 => ?_) (fun h2 => ?_)
    · rw [show nMean c = _ from (if_neg (by first | exact h1 | exact fun h => h1 h)).trans (if_neg h2)]
      refine zr_iconst (v := 0) dX4_meanLine_88 (by decide) ?_
      refine zr_put (k := 1) (fs' := (mO c 0 ct)) zt_X4 hS3.1.1 rfl (Nat.le_of_ble_eq_true rfl) q2219 (.inl rfl) rfl rfl rfl (Nat.le_of_ble_eq_true rfl) rfl dX4_meanLine_89 ?_
      refine zr_aload_n dX4_meanLine_92 rfl rfl ?_
      refine zr_get (k := 1) (v := .int 0) in_X4 (.new (sF_upS _ _ _)) rfl (Nat.le_of_ble_eq_true rfl) q2219 (.inl rfl) rfl dX4_meanLine_93 ?_
      refine zr_if_le (tgt := 103) dX4_meanLine_96 (by decide) (fun _ => ?_) (fun h9 => absurd (by decide) h9)
      refine zr_iload_n dX4_meanLine_103 rfl rfl ?_
      refine zr_i2d dX4_meanLine_104 ?_
      refine zr_iload_n dX4_meanLine_105 rfl rfl ?_
      refine zr_i2d dX4_meanLine_106 ?_
      refine zr_ddiv dX4_meanLine_107 (nn64 _ h2) ?_
      exact zr_dret rfl dX4_meanLine_108 ⟨⟨_, rfl, fun _ => rfl⟩, hS3.setT 0, (hX3.in.trans (hS3.XO hX3.gd _)).le (by omega)⟩
    · rw [show nMean c = (2, .null) from (if_neg (by first | exact h1 | exact fun h => h1 h)).trans (if_pos (by first | exact h2 | exact Decidable.not_not.mp h2))]
      refine zr_iconst (v := 2) dX4_meanLine_84 (by decide) ?_
      refine zr_goto (tgt := 89) dX4_meanLine_85 (by decide) ?_
      refine zr_put (k := 1) (fs' := (mO c 2 ct)) zt_X4 hS3.1.1 rfl (Nat.le_of_ble_eq_true rfl) q2219 (.inl rfl) rfl rfl rfl (Nat.le_of_ble_eq_true rfl) rfl dX4_meanLine_89 ?_
      refine zr_aload_n dX4_meanLine_92 rfl rfl ?_
      refine zr_get (k := 1) (v := .int 2) in_X4 (.new (sF_upS _ _ _)) rfl (Nat.le_of_ble_eq_true rfl) q2219 (.inl rfl) rfl dX4_meanLine_93 ?_
      refine zr_if_le (tgt := 103) dX4_meanLine_96 (by decide) (fun h9 => absurd h9 (by decide)) (fun _ => ?_)
      refine zr_dconst0 dX4_meanLine_99 ?_
      refine zr_goto (tgt := 108) dX4_meanLine_100 (by decide) ?_
      exact zr_dret rfl dX4_meanLine_108 ⟨⟨_, rfl, fun h => by cases h⟩, hS3.setT 2, (hX3.in.trans (hS3.XO hX3.gd _)).le (by omega)⟩
  · rw [show nMean c = (1, .null) from if_pos (by first | exact h1 | exact Decidable.not_not.mp h1)]
    refine zr_iconst (v := 1) dX4_meanLine_76 (by decide) ?_
    refine zr_goto (tgt := 89) dX4_meanLine_77 (by decide) ?_
    refine zr_put (k := 1) (fs' := (mO c 1 ct)) zt_X4 hS3.1.1 rfl (Nat.le_of_ble_eq_true rfl) q2219 (.inl rfl) rfl rfl rfl (Nat.le_of_ble_eq_true rfl) rfl dX4_meanLine_89 ?_
    refine zr_aload_n dX4_meanLine_92 rfl rfl ?_
    refine zr_get (k := 1) (v := .int 1) in_X4 (.new (sF_upS _ _ _)) rfl (Nat.le_of_ble_eq_true rfl) q2219 (.inl rfl) rfl dX4_meanLine_93 ?_
    refine zr_if_le (tgt := 103) dX4_meanLine_96 (by decide) (fun h9 => absurd h9 (by decide)) (fun _ => ?_)
    refine zr_dconst0 dX4_meanLine_99 ?_
    refine zr_goto (tgt := 108) dX4_meanLine_100 (by decide) ?_
    exact zr_dret rfl dX4_meanLine_108 ⟨⟨_, rfl, fun h => by cases h⟩, hS3.setT 1, (hX3.in.trans (hS3.XO hX3.gd _)).le (by omega)⟩
set_option maxHeartbeats 4000000 in
theorem l_X4_filW {G : zG} {σ : zT} {d : Nat} {c : zCS} {th ct wh : Int32} {i it iw m : Nat} {Q : zO → zT → Prop} (hd : 6 ≤ d) (hG : zOk G) (hw : zGd G σ) (hS : MSys G σ c th ct) (hi : i < kN c) (hit : sZ σ ≤ iw) : ∀ (ys : List Int32) (k : Nat) (lr s : Int32) (σ1 : zT), (kWd c i).drop k = ys → k ≤ (kWd c i).length → zX G S0 σ σ1 m → sF σ1 iw = some (.inr (21, [.int (nI k), .int lr, .int (kM c (rW i)), .ref (kA c (rW i))])) → (∀ σ2, zX G S0 σ σ2 m → zR G yX4_filled cX4_filled 7 (Option.some Jvm.ClassFile.FieldType.float) [] d 64 [(0, .ref (kA c 1)), (1, .int wh), (2, .int (ys.foldl (fun a v => a + v) s)), (3, .ref it)] [] σ2 Q) → zR G yX4_filled cX4_filled 7 (Option.some Jvm.ClassFile.FieldType.float) [] d 94 [(0, .ref (kA c 1)), (1, .int wh), (2, .int s), (3, .ref it), (5, .ref iw)] [] σ1 Q := by
  intro ys
  induction ys with
  | nil =>
    intro k lr s σ1 hy hk hX hI kQ
    have hS1 := hS.keep0 hw hX
    have hkl := drop_nil hy hk
    refine zr_aload dX4_filled_94 rfl ?_
    refine zr_call51 (rest := []) (zs_F (As := []) (by omega) okF_J23_hasNext (by decide +kernel) q2324 q927 q929 q84 q931 (.new hI) rfl rfl rfl (Nat.le_of_ble_eq_true rfl) dX4_filled_96) (c_hasNext0 (hS1.wdL hi) hI (by rw [List.length_map]; exact hkl)) ?_
    refine zr_if_eq (tgt := 127) dX4_filled_101 (by decide) (fun _ => ?_) (fun h9 => absurd (rfl) h9)
    refine zr_goto (tgt := 64) dX4_filled_127 (by decide) ?_
    refine zr_sub (ls2 := [(0, .ref (kA c 1)), (1, .int wh), (2, .int s), (3, .ref it)]) [0, 1, 2, 3] rfl ?_
    exact kQ σ1 hX
  | cons v ys ih =>
    intro k lr s σ1 hy hk hX hI kQ
    have hS1 := hS.keep0 hw hX
    obtain ⟨hx, hy2, hkl, hm⟩ := drop_cons hy
    obtain ⟨n, hn1, hn2, rfl⟩ := (hS.wd hi).2 v hm
    have hX2 := hX.upN (gs := [.int (nI (k + 1)), .int (nI k), .int (kM c (rW i)), .ref (kA c (rW i))]) hI hit
    have hI2 : sF (sUp σ1 iw (.inr (21, [.int (nI (k + 1)), .int (nI k), .int (kM c (rW i)), .ref (kA c (rW i))]))) iw = _ := sF_upS _ _ _
    generalize hσ2 : sUp σ1 iw (.inr (21, [.int (nI (k + 1)), .int (nI k), .int (kM c (rW i)), .ref (kA c (rW i))])) = σ2 at hX2 hI2
    rw [List.foldl_cons] at kQ
    refine zr_aload dX4_filled_94 rfl ?_
    refine zr_call51 (rest := []) (zs_F (As := []) (by omega) okF_J23_hasNext (by decide +kernel) q2324 q927 q929 q84 q931 (.new hI) rfl rfl rfl (Nat.le_of_ble_eq_true rfl) dX4_filled_96) (c_hasNext1 (hS1.wdL hi) hI (by rw [List.length_map]; exact hkl)) ?_
    refine zr_if_eq (tgt := 127) dX4_filled_101 (by decide) (fun h9 => absurd h9 (by decide)) (fun _ => ?_)
    refine zr_aload dX4_filled_104 rfl ?_
    refine zr_call51 (rest := []) (zs_F (As := []) (by omega) okF_J23_next (by decide +kernel) q2326 q1044 q1046 q84 q1048 (.new hI) rfl rfl rfl (Nat.le_of_ble_eq_true rfl) dX4_filled_106) (c_J23_next (by omega) hG (hS1.wdL hi) hI (map_at (zbx G) hx)) ?_
    rw [hσ2]
    refine zr_castS (zbx_at hG _ (by omega)) rfl q2327 dX4_filled_111 ?_
    refine zr_call1 (rest := []) (zs_V (As := []) (by omega) ok_J18_intValue q2328 q1155 q1156 q75 q1157 rfl (zbx_at hG _ (by omega)) rfl rfl rfl (Nat.le_of_ble_eq_true rfl) dX4_filled_114) (c_J18_intValue (zbx_at hG _ (by omega))) ?_
    refine zr_istore (ls2 := [(0, .ref (kA c 1)), (1, .int wh), (2, .int s), (3, .ref it), (5, .ref iw), (6, .int (nI n))]) dX4_filled_117 (Nat.le_of_ble_eq_true rfl) rfl ?_
    refine zr_iload_n dX4_filled_119 rfl rfl ?_
    refine zr_iload dX4_filled_120 rfl ?_
    refine zr_iadd dX4_filled_122 ?_
    refine zr_istore_n (ls2 := [(0, .ref (kA c 1)), (1, .int wh), (2, .int (s + (nI n))), (3, .ref it), (5, .ref iw), (6, .int (nI n))]) dX4_filled_123 rfl (Nat.le_of_ble_eq_true rfl) rfl ?_
    refine zr_goto (tgt := 94) dX4_filled_124 (by decide) ?_
    refine zr_sub (ls2 := [(0, .ref (kA c 1)), (1, .int wh), (2, .int (s + (nI n))), (3, .ref it), (5, .ref iw)]) [0, 1, 2, 3, 4] rfl ?_
    exact ih (k + 1) _ _ σ2 hy2 hkl hX2 hI2 kQ
set_option maxHeartbeats 4000000 in
theorem l_X4_fil {G : zG} {σ : zT} {d N : Nat} {c : zCS} {th ct : Int32} {it : Nat} {Q : zO → zT → Prop} {wh : Int32} (hd : 12 ≤ d) (hG : zOk G) (hw : zGd G σ) (hS : MSys G σ c th ct) (hit : sZ σ ≤ it) : ∀ (ys : List Nat) (k n : Nat) (lr : Int32) (s : Int32) (σ1 : zT), (List.range (kN c)).drop k = ys → k ≤ kN c → zX G S0 σ σ1 n → n + 8 * ys.length ≤ N → sF σ1 it = some (.inr (21, [.int (nI k), .int lr, .int (kM c 2), .ref (kA c 2)])) → sT σ1 it = 0 → (∀ σ2, zX G S0 σ σ2 N → zR G yX4_filled cX4_filled 7 (Option.some Jvm.ClassFile.FieldType.float) [] d 130 [(0, .ref (kA c 1)), (1, .int wh), (2, .int (ys.foldl (pSW c) s))] [] σ2 Q) → zR G yX4_filled cX4_filled 7 (Option.some Jvm.ClassFile.FieldType.float) [] d 64 [(0, .ref (kA c 1)), (1, .int wh), (2, .int s), (3, .ref it)] [] σ1 Q := by
  intro ys
  induction ys with
  | nil =>
    intro k n lr s σ1 hy hk hX hN hI hT kQ
    have hS1 := hS.keep0 hw hX
    have hL1 := hS1.bxL
    have hkl := drop_nil hy (by rw [List.length_range]; exact hk)
    rw [List.length_range] at hkl
    refine zr_aload_n dX4_filled_64 rfl rfl ?_
    refine zr_call51 (rest := []) (zs_F (As := []) (by omega) okF_J23_hasNext (by decide +kernel) q2324 q927 q929 q84 q931 (.new hI) rfl rfl rfl (Nat.le_of_ble_eq_true rfl) dX4_filled_65) (c_hasNext0 hL1 hI (by rw [List.length_map, List.length_range]; exact hkl)) ?_
    refine zr_if_eq (tgt := 130) dX4_filled_70 (by decide) (fun _ => ?_) (fun h9 => absurd (rfl) h9)
    refine zr_sub (ls2 := [(0, .ref (kA c 1)), (1, .int wh), (2, .int s)]) [0, 1, 2] rfl ?_
    exact kQ σ1 (hX.le (by simpa using hN))
  | cons i ys ih =>
    intro k n lr s σ1 hy hk hX hN hI hT kQ
    have hS1 := hS.keep0 hw hX
    have hL1 := hS1.bxL
    have hle := hS.le
    obtain ⟨hx, hy2, hkl, hm⟩ := drop_cons hy
    rw [List.length_range] at hkl
    have hi := List.mem_range.mp hm
    rw [List.length_cons] at hN
    have hX2 := hX.upN (gs := [.int (nI (k + 1)), .int (nI k), .int (kM c 2), .ref (kA c 2)]) hI hit
    have hI2 : sF (sUp σ1 it (.inr (21, [.int (nI (k + 1)), .int (nI k), .int (kM c 2), .ref (kA c 2)]))) it = _ := sF_upS _ _ _
    have hT2 : sT (sUp σ1 it (.inr (21, [.int (nI (k + 1)), .int (nI k), .int (kM c 2), .ref (kA c 2)]))) it = 0 := hT
    generalize hσ2 : sUp σ1 it (.inr (21, [.int (nI (k + 1)), .int (nI k), .int (kM c 2), .ref (kA c 2)])) = σ2 at hX2 hI2 hT2
    have hS2 := hS.keep0 hw hX2
    rw [List.foldl_cons] at kQ
    obtain ⟨flw, hflw⟩ := (hS2.wdL hi).A
    obtain ⟨mo, xs, l1, l2, -⟩ := hS2.lnL hi
    obtain ⟨fll, hfll⟩ := l1.A
    have hone2 := hS2.one
    refine zr_aload_n dX4_filled_64 rfl rfl ?_
    refine zr_call51 (rest := []) (zs_F (As := []) (by omega) okF_J23_hasNext (by decide +kernel) q2324 q927 q929 q84 q931 (.new hI) rfl rfl rfl (Nat.le_of_ble_eq_true rfl) dX4_filled_65) (c_hasNext1 hL1 hI (by rw [List.length_map, List.length_range]; exact hkl)) ?_
    refine zr_if_eq (tgt := 130) dX4_filled_70 (by decide) (fun h9 => absurd h9 (by decide)) (fun _ => ?_)
    refine zr_aload_n dX4_filled_73 rfl rfl ?_
    refine zr_call51 (rest := []) (zs_F (As := []) (by omega) okF_J23_next (by decide +kernel) q2326 q1044 q1046 q84 q1048 (.new hI) rfl rfl rfl (Nat.le_of_ble_eq_true rfl) dX4_filled_74) (c_J23_next (by omega) hG hL1 hI (map_at (fun j => kA c (rB j)) hx)) ?_
    rw [hσ2]
    refine zr_castS (hS2.bx hi) rfl q2084 dX4_filled_79 ?_
    refine zr_astore (ls2 := [(0, .ref (kA c 1)), (1, .int wh), (2, .int s), (3, .ref it), (4, .ref (kA c (rB i)))]) dX4_filled_82 (Nat.le_of_ble_eq_true rfl) rfl ?_
    refine zr_aload dX4_filled_84 rfl ?_
    refine zr_get (k := 5) (v := .ref (kA c (rW i))) in_X5 (hS2.bx hi) rfl (Nat.le_of_ble_eq_true rfl) q2103 (.inl rfl) rfl dX4_filled_86 ?_
    refine zr_call1 (rest := []) (zs_V (As := []) (by omega) ok_J2_iterator q2322 q834 q2841 q56 q836 rfl hflw rfl rfl rfl (Nat.le_of_ble_eq_true rfl) dX4_filled_89) (c_J2_iterator (by omega) hX2.gd.1 (hS2.wdL hi)) ?_
    refine zr_astore (ls2 := [(0, .ref (kA c 1)), (1, .int wh), (2, .int s), (3, .ref it), (4, .ref (kA c (rB i))), (5, .ref (sZ σ2))]) dX4_filled_92 (Nat.le_of_ble_eq_true rfl) rfl ?_
    refine zr_sub (ls2 := [(0, .ref (kA c 1)), (1, .int wh), (2, .int s), (3, .ref it), (5, .ref (sZ σ2))]) [0, 1, 2, 3, 5] rfl ?_
    have hXn := zX.new S0 hX2.gd 0 (by omega) (.inr (21, [.int 0, .int (-1), .int (kM c (rW i)), .ref (kA c (rW i))])) 4
    refine l_X4_filW (σ := σ2) (m := 8) (by omega) hG hX2.gd hS2 hi (Nat.le_refl _) (kWd c i) 0 (-1) s _ rfl (Nat.zero_le _) hXn (sF_newS _ _ _ _) (fun σ3 x3 => ?_)
    exact ih (k + 1) (n + 8) _ _ σ3 hy2 (by omega) (hX2.trans x3) (by omega) (x3.f hX2.gd hI2 (fun h => h)) ((x3.t hX2.gd hI2).trans hT2) kQ
set_option maxHeartbeats 4000000 in
theorem c_X4_filled {G : zG} {σ : zT} {d : Nat} {c : zCS} {th ct : Int32} (hd : 16 ≤ d) (hG : zOk G) (hw : zGd G σ) (hS : MSys G σ c th ct) (h0 : 0 < kN c) : zCall G I_X4_filled d [.ref (kA c 1)] σ ((fun o σ' => oM o (nFil c) ∧ MSys G σ' c (nI (nFil c).1) ct ∧ zX G SM σ σ' 220)) := by
  refine zCall_of (ls := [(0, .ref (kA c 1))]) (by decide) (Nat.le_of_ble_eq_true rfl) rfl ?_
  have hle := hS.le
  obtain ⟨fl_hfl, hfl⟩ := hS.bxL.A
  refine zr_aload_n dX4_filled_0 rfl rfl ?_
  refine zr_get (k := 0) (v := .ref (kA c 2)) in_X4 hS.one rfl (Nat.le_of_ble_eq_true rfl) q2218 (.inl rfl) rfl dX4_filled_1 ?_
  refine zr_iconst (v := 0) dX4_filled_4 (by decide) ?_
  refine zr_call1 (rest := []) (zs_V (As := [.int 0]) (by omega) ok_J2_get q2250 q959 q2840 q56 q960 rfl hfl rfl rfl rfl (Nat.le_of_ble_eq_true rfl) dX4_filled_5) (c_J2_get (i := 0) (by omega) hG hS.bxL (MSys.bxa h0)) ?_
  refine zr_castS (hS.bx h0) rfl q2084 dX4_filled_8 ?_
  refine zr_get (k := 29) (v := .int (kP c 0 2)) in_X5 (hS.bx h0) rfl (Nat.le_of_ble_eq_true rfl) q2151 (.inl rfl) rfl dX4_filled_11 ?_
  refine zr_aload_n dX4_filled_14 rfl rfl ?_
  refine zr_get (k := 0) (v := .ref (kA c 2)) in_X4 hS.one rfl (Nat.le_of_ble_eq_true rfl) q2218 (.inl rfl) rfl dX4_filled_15 ?_
  refine zr_iconst (v := 0) dX4_filled_18 (by decide) ?_
  refine zr_call1 (rest := [.int (kP c 0 2)]) (zs_V (As := [.int 0]) (by omega) ok_J2_get q2250 q959 q2840 q56 q960 rfl hfl rfl rfl rfl (Nat.le_of_ble_eq_true rfl) dX4_filled_19) (c_J2_get (i := 0) (by omega) hG hS.bxL (MSys.bxa h0)) ?_
  refine zr_castS (hS.bx h0) rfl q2084 dX4_filled_22 ?_
  refine zr_get (k := 30) (v := .int (kP c 0 3)) in_X5 (hS.bx h0) rfl (Nat.le_of_ble_eq_true rfl) q2153 (.inl rfl) rfl dX4_filled_25 ?_
  refine zr_imul dX4_filled_28 ?_
  refine zr_istore_n (ls2 := [(0, .ref (kA c 1)), (1, .int ((kP c 0 2) * (kP c 0 3)))]) dX4_filled_29 rfl (Nat.le_of_ble_eq_true rfl) rfl ?_
  refine zr_aload_n dX4_filled_30 rfl rfl ?_
  refine zr_aload_n dX4_filled_31 rfl rfl ?_
  refine zr_get (k := 4) (v := .int (kLw c)) in_X4 hS.one rfl (Nat.le_of_ble_eq_true rfl) q2222 (.inl rfl) rfl dX4_filled_32 ?_
  refine zr_if_ne (tgt := 42) dX4_filled_35 (by decide) (fun h1 => ?_) (fun h1 => ?_)
  · refine zr_iload_n dX4_filled_42 rfl rfl ?_
    refine zr_if_ne (tgt := 50) dX4_filled_43 (by decide) (fun h2 => ?_) (fun h2 => ?_)
    · rw [show nFil c = _ from (if_neg (by first | exact h1 | exact fun h => h1 h)).trans (if_neg h2)]
      refine zr_iconst (v := 0) dX4_filled_50 (by decide) ?_
      refine zr_put (k := 1) (fs' := (mO c 0 ct)) zt_X4 hS.1.1 rfl (Nat.le_of_ble_eq_true rfl) q2219 (.inl rfl) rfl rfl rfl (Nat.le_of_ble_eq_true rfl) rfl dX4_filled_51 ?_
      have hS1 := hS.setT 0
      have hX1 := hS.XO hw (mO c 0 ct)
      generalize hσ1 : sUp σ (kA c 1) (.inr (4, mO c 0 ct)) = σ1 at hS1 hX1 ⊢
      have hone1 := hS1.one
      obtain ⟨fl_hfl1, hfl1⟩ := hS1.bxL.A
      refine zr_iconst (v := 0) dX4_filled_54 (by decide) ?_
      refine zr_istore_n (ls2 := [(0, .ref (kA c 1)), (1, .int ((kP c 0 2) * (kP c 0 3))), (2, .int 0)]) dX4_filled_55 rfl (Nat.le_of_ble_eq_true rfl) rfl ?_
      refine zr_aload_n dX4_filled_56 rfl rfl ?_
      refine zr_get (k := 0) (v := .ref (kA c 2)) in_X4 hone1 rfl (Nat.le_of_ble_eq_true rfl) q2218 (.inl rfl) rfl dX4_filled_57 ?_
      refine zr_call1 (rest := []) (zs_V (As := []) (by omega) ok_J2_iterator q2322 q834 q2841 q56 q836 rfl hfl1 rfl rfl rfl (Nat.le_of_ble_eq_true rfl) dX4_filled_60) (c_J2_iterator (by omega) hX1.gd.1 hS1.bxL) ?_
      refine zr_astore_n (ls2 := [(0, .ref (kA c 1)), (1, .int ((kP c 0 2) * (kP c 0 3))), (2, .int 0), (3, .ref (sZ σ1))]) dX4_filled_63 rfl (Nat.le_of_ble_eq_true rfl) rfl ?_
      have hXi := zX.new S0 hX1.gd 0 (by omega) (.inr (21, [.int 0, .int (-1), .int (kM c 2), .ref (kA c 2)])) 4
      refine l_X4_fil (N := 8 + 8 * 24) (by omega) hG hX1.gd hS1 (Nat.le_refl _) (List.range (kN c)) 0 _ (-1) 0 _ rfl (Nat.zero_le _) hXi (by rw [List.length_range]; omega) (sF_newS _ _ _ _) (sT_newS _ _ _ _) (fun σ3 hY => ?_)
      have hS3 := hS1.keep0 hX1.gd hY
      have hX3 := hX1.trans hY.in
      have hone3 := hS3.one
      show zR G yX4_filled cX4_filled 7 (Option.some Jvm.ClassFile.FieldType.float) [] d 130 [(0, .ref (kA c 1)), (1, .int (kP c 0 2 * kP c 0 3)), (2, .int (pSum c))] [] σ3 _
      refine zr_aload_n dX4_filled_130 rfl rfl ?_
      refine zr_get (k := 1) (v := .int 0) in_X4 hone3 rfl (Nat.le_of_ble_eq_true rfl) q2219 (.inl rfl) rfl dX4_filled_131 ?_
      refine zr_if_le (tgt := 141) dX4_filled_134 (by decide) (fun _ => ?_) (fun h9 => absurd (by decide) h9)
      refine zr_iload_n dX4_filled_141 rfl rfl ?_
      refine zr_bipush (v := 10) dX4_filled_142 (by decide) ?_
      refine zr_imul dX4_filled_144 ?_
      refine zr_i2f dX4_filled_145 ?_
      refine zr_iload_n dX4_filled_146 rfl rfl ?_
      refine zr_i2f dX4_filled_147 ?_
      refine zr_fdiv dX4_filled_148 (nn32 _ h2) ?_
      exact zr_fret rfl dX4_filled_149 ⟨⟨_, rfl, fun _ => rfl⟩, hS3, hX3.le (by omega)⟩
    · rw [show nFil c = (2, .null) from (if_neg (by first | exact h1 | exact fun h => h1 h)).trans (if_pos (by first | exact h2 | exact Decidable.not_not.mp h2))]
      refine zr_iconst (v := 2) dX4_filled_46 (by decide) ?_
      refine zr_goto (tgt := 51) dX4_filled_47 (by decide) ?_
      refine zr_put (k := 1) (fs' := (mO c 2 ct)) zt_X4 hS.1.1 rfl (Nat.le_of_ble_eq_true rfl) q2219 (.inl rfl) rfl rfl rfl (Nat.le_of_ble_eq_true rfl) rfl dX4_filled_51 ?_
      have hS1 := hS.setT 2
      have hX1 := hS.XO hw (mO c 2 ct)
      generalize hσ1 : sUp σ (kA c 1) (.inr (4, mO c 2 ct)) = σ1 at hS1 hX1 ⊢
      have hone1 := hS1.one
      obtain ⟨fl_hfl1, hfl1⟩ := hS1.bxL.A
      refine zr_iconst (v := 0) dX4_filled_54 (by decide) ?_
      refine zr_istore_n (ls2 := [(0, .ref (kA c 1)), (1, .int ((kP c 0 2) * (kP c 0 3))), (2, .int 0)]) dX4_filled_55 rfl (Nat.le_of_ble_eq_true rfl) rfl ?_
      refine zr_aload_n dX4_filled_56 rfl rfl ?_
      refine zr_get (k := 0) (v := .ref (kA c 2)) in_X4 hone1 rfl (Nat.le_of_ble_eq_true rfl) q2218 (.inl rfl) rfl dX4_filled_57 ?_
      refine zr_call1 (rest := []) (zs_V (As := []) (by omega) ok_J2_iterator q2322 q834 q2841 q56 q836 rfl hfl1 rfl rfl rfl (Nat.le_of_ble_eq_true rfl) dX4_filled_60) (c_J2_iterator (by omega) hX1.gd.1 hS1.bxL) ?_
      refine zr_astore_n (ls2 := [(0, .ref (kA c 1)), (1, .int ((kP c 0 2) * (kP c 0 3))), (2, .int 0), (3, .ref (sZ σ1))]) dX4_filled_63 rfl (Nat.le_of_ble_eq_true rfl) rfl ?_
      have hXi := zX.new S0 hX1.gd 0 (by omega) (.inr (21, [.int 0, .int (-1), .int (kM c 2), .ref (kA c 2)])) 4
      refine l_X4_fil (N := 8 + 8 * 24) (by omega) hG hX1.gd hS1 (Nat.le_refl _) (List.range (kN c)) 0 _ (-1) 0 _ rfl (Nat.zero_le _) hXi (by rw [List.length_range]; omega) (sF_newS _ _ _ _) (sT_newS _ _ _ _) (fun σ3 hY => ?_)
      have hS3 := hS1.keep0 hX1.gd hY
      have hX3 := hX1.trans hY.in
      have hone3 := hS3.one
      show zR G yX4_filled cX4_filled 7 (Option.some Jvm.ClassFile.FieldType.float) [] d 130 [(0, .ref (kA c 1)), (1, .int (kP c 0 2 * kP c 0 3)), (2, .int (pSum c))] [] σ3 _
      refine zr_aload_n dX4_filled_130 rfl rfl ?_
      refine zr_get (k := 1) (v := .int 2) in_X4 hone3 rfl (Nat.le_of_ble_eq_true rfl) q2219 (.inl rfl) rfl dX4_filled_131 ?_
      refine zr_if_le (tgt := 141) dX4_filled_134 (by decide) (fun h9 => absurd h9 (by decide)) (fun _ => ?_)
      refine zr_fconst0 dX4_filled_137 ?_
      refine zr_goto (tgt := 149) dX4_filled_138 (by decide) ?_
      exact zr_fret rfl dX4_filled_149 ⟨⟨_, rfl, fun h => by cases h⟩, hS3, hX3.le (by omega)⟩
  · rw [show nFil c = (1, .null) from if_pos (by first | exact h1 | exact Decidable.not_not.mp h1)]
    refine zr_iconst (v := 1) dX4_filled_38 (by decide) ?_
    refine zr_goto (tgt := 51) dX4_filled_39 (by decide) ?_
    refine zr_put (k := 1) (fs' := (mO c 1 ct)) zt_X4 hS.1.1 rfl (Nat.le_of_ble_eq_true rfl) q2219 (.inl rfl) rfl rfl rfl (Nat.le_of_ble_eq_true rfl) rfl dX4_filled_51 ?_
    have hS1 := hS.setT 1
    have hX1 := hS.XO hw (mO c 1 ct)
    generalize hσ1 : sUp σ (kA c 1) (.inr (4, mO c 1 ct)) = σ1 at hS1 hX1 ⊢
    have hone1 := hS1.one
    obtain ⟨fl_hfl1, hfl1⟩ := hS1.bxL.A
    refine zr_iconst (v := 0) dX4_filled_54 (by decide) ?_
    refine zr_istore_n (ls2 := [(0, .ref (kA c 1)), (1, .int ((kP c 0 2) * (kP c 0 3))), (2, .int 0)]) dX4_filled_55 rfl (Nat.le_of_ble_eq_true rfl) rfl ?_
    refine zr_aload_n dX4_filled_56 rfl rfl ?_
    refine zr_get (k := 0) (v := .ref (kA c 2)) in_X4 hone1 rfl (Nat.le_of_ble_eq_true rfl) q2218 (.inl rfl) rfl dX4_filled_57 ?_
    refine zr_call1 (rest := []) (zs_V (As := []) (by omega) ok_J2_iterator q2322 q834 q2841 q56 q836 rfl hfl1 rfl rfl rfl (Nat.le_of_ble_eq_true rfl) dX4_filled_60) (c_J2_iterator (by omega) hX1.gd.1 hS1.bxL) ?_
    refine zr_astore_n (ls2 := [(0, .ref (kA c 1)), (1, .int ((kP c 0 2) * (kP c 0 3))), (2, .int 0), (3, .ref (sZ σ1))]) dX4_filled_63 rfl (Nat.le_of_ble_eq_true rfl) rfl ?_
    have hXi := zX.new S0 hX1.gd 0 (by omega) (.inr (21, [.int 0, .int (-1), .int (kM c 2), .ref (kA c 2)])) 4
    refine l_X4_fil (N := 8 + 8 * 24) (by omega) hG hX1.gd hS1 (Nat.le_refl _) (List.range (kN c)) 0 _ (-1) 0 _ rfl (Nat.zero_le _) hXi (by rw [List.length_range]; omega) (sF_newS _ _ _ _) (sT_newS _ _ _ _) (fun σ3 hY => ?_)
    have hS3 := hS1.keep0 hX1.gd hY
    have hX3 := hX1.trans hY.in
    have hone3 := hS3.one
    show zR G yX4_filled cX4_filled 7 (Option.some Jvm.ClassFile.FieldType.float) [] d 130 [(0, .ref (kA c 1)), (1, .int (kP c 0 2 * kP c 0 3)), (2, .int (pSum c))] [] σ3 _
    refine zr_aload_n dX4_filled_130 rfl rfl ?_
    refine zr_get (k := 1) (v := .int 1) in_X4 hone3 rfl (Nat.le_of_ble_eq_true rfl) q2219 (.inl rfl) rfl dX4_filled_131 ?_
    refine zr_if_le (tgt := 141) dX4_filled_134 (by decide) (fun h9 => absurd h9 (by decide)) (fun _ => ?_)
    refine zr_fconst0 dX4_filled_137 ?_
    refine zr_goto (tgt := 149) dX4_filled_138 (by decide) ?_
    exact zr_fret rfl dX4_filled_149 ⟨⟨_, rfl, fun h => by cases h⟩, hS3, hX3.le (by omega)⟩
