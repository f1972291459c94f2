/-! ===== the component: filled, meanLine (rows printed by tools/p94.py) ===== -/
def pSW (c : zCS) (s : Int32) (j : Nat) : Int32 := (kWd c j).foldl (fun a v => a + v) s
def pSum (c : zCS) : Int32 := (List.range (kN c)).foldl (pSW c) 0
def pFilled (c : zCS) : Nat × Value := if kLw c = -1 then (3, .null) else if kP c 0 2 * kP c 0 3 = 0 then (6, .null) else (0, .float (FP.fdiv (FP.i2f (10 * pSum c)) (FP.i2f (kP c 0 2 * kP c 0 3))))
def pMS (c : zCS) (p : Int32 × Int32) (j : Nat) : Int32 × Int32 := (p.1 + nI (kLn c j).length, p.2 + nI (kWd c j).length)
def pMM (c : zCS) : Int32 × Int32 := (List.range (kN c)).foldl (pMS c) (0, 0)
def pMean (c : zCS) : Nat × Value := if kLw c = -1 then (3, .null) else if (pMM c).1 = 0 then (6, .null) else (0, .double (FP.ddiv (FP.i2d (pMM c).2) (FP.i2d (pMM c).1)))
set_option maxHeartbeats 4000000 in
theorem l_X1_filW {G : zG} {σ : zT} {d : Nat} {c : zCS} {pl i it iw m : Nat} {Q : zO → zT → Prop} (hd : 6 ≤ d) (hG : zOk G) (hw : zGd G σ) (hS : CSys G σ c) (hi : i < kN c) (hit : sZ σ ≤ iw) : ∀ (ys : List Int32) (k : Nat) (lr s : Int32) (σ1 : zT), (kWd c i).drop k = ys → k ≤ (kWd c i).length → zX G S0 σ σ1 m → sF σ1 iw = some (.inr (21, [.int (nI k), .int lr, .int (kM c (rW i)), .ref (kA c (rW i))])) → (∀ σ2, zX G S0 σ σ2 m → zR G yX1_filled cX1_filled 7 (Option.some Jvm.ClassFile.FieldType.float) [] d 45 [(1, .ref pl), (2, .int (ys.foldl (fun a v => a + v) s)), (3, .ref it)] [] σ2 Q) → zR G yX1_filled cX1_filled 7 (Option.some Jvm.ClassFile.FieldType.float) [] d 77 [(1, .ref pl), (2, .int s), (3, .ref it), (5, .ref iw)] [] σ1 Q := by
  intro ys
  induction ys with
  | nil =>
    intro k lr s σ1 hy hk hX hI kQ
    have hS1 := hS.keep0 hw hX
    have hkl := drop_nil hy hk
    refine zr_aload dX1_filled_77 rfl ?_
    refine zr_call51 (rest := []) (zs_F (As := []) (by omega) okF_J23_hasNext (by decide +kernel) q916 q927 q929 q84 q931 (.new hI) rfl rfl rfl (Nat.le_of_ble_eq_true rfl) dX1_filled_79) (c_hasNext0 (hS1.wdL hi) hI (by rw [List.length_map]; exact hkl)) ?_
    refine zr_if_eq (tgt := 110) dX1_filled_84 (by decide) (fun _ => ?_) (fun h9 => absurd (rfl) h9)
    refine zr_goto (tgt := 45) dX1_filled_110 (by decide) ?_
    refine zr_sub (ls2 := [(1, .ref pl), (2, .int s), (3, .ref it)]) [0, 1, 2] rfl ?_
    exact kQ σ1 hX
  | cons v ys ih =>
    intro k lr s σ1 hy hk hX hI kQ
    have hS1 := hS.keep0 hw hX
    obtain ⟨hx, hy2, hkl, hm⟩ := drop_cons hy
    obtain ⟨n, hn1, hn2, rfl⟩ := (hS.wd hi).2 v hm
    have hX2 := hX.upN (gs := [.int (nI (k + 1)), .int (nI k), .int (kM c (rW i)), .ref (kA c (rW i))]) hI hit
    have hI2 : sF (sUp σ1 iw (.inr (21, [.int (nI (k + 1)), .int (nI k), .int (kM c (rW i)), .ref (kA c (rW i))]))) iw = _ := sF_upS _ _ _
    generalize hσ2 : sUp σ1 iw (.inr (21, [.int (nI (k + 1)), .int (nI k), .int (kM c (rW i)), .ref (kA c (rW i))])) = σ2 at hX2 hI2
    rw [List.foldl_cons] at kQ
    refine zr_aload dX1_filled_77 rfl ?_
    refine zr_call51 (rest := []) (zs_F (As := []) (by omega) okF_J23_hasNext (by decide +kernel) q916 q927 q929 q84 q931 (.new hI) rfl rfl rfl (Nat.le_of_ble_eq_true rfl) dX1_filled_79) (c_hasNext1 (hS1.wdL hi) hI (by rw [List.length_map]; exact hkl)) ?_
    refine zr_if_eq (tgt := 110) dX1_filled_84 (by decide) (fun h9 => absurd h9 (by decide)) (fun _ => ?_)
    refine zr_aload dX1_filled_87 rfl ?_
    refine zr_call51 (rest := []) (zs_F (As := []) (by omega) okF_J23_next (by decide +kernel) q942 q1044 q1046 q84 q1048 (.new hI) rfl rfl rfl (Nat.le_of_ble_eq_true rfl) dX1_filled_89) (c_J23_next (by omega) hG (hS1.wdL hi) hI (map_at (zbx G) hx)) ?_
    rw [hσ2]
    refine zr_castS (zbx_at hG _ (by omega)) rfl q1153 dX1_filled_94 ?_
    refine zr_call1 (rest := []) (zs_V (As := []) (by omega) ok_J18_intValue q1154 q1155 q1156 q75 q1157 rfl (zbx_at hG _ (by omega)) rfl rfl rfl (Nat.le_of_ble_eq_true rfl) dX1_filled_97) (c_J18_intValue (zbx_at hG _ (by omega))) ?_
    refine zr_istore (ls2 := [(1, .ref pl), (2, .int s), (3, .ref it), (5, .ref iw), (6, .int (nI n))]) dX1_filled_100 (Nat.le_of_ble_eq_true rfl) rfl ?_
    refine zr_iload_n dX1_filled_102 rfl rfl ?_
    refine zr_iload dX1_filled_103 rfl ?_
    refine zr_iadd dX1_filled_105 ?_
    refine zr_istore_n (ls2 := [(1, .ref pl), (2, .int (s + (nI n))), (3, .ref it), (5, .ref iw), (6, .int (nI n))]) dX1_filled_106 rfl (Nat.le_of_ble_eq_true rfl) rfl ?_
    refine zr_goto (tgt := 77) dX1_filled_107 (by decide) ?_
    refine zr_sub (ls2 := [(1, .ref pl), (2, .int (s + (nI n))), (3, .ref it), (5, .ref iw)]) [0, 1, 2, 3] rfl ?_
    exact ih (k + 1) _ _ σ2 hy2 hkl hX2 hI2 kQ
set_option maxHeartbeats 4000000 in
theorem l_X1_fil {G : zG} {σ : zT} {d : Nat} {c : zCS} {pl it N : Nat} {Q : zO → zT → Prop} (hd : 8 ≤ d) (hG : zOk G) (hw : zGd G σ) (hS : CSys G σ c) (hit : sZ σ ≤ it) : ∀ (ys : List Nat) (k m : Nat) (lr s : Int32) (σ1 : zT), (List.range (kN c)).drop k = ys → k ≤ kN c → zX G S0 σ σ1 m → m + 8 * ys.length ≤ N → sF σ1 it = some (.inr (21, [.int (nI k), .int lr, .int (kM c 2), .ref (kA c 2)])) → (∀ σ2, zX G S0 σ σ2 N → zR G yX1_filled cX1_filled 7 (Option.some Jvm.ClassFile.FieldType.float) [] d 113 [(1, .ref pl), (2, .int (ys.foldl (pSW c) s)), (3, .ref it)] [] σ2 Q) → zR G yX1_filled cX1_filled 7 (Option.some Jvm.ClassFile.FieldType.float) [] d 45 [(1, .ref pl), (2, .int s), (3, .ref it)] [] σ1 Q := by
  intro ys
  induction ys with
  | nil =>
    intro k m lr s σ1 hy hk hX hN hI kQ
    have hS1 := hS.keep0 hw hX
    have hkl := drop_nil hy (by rw [List.length_range]; exact hk)
    rw [List.length_range] at hkl
    refine zr_aload_n dX1_filled_45 rfl rfl ?_
    refine zr_call51 (rest := []) (zs_F (As := []) (by omega) okF_J23_hasNext (by decide +kernel) q916 q927 q929 q84 q931 (.new hI) rfl rfl rfl (Nat.le_of_ble_eq_true rfl) dX1_filled_46) (c_hasNext0 hS1.bxL hI (by rw [CSys.bxl]; exact hkl)) ?_
    refine zr_if_eq (tgt := 113) dX1_filled_51 (by decide) (fun _ => ?_) (fun h9 => absurd (rfl) h9)
    exact kQ σ1 (hX.le (by omega))
  | cons i ys ih =>
    intro k m lr s σ1 hy hk hX hN hI kQ
    have hS1 := hS.keep0 hw hX
    obtain ⟨hx, hy2, hkl, hm⟩ := drop_cons hy
    rw [List.length_range] at hkl
    have hi := List.mem_range.mp hm
    rw [List.length_cons] at hN
    have hX2 := hX.upN (gs := [.int (nI (k + 1)), .int (nI k), .int (kM c 2), .ref (kA c 2)]) hI hit
    have hI2 : sF (sUp σ1 it (.inr (21, [.int (nI (k + 1)), .int (nI k), .int (kM c 2), .ref (kA c 2)]))) it = _ := sF_upS _ _ _
    generalize hσ2 : sUp σ1 it (.inr (21, [.int (nI (k + 1)), .int (nI k), .int (kM c 2), .ref (kA c 2)])) = σ2 at hX2 hI2
    have hS2 := hS.keep0 hw hX2
    obtain ⟨flw, hflw⟩ := (hS2.wdL hi).A
    rw [List.foldl_cons] at kQ
    refine zr_aload_n dX1_filled_45 rfl rfl ?_
    refine zr_call51 (rest := []) (zs_F (As := []) (by omega) okF_J23_hasNext (by decide +kernel) q916 q927 q929 q84 q931 (.new hI) rfl rfl rfl (Nat.le_of_ble_eq_true rfl) dX1_filled_46) (c_hasNext1 hS1.bxL hI (by rw [CSys.bxl]; exact hkl)) ?_
    refine zr_if_eq (tgt := 113) dX1_filled_51 (by decide) (fun h9 => absurd h9 (by decide)) (fun _ => ?_)
    refine zr_aload_n dX1_filled_54 rfl rfl ?_
    refine zr_call51 (rest := []) (zs_F (As := []) (by omega) okF_J23_next (by decide +kernel) q942 q1044 q1046 q84 q1048 (.new hI) rfl rfl rfl (Nat.le_of_ble_eq_true rfl) dX1_filled_55) (c_J23_next (by omega) hG hS1.bxL hI (map_at (fun j => kA c (rB j)) hx)) ?_
    rw [hσ2]
    refine zr_castS (hS2.bx hi) rfl q151 dX1_filled_60 ?_
    refine zr_astore (ls2 := [(1, .ref pl), (2, .int s), (3, .ref it), (4, .ref (kA c (rB i)))]) dX1_filled_63 (Nat.le_of_ble_eq_true rfl) rfl ?_
    refine zr_aload dX1_filled_65 rfl ?_
    refine zr_getN (k := 5) (v := .ref (kA c (rW i))) in_X2 (hS2.bx hi) rfl (Nat.le_of_ble_eq_true rfl) q241 (.inl rfl) rfl dX1_filled_67 ?_
    refine zr_call51 (rest := []) (zs_F (As := []) (by omega) okF_J2_iterator (by decide +kernel) q829 q832 q834 q56 q836 hflw rfl rfl rfl (Nat.le_of_ble_eq_true rfl) dX1_filled_70) (c_J2_iterator (by omega) hX2.gd.1 (hS2.wdL hi)) ?_
    refine zr_astore (ls2 := [(1, .ref pl), (2, .int s), (3, .ref it), (4, .ref (kA c (rB i))), (5, .ref (sZ σ2))]) dX1_filled_75 (Nat.le_of_ble_eq_true rfl) rfl ?_
    refine zr_sub (ls2 := [(1, .ref pl), (2, .int s), (3, .ref it), (5, .ref (sZ σ2))]) [0, 1, 2, 4] rfl ?_
    have hXn := zX.new S0 hX2.gd 0 (by omega) (.inr (21, [.int 0, .int (-1), .int (kM c (rW i)), .ref (kA c (rW i))])) 4
    refine l_X1_filW (σ := σ2) (m := 8) (by omega) hG hX2.gd hS2 hi (Nat.le_refl _) (kWd c i) 0 (-1) s _ rfl (Nat.zero_le _) hXn (sF_newS _ _ _ _) (fun σ3 x3 => ?_)
    exact ih (k + 1) (m + 8) _ _ σ3 hy2 hkl (hX2.trans x3) (by omega) (x3.f hX2.gd hI2 (fun h => h)) kQ
set_option maxHeartbeats 4000000 in
theorem c_X1_filled {G : zG} {σ : zT} {d : Nat} {c : zCS} (hd : 16 ≤ d) (hG : zOk G) (hw : zGd G σ) (hS : CSys G σ c) (h0 : 0 < kN c) : zCall G I_X1_filled d [.ref (kA c 1)] σ ((fun o σ' => oR o (pFilled c) ∧ zX G S0 σ σ' 300)) := by
  refine zCall_of (ls := [(0, .ref (kA c 1))]) (by decide) (Nat.le_of_ble_eq_true rfl) rfl ?_
  have hle := hS.le
  obtain ⟨fl_hfl, hfl⟩ := hS.bxL.A
  refine zr_aload_n dX1_filled_0 rfl rfl ?_
  refine zr_get (k := 1) (v := .int (kLw c)) in_X1 hS.one rfl (Nat.le_of_ble_eq_true rfl) q810 (.inl rfl) rfl dX1_filled_1 ?_
  refine zr_iconst (v := (-1)) dX1_filled_4 (by decide) ?_
  refine zr_icmp_eq (tgt := 12) dX1_filled_5 (by decide) (fun h1 => ?_) (fun h1 => ?_)
  · refine zr_iconst (v := 0) dX1_filled_12 (by decide) ?_
    rw [show pFilled c = (3, .null) from if_pos h1]
    obtain ⟨_, σ1, ⟨q, rfl, hX⟩, hC⟩ := c_requireState0 (d := d - 1) (by omega) hG hw
    refine zr_callX (rest := []) (zs_S (As := [.int 0]) (by omega) ok_X1_requireState q1652 q1653 q53 q1654 rfl rfl (Nat.le_of_ble_eq_true rfl) dX1_filled_13) hC ?_
    exact zx_out (by decide) ⟨oR_x (by decide), hX.le (by omega)⟩
  · refine zr_iconst (v := 1) dX1_filled_8 (by decide) ?_
    refine zr_goto (tgt := 13) dX1_filled_9 (by decide) ?_
    refine zr_callv (rest := []) (zs_S (As := [.int 1]) (by omega) ok_X1_requireState q1652 q1653 q53 q1654 rfl rfl (Nat.le_of_ble_eq_true rfl) dX1_filled_13) c_requireState1 ?_
    refine zr_aload_n dX1_filled_16 rfl rfl ?_
    refine zr_get (k := 0) (v := .ref (kA c 2)) in_X1 hS.one rfl (Nat.le_of_ble_eq_true rfl) q806 (.inl rfl) rfl dX1_filled_17 ?_
    refine zr_iconst (v := 0) dX1_filled_20 (by decide) ?_
    refine zr_call51 (rest := []) (zs_F (As := [.int 0]) (by omega) okF_J2_get (by decide +kernel) q1180 q1106 q959 q56 q960 hfl rfl rfl rfl (Nat.le_of_ble_eq_true rfl) dX1_filled_21) (c_J2_get (i := 0) (by omega) hG hS.bxL (CSys.bxa h0)) ?_
    refine zr_castS (hS.bx h0) rfl q151 dX1_filled_26 ?_
    refine zr_getN (k := 24) (v := .ref (kA c (rP 0))) in_X2 (hS.bx h0) rfl (Nat.le_of_ble_eq_true rfl) q292 (.inl rfl) rfl dX1_filled_29 ?_
    refine zr_astore_n (ls2 := [(0, .ref (kA c 1)), (1, .ref (kA c (rP 0)))]) dX1_filled_32 rfl (Nat.le_of_ble_eq_true rfl) rfl ?_
    refine zr_iconst (v := 0) dX1_filled_33 (by decide) ?_
    refine zr_istore_n (ls2 := [(0, .ref (kA c 1)), (1, .ref (kA c (rP 0))), (2, .int 0)]) dX1_filled_34 rfl (Nat.le_of_ble_eq_true rfl) rfl ?_
    refine zr_aload_n dX1_filled_35 rfl rfl ?_
    refine zr_get (k := 0) (v := .ref (kA c 2)) in_X1 hS.one rfl (Nat.le_of_ble_eq_true rfl) q806 (.inl rfl) rfl dX1_filled_36 ?_
    refine zr_call51 (rest := []) (zs_F (As := []) (by omega) okF_J2_iterator (by decide +kernel) q829 q832 q834 q56 q836 hfl rfl rfl rfl (Nat.le_of_ble_eq_true rfl) dX1_filled_39) (c_J2_iterator (by omega) hw.1 hS.bxL) ?_
    refine zr_astore_n (ls2 := [(0, .ref (kA c 1)), (1, .ref (kA c (rP 0))), (2, .int 0), (3, .ref (sZ σ))]) dX1_filled_44 rfl (Nat.le_of_ble_eq_true rfl) rfl ?_
    refine zr_sub (ls2 := [(1, .ref (kA c (rP 0))), (2, .int 0), (3, .ref (sZ σ))]) [1, 2, 3] rfl ?_
    have hXn := zX.new S0 hw 0 (by omega) (.inr (21, [.int 0, .int (-1), .int (kM c 2), .ref (kA c 2)])) 4
    refine l_X1_fil (σ := σ) (N := 8 + 8 * 24) (by omega) hG hw hS (Nat.le_refl _) (List.range (kN c)) 0 8 (-1) 0 _ rfl (Nat.zero_le _) hXn (by rw [List.length_range]; omega) (sF_newS _ _ _ _) (fun σ3 x3 => ?_)
    have hS3 := hS.keep0 hw x3
    show zR G yX1_filled cX1_filled 7 (Option.some Jvm.ClassFile.FieldType.float) [] d 113 [(1, .ref (kA c (rP 0))), (2, .int (pSum c)), (3, .ref (sZ σ))] [] σ3 _
    refine zr_aload_n dX1_filled_113 rfl rfl ?_
    refine zr_getN (k := 2) (v := .int (kP c 0 2)) in_X3 (hS3.pl h0) rfl (Nat.le_of_ble_eq_true rfl) q201 (.inl rfl) rfl dX1_filled_114 ?_
    refine zr_aload_n dX1_filled_117 rfl rfl ?_
    refine zr_getN (k := 3) (v := .int (kP c 0 3)) in_X3 (hS3.pl h0) rfl (Nat.le_of_ble_eq_true rfl) q206 (.inl rfl) rfl dX1_filled_118 ?_
    refine zr_imul dX1_filled_121 ?_
    refine zr_if_ne (tgt := 133) dX1_filled_122 (by decide) (fun h2 => ?_) (fun h2 => ?_)
    · rw [show pFilled c = _ from (if_neg h1).trans (if_neg h2)]
      refine zr_bipush (v := 10) dX1_filled_133 (by decide) ?_
      refine zr_iload_n dX1_filled_135 rfl rfl ?_
      refine zr_imul dX1_filled_136 ?_
      refine zr_i2f dX1_filled_137 ?_
      refine zr_aload_n dX1_filled_138 rfl rfl ?_
      refine zr_getN (k := 2) (v := .int (kP c 0 2)) in_X3 (hS3.pl h0) rfl (Nat.le_of_ble_eq_true rfl) q201 (.inl rfl) rfl dX1_filled_139 ?_
      refine zr_aload_n dX1_filled_142 rfl rfl ?_
      refine zr_getN (k := 3) (v := .int (kP c 0 3)) in_X3 (hS3.pl h0) rfl (Nat.le_of_ble_eq_true rfl) q206 (.inl rfl) rfl dX1_filled_143 ?_
      refine zr_imul dX1_filled_146 ?_
      refine zr_i2f dX1_filled_147 ?_
      refine zr_fdiv dX1_filled_148 (nn32 _ h2) ?_
      exact zr_fret rfl dX1_filled_149 ⟨oR_ok, x3.le (by omega)⟩
    · rw [show pFilled c = (6, .null) from (if_neg h1).trans (if_pos (by first | exact h2 | exact Decidable.not_not.mp h2))]
      refine zr_make0 (E := RJ30) (names := ["java/lang/RuntimeException", "java/lang/Exception"]) (ci := 29) 0 (by omega) hG.1 (by decide +kernel) (List.all_eq_true.mp (by decide +kernel)) (by decide) q2064 q105 zat_J30 (List.all_eq_true.mp (by decide +kernel)) dX1_filled_125 dX1_filled_128 dX1_filled_129 rfl (Nat.le_of_ble_eq_true rfl) ?_
      refine zr_athrow (.new (sF_newS _ _ _ _)) rfl dX1_filled_132 ?_
      exact zx_out (by decide) ⟨oR_x (k := 6) (by decide), (x3.trans (zX.new S0 x3.gd 0 (by omega) _ _)).le (by omega)⟩
set_option maxHeartbeats 4000000 in
theorem l_X1_mean {G : zG} {σ : zT} {d : Nat} {c : zCS} {it m : Nat} {Q : zO → zT → Prop} (hd : 8 ≤ d) (hG : zOk G) (hw : zGd G σ) (hS : CSys G σ c) (hit : sZ σ ≤ it) : ∀ (ys : List Nat) (k : Nat) (lr : Int32) (p : Int32 × Int32) (σ1 : zT), (List.range (kN c)).drop k = ys → k ≤ kN c → zX G S0 σ σ1 m → sF σ1 it = some (.inr (21, [.int (nI k), .int lr, .int (kM c 2), .ref (kA c 2)])) → (∀ σ2, zX G S0 σ σ2 m → zR G yX1_meanLine cX1_meanLine 5 (Option.some Jvm.ClassFile.FieldType.double) [] d 82 [(1, .int (ys.foldl (pMS c) p).1), (2, .int (ys.foldl (pMS c) p).2), (3, .ref it)] [] σ2 Q) → zR G yX1_meanLine cX1_meanLine 5 (Option.some Jvm.ClassFile.FieldType.double) [] d 30 [(1, .int p.1), (2, .int p.2), (3, .ref it)] [] σ1 Q := by
  intro ys
  induction ys with
  | nil =>
    intro k lr p σ1 hy hk hX hI kQ
    have hS1 := hS.keep0 hw hX
    have hkl := drop_nil hy (by rw [List.length_range]; exact hk)
    rw [List.length_range] at hkl
    refine zr_aload_n dX1_meanLine_30 rfl rfl ?_
    refine zr_call51 (rest := []) (zs_F (As := []) (by omega) okF_J23_hasNext (by decide +kernel) q916 q927 q929 q84 q931 (.new hI) rfl rfl rfl (Nat.le_of_ble_eq_true rfl) dX1_meanLine_31) (c_hasNext0 hS1.bxL hI (by rw [CSys.bxl]; exact hkl)) ?_
    refine zr_if_eq (tgt := 82) dX1_meanLine_36 (by decide) (fun _ => ?_) (fun h9 => absurd (rfl) h9)
    exact kQ σ1 hX
  | cons i ys ih =>
    intro k lr p σ1 hy hk hX hI kQ
    have hS1 := hS.keep0 hw hX
    obtain ⟨hx, hy2, hkl, hm⟩ := drop_cons hy
    rw [List.length_range] at hkl
    have hi := List.mem_range.mp hm
    have hX2 := hX.upN (gs := [.int (nI (k + 1)), .int (nI k), .int (kM c 2), .ref (kA c 2)]) hI hit
    have hI2 : sF (sUp σ1 it (.inr (21, [.int (nI (k + 1)), .int (nI k), .int (kM c 2), .ref (kA c 2)]))) it = _ := sF_upS _ _ _
    generalize hσ2 : sUp σ1 it (.inr (21, [.int (nI (k + 1)), .int (nI k), .int (kM c 2), .ref (kA c 2)])) = σ2 at hX2 hI2
    have hS2 := hS.keep0 hw hX2
    obtain ⟨flw, hflw⟩ := (hS2.wdL hi).A
    obtain ⟨mo, xs, l1, l2, -⟩ := (hS2.2.2.1 i hi).2.2.2.2
    obtain ⟨fll, hfll⟩ := l1.A
    rw [List.foldl_cons] at kQ
    refine zr_aload_n dX1_meanLine_30 rfl rfl ?_
    refine zr_call51 (rest := []) (zs_F (As := []) (by omega) okF_J23_hasNext (by decide +kernel) q916 q927 q929 q84 q931 (.new hI) rfl rfl rfl (Nat.le_of_ble_eq_true rfl) dX1_meanLine_31) (c_hasNext1 hS1.bxL hI (by rw [CSys.bxl]; exact hkl)) ?_
    refine zr_if_eq (tgt := 82) dX1_meanLine_36 (by decide) (fun h9 => absurd h9 (by decide)) (fun _ => ?_)
    refine zr_aload_n dX1_meanLine_39 rfl rfl ?_
    refine zr_call51 (rest := []) (zs_F (As := []) (by omega) okF_J23_next (by decide +kernel) q942 q1044 q1046 q84 q1048 (.new hI) rfl rfl rfl (Nat.le_of_ble_eq_true rfl) dX1_meanLine_40) (c_J23_next (by omega) hG hS1.bxL hI (map_at (fun j => kA c (rB j)) hx)) ?_
    rw [hσ2]
    refine zr_castS (hS2.bx hi) rfl q151 dX1_meanLine_45 ?_
    refine zr_astore (ls2 := [(1, .int p.1), (2, .int p.2), (3, .ref it), (4, .ref (kA c (rB i)))]) dX1_meanLine_48 (Nat.le_of_ble_eq_true rfl) rfl ?_
    refine zr_iload_n dX1_meanLine_50 rfl rfl ?_
    refine zr_aload dX1_meanLine_51 rfl ?_
    refine zr_getN (k := 24) (v := .ref (kA c (rP i))) in_X2 (hS2.bx hi) rfl (Nat.le_of_ble_eq_true rfl) q292 (.inl rfl) rfl dX1_meanLine_53 ?_
    refine zr_getN (k := 5) (v := .ref (kA c (rL i))) in_X3 (hS2.pl hi) rfl (Nat.le_of_ble_eq_true rfl) q211 (.inl rfl) rfl dX1_meanLine_56 ?_
    refine zr_call51 (rest := [.int p.1]) (zs_F (As := []) (by omega) okF_J2_size (by decide +kernel) q1178 q162 q164 q56 q166 hfll rfl rfl rfl (Nat.le_of_ble_eq_true rfl) dX1_meanLine_59) (c_size (by omega) l1 l2) ?_
    refine zr_iadd dX1_meanLine_64 ?_
    refine zr_istore_n (ls2 := [(1, .int (p.1 + (nI (kLn c i).length))), (2, .int p.2), (3, .ref it), (4, .ref (kA c (rB i)))]) dX1_meanLine_65 rfl (Nat.le_of_ble_eq_true rfl) rfl ?_
    refine zr_iload_n dX1_meanLine_66 rfl rfl ?_
    refine zr_aload dX1_meanLine_67 rfl ?_
    refine zr_getN (k := 5) (v := .ref (kA c (rW i))) in_X2 (hS2.bx hi) rfl (Nat.le_of_ble_eq_true rfl) q241 (.inl rfl) rfl dX1_meanLine_69 ?_
    refine zr_call51 (rest := [.int p.2]) (zs_F (As := []) (by omega) okF_J2_size (by decide +kernel) q1178 q162 q164 q56 q166 hflw rfl rfl rfl (Nat.le_of_ble_eq_true rfl) dX1_meanLine_72) (c_size (m := (kWd c i).length) (by omega) (hS2.wdL hi) (List.length_map _)) ?_
    refine zr_iadd dX1_meanLine_77 ?_
    refine zr_istore_n (ls2 := [(1, .int (p.1 + (nI (kLn c i).length))), (2, .int (p.2 + (nI (kWd c i).length))), (3, .ref it), (4, .ref (kA c (rB i)))]) dX1_meanLine_78 rfl (Nat.le_of_ble_eq_true rfl) rfl ?_
    refine zr_goto (tgt := 30) dX1_meanLine_79 (by decide) ?_
    refine zr_sub (ls2 := [(1, .int (p.1 + (nI (kLn c i).length))), (2, .int (p.2 + (nI (kWd c i).length))), (3, .ref it)]) [0, 1, 2] rfl ?_
    exact ih (k + 1) _ (pMS c p i) σ2 hy2 hkl hX2 hI2 kQ
set_option maxHeartbeats 4000000 in
theorem c_X1_meanLine {G : zG} {σ : zT} {d : Nat} {c : zCS} (hd : 16 ≤ d) (hG : zOk G) (hw : zGd G σ) (hS : CSys G σ c) : zCall G I_X1_meanLine d [.ref (kA c 1)] σ ((fun o σ' => oR o (pMean c) ∧ zX G S0 σ σ' 300)) := by
  refine zCall_of (ls := [(0, .ref (kA c 1))]) (by decide) (Nat.le_of_ble_eq_true rfl) rfl ?_
  have hle := hS.le
  obtain ⟨fl_hfl, hfl⟩ := hS.bxL.A
  refine zr_aload_n dX1_meanLine_0 rfl rfl ?_
  refine zr_get (k := 1) (v := .int (kLw c)) in_X1 hS.one rfl (Nat.le_of_ble_eq_true rfl) q810 (.inl rfl) rfl dX1_meanLine_1 ?_
  refine zr_iconst (v := (-1)) dX1_meanLine_4 (by decide) ?_
  refine zr_icmp_eq (tgt := 12) dX1_meanLine_5 (by decide) (fun h1 => ?_) (fun h1 => ?_)
  · refine zr_iconst (v := 0) dX1_meanLine_12 (by decide) ?_
    rw [show pMean c = (3, .null) from if_pos h1]
    obtain ⟨_, σ1, ⟨q, rfl, hX⟩, hC⟩ := c_requireState0 (d := d - 1) (by omega) hG hw
    refine zr_callX (rest := []) (zs_S (As := [.int 0]) (by omega) ok_X1_requireState q1652 q1653 q53 q1654 rfl rfl (Nat.le_of_ble_eq_true rfl) dX1_meanLine_13) hC ?_
    exact zx_out (by decide) ⟨oR_x (by decide), hX.le (by omega)⟩
  · refine zr_iconst (v := 1) dX1_meanLine_8 (by decide) ?_
    refine zr_goto (tgt := 13) dX1_meanLine_9 (by decide) ?_
    refine zr_callv (rest := []) (zs_S (As := [.int 1]) (by omega) ok_X1_requireState q1652 q1653 q53 q1654 rfl rfl (Nat.le_of_ble_eq_true rfl) dX1_meanLine_13) c_requireState1 ?_
    refine zr_iconst (v := 0) dX1_meanLine_16 (by decide) ?_
    refine zr_istore_n (ls2 := [(0, .ref (kA c 1)), (1, .int 0)]) dX1_meanLine_17 rfl (Nat.le_of_ble_eq_true rfl) rfl ?_
    refine zr_iconst (v := 0) dX1_meanLine_18 (by decide) ?_
    refine zr_istore_n (ls2 := [(0, .ref (kA c 1)), (1, .int 0), (2, .int 0)]) dX1_meanLine_19 rfl (Nat.le_of_ble_eq_true rfl) rfl ?_
    refine zr_aload_n dX1_meanLine_20 rfl rfl ?_
    refine zr_get (k := 0) (v := .ref (kA c 2)) in_X1 hS.one rfl (Nat.le_of_ble_eq_true rfl) q806 (.inl rfl) rfl dX1_meanLine_21 ?_
    refine zr_call51 (rest := []) (zs_F (As := []) (by omega) okF_J2_iterator (by decide +kernel) q829 q832 q834 q56 q836 hfl rfl rfl rfl (Nat.le_of_ble_eq_true rfl) dX1_meanLine_24) (c_J2_iterator (by omega) hw.1 hS.bxL) ?_
    refine zr_astore_n (ls2 := [(0, .ref (kA c 1)), (1, .int 0), (2, .int 0), (3, .ref (sZ σ))]) dX1_meanLine_29 rfl (Nat.le_of_ble_eq_true rfl) rfl ?_
    refine zr_sub (ls2 := [(1, .int 0), (2, .int 0), (3, .ref (sZ σ))]) [1, 2, 3] rfl ?_
    have hXn := zX.new S0 hw 0 (by omega) (.inr (21, [.int 0, .int (-1), .int (kM c 2), .ref (kA c 2)])) 4
    refine l_X1_mean (σ := σ) (m := 8) (by omega) hG hw hS (Nat.le_refl _) (List.range (kN c)) 0 (-1) (0, 0) _ rfl (Nat.zero_le _) hXn (sF_newS _ _ _ _) (fun σ3 x3 => ?_)
    show zR G yX1_meanLine cX1_meanLine 5 (Option.some Jvm.ClassFile.FieldType.double) [] d 82 [(1, .int (pMM c).1), (2, .int (pMM c).2), (3, .ref (sZ σ))] [] σ3 _
    refine zr_iload_n dX1_meanLine_82 rfl rfl ?_
    refine zr_if_ne (tgt := 94) dX1_meanLine_83 (by decide) (fun h2 => ?_) (fun h2 => ?_)
    · rw [show pMean c = _ from (if_neg h1).trans (if_neg h2)]
      refine zr_iload_n dX1_meanLine_94 rfl rfl ?_
      refine zr_i2d dX1_meanLine_95 ?_
      refine zr_iload_n dX1_meanLine_96 rfl rfl ?_
      refine zr_i2d dX1_meanLine_97 ?_
      refine zr_ddiv dX1_meanLine_98 (nn64 _ h2) ?_
      exact zr_dret rfl dX1_meanLine_99 ⟨oR_ok, x3.le (by omega)⟩
    · rw [show pMean c = (6, .null) from (if_neg h1).trans (if_pos (by first | exact h2 | exact Decidable.not_not.mp h2))]
      refine zr_make0 (E := RJ30) (names := ["java/lang/RuntimeException", "java/lang/Exception"]) (ci := 29) 0 (by omega) hG.1 (by decide +kernel) (List.all_eq_true.mp (by decide +kernel)) (by decide) q2064 q105 zat_J30 (List.all_eq_true.mp (by decide +kernel)) dX1_meanLine_86 dX1_meanLine_89 dX1_meanLine_90 rfl (Nat.le_of_ble_eq_true rfl) ?_
      refine zr_athrow (.new (sF_newS _ _ _ _)) rfl dX1_meanLine_93 ?_
      exact zx_out (by decide) ⟨oR_x (k := 6) (by decide), (x3.trans (zX.new S0 x3.gd 0 (by omega) _ _)).le (by omega)⟩
