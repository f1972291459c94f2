/-! ===== the context: layChild (rows printed by tools/p67.py) ===== -/
theorem kZ_setP (c : zCS) (j k : Nat) (a : Int32) : kZ (kSetP c j k a) = kSetP (kZ c) j k a := rfl
set_option maxHeartbeats 4000000 in
theorem c_X7_layChild {G : zG} {σ : zT} {d f i j cx ly fa p : Nat} {c : zCS} {n x y top : Int32} {L : LayT} {Fl : FlT} {chk : Bool} {fs : List F5} (hNx : zNext G) (hd : 88 ≤ d) (hG : zOk G) (hw : zGd G σ) (hi : i < kN c) (hj : j < kN c) (hf : kN c ≤ f + j) (hY : LY G σ c ly chk n) (hcx0 : sF σ cx = some (.inr (7, [.ref ly, .ref fa, .ref p]))) (hct : sT σ cx = 0) (hF : FlS G σ fa fs) (h24 : fs.length + FC f c j ≤ 24) (hLay : ∀ (σ : zT) (c : zCS) (n : Int32) (j : Nat) (wd : Int32), zGd G σ → LY G σ c ly chk n → j < kN c → kN c ≤ f + j → zCall G I_X6_lay (d - 1) [.ref ly, .ref (kA c (rB j)), .int wd] σ (fun o σ' => ∃ c', o = .inl none ∧ KEq c c' ∧ kZ c' = (L (kZ c, n) j wd).1 ∧ LY G σ' c' ly chk (L (kZ c, n) j wd).2 ∧ zX G SC σ σ' (LB f c j))) (hFlow : ∀ (σ : zT) (c : zCS) (n : Int32) (fs : List F5) (j : Nat) (x y : Int32), zGd G σ → LY G σ c ly chk n → sF σ cx = some (.inr (7, [.ref ly, .ref fa, .ref p])) → sT σ cx = 0 → FlS G σ fa fs → j < kN c → kN c ≤ f + j → fs.length + FC f c j ≤ 24 → zCall G I_X7_flow (d - 1) [.ref cx, .ref (kA c (rB j)), .int x, .int y] σ (fun o σ' => ∃ c', o = .inl none ∧ KEq c c' ∧ kZ c' = (Fl (kZ c, n) fs j x y).1.1 ∧ LY G σ' c' ly chk (Fl (kZ c, n) fs j x y).1.2 ∧ FlS G σ' fa (Fl (kZ c, n) fs j x y).2 ∧ (Fl (kZ c, n) fs j x y).2.length ≤ fs.length + FC f c j ∧ zX G (SF fa) σ σ' (LB f c j))) : zCall G I_X7_layChild d [.ref cx, .ref (kA c (rB j)), .ref (kA c (rB i)), .int x, .int y, .int top] σ ((fun o σ' => ∃ c', o = .inl none ∧ KEq c c' ∧ kZ c' = (cChild L Fl (kZ c, n) fs j i x y top).1.1 ∧ LY G σ' c' ly chk (cChild L Fl (kZ c, n) fs j i x y top).1.2 ∧ FlS G σ' fa (cChild L Fl (kZ c, n) fs j i x y top).2 ∧ (cChild L Fl (kZ c, n) fs j i x y top).2.length ≤ fs.length + FC f c j ∧ zX G (SF fa) σ σ' (LB f c j))) := by
  refine zCall_of (ls := [(0, .ref cx), (1, .ref (kA c (rB j))), (2, .ref (kA c (rB i))), (3, .int x), (4, .int y), (5, .int top)]) (by decide) (Nat.le_of_ble_eq_true rfl) rfl ?_
  have hS := hY.1
  have hf0 : 0 < f := by omega
  refine zr_aload_n dX7_layChild_0 rfl rfl ?_
  refine zr_call1 (rest := []) (zs_V (As := []) (by omega) ok_X2_told q1580 q1143 q1144 q57 q1145 rfl (hS.bx hj) rfl rfl rfl (Nat.le_of_ble_eq_true rfl) dX7_layChild_1) (c_X2_told (by omega) hS hj) ?_
  refine zr_iconst (v := (-1)) dX7_layChild_4 (by decide) ?_
  have key : ∀ a, a = chW c j i → zR G yX7_layChild cX7_layChild 8 (Option.none : Option Jvm.ClassFile.FieldType) [] d 33 [(0, .ref cx), (1, .ref (kA c (rB j))), (2, .ref (kA c (rB i))), (3, .int x), (4, .int y), (5, .int top)] [.int a] σ (fun o σ' => ∃ c', o = .inl none ∧ KEq c c' ∧ kZ c' = (cChild L Fl (kZ c, n) fs j i x y top).1.1 ∧ LY G σ' c' ly chk (cChild L Fl (kZ c, n) fs j i x y top).1.2 ∧ FlS G σ' fa (cChild L Fl (kZ c, n) fs j i x y top).2 ∧ (cChild L Fl (kZ c, n) fs j i x y top).2.length ≤ fs.length + FC f c j ∧ zX G (SF fa) σ σ' (LB f c j)) := by
    intro a ha
    refine zr_istore (ls2 := [(0, .ref cx), (1, .ref (kA c (rB j))), (2, .ref (kA c (rB i))), (3, .int x), (4, .int y), (5, .int top), (6, .int a)]) dX7_layChild_33 (Nat.le_of_ble_eq_true rfl) rfl ?_
    refine zr_aload_n dX7_layChild_35 rfl rfl ?_
    refine zr_getN (k := 12) (v := .int (kF c i 12)) in_X2 (hS.bx hi) rfl (Nat.le_of_ble_eq_true rfl) q258 (.inl rfl) rfl dX7_layChild_36 ?_
    refine zr_aload_n dX7_layChild_39 rfl rfl ?_
    refine zr_getN (k := 10) (v := .int (kF c j 10)) in_X2 (hS.bx hj) rfl (Nat.le_of_ble_eq_true rfl) q252 (.inl rfl) rfl dX7_layChild_40 ?_
    refine zr_iadd dX7_layChild_43 ?_
    refine zr_istore (ls2 := [(0, .ref cx), (1, .ref (kA c (rB j))), (2, .ref (kA c (rB i))), (3, .int x), (4, .int y), (5, .int top), (6, .int a), (7, .int ((kF c i 12) + (kF c j 10)))]) dX7_layChild_44 (Nat.le_of_ble_eq_true rfl) rfl ?_
    refine zr_aload_n dX7_layChild_46 rfl rfl ?_
    refine zr_getN (k := 24) (v := .ref (kA c (rP j))) in_X2 (hS.bx hj) rfl (Nat.le_of_ble_eq_true rfl) q289 (.inl rfl) rfl dX7_layChild_47 ?_
    refine zr_iload dX7_layChild_50 rfl ?_
    refine zr_putN (k := 0) (fs' := (kPl (kSetP c j 0 (kF c i 12 + kF c j 10)) j)) zt_X3 (hS.pF hj) rfl (Nat.le_of_ble_eq_true rfl) q190 (.inl rfl) rfl rfl rfl (Nat.le_of_ble_eq_true rfl) (kPl_set0 _ _ _) dX7_layChild_52 ?_
    have hY1 := hY.setP hj 0 (kF c i 12 + kF c j 10)
    have hX1 := hS.XP hw hj (kPl (kSetP c j 0 (kF c i 12 + kF c j 10)) j)
    generalize hc1 : kSetP c j 0 (kF c i 12 + kF c j 10) = c1 at hY1 hX1 ⊢
    have hE1 : KEq c c1 := hc1 ▸ KEq.setP c j 0 _
    have hP1 : kA c1 (rP j) = kA c (rP j) := by rw [← hc1]; rfl
    generalize hσ1 : sUp σ (kA c (rP j)) (.inr (3, kPl c1 j)) = σ1 at hY1 hX1 ⊢
    have hS1 := hY1.1
    have hbj1 : zAt G σ1 (kA c (rB j)) (.inr (2, kBx c1 j)) := hE1.b j ▸ hS1.bx (hE1.nn hj)
    refine zr_aload_n dX7_layChild_55 rfl rfl ?_
    refine zr_getN (k := 24) (v := .ref (kA c1 (rP j))) in_X2 hbj1 rfl (Nat.le_of_ble_eq_true rfl) q289 (.inl rfl) rfl dX7_layChild_56 ?_
    refine zr_iload dX7_layChild_59 rfl ?_
    refine zr_iload dX7_layChild_61 rfl ?_
    refine zr_isub dX7_layChild_63 ?_
    refine zr_putN (k := 1) (fs' := (kPl (kSetP c1 j 1 (top - y)) j)) zt_X3 (hS1.pF (hE1.nn hj)) rfl (Nat.le_of_ble_eq_true rfl) q195 (.inl rfl) rfl rfl rfl (Nat.le_of_ble_eq_true rfl) (kPl_set1 _ _ _) dX7_layChild_64 ?_
    have hY2 := hY1.setP (hE1.nn hj) 1 (top - y)
    have hX2 := hX1.trans (hS1.XP hX1.gd (hE1.nn hj) (kPl (kSetP c1 j 1 (top - y)) j))
    generalize hc2 : kSetP c1 j 1 (top - y) = c2 at hY2 hX2 ⊢
    have hE2 : KEq c c2 := hE1.trans (hc2 ▸ KEq.setP c1 j 1 _)
    generalize hσ2 : sUp σ1 (kA c1 (rP j)) (.inr (3, kPl c2 j)) = σ2 at hY2 hX2 ⊢
    have hS2 := hY2.1
    have hbj2 : zAt G σ2 (kA c (rB j)) (.inr (2, kBx c2 j)) := hE2.b j ▸ hS2.bx (hE2.nn hj)
    have hcx2 := hX2.f hw hcx0 (by rw [hct]; exact SC_0)
    have hct2 := (hX2.t hw hcx0).trans hct
    have hF2 := hF.keepC hw hX2
    have hX2F := hX2.mono (S2 := SF fa) (fun _ h => Or.inl h)
    have hz2 : kZ c2 = kSetP (kSetP (kZ c) j 0 (kF c i 12 + kF c j 10)) j 1 (top - y) := by rw [← hc2, ← hc1]; rfl
    have hit : kItems c2 j = kItems (kZ c) j := by rw [← hc2, ← hc1]; rfl
    have htx : kText c2 j = kText (kZ c) j := by rw [← hc2, ← hc1]; rfl
    have e0 : (cChild L Fl (kZ c, n) fs j i x y top) = cChild2 L Fl (kZ c) n fs j i x y top a (kF c i 12 + kF c j 10) := by rw [ha]; exact cChild_Z _ _ _ _ _ _ _ _ _ _
    rw [e0]
    unfold cChild2
    refine zr_aload_n dX7_layChild_67 rfl rfl ?_
    refine zr_call1 (rest := []) (zs_V (As := []) (by omega) ok_X2_isItems q1566 q1223 q1224 q57 q1225 rfl hbj2 rfl rfl rfl (Nat.le_of_ble_eq_true rfl) dX7_layChild_68) (zC.at1 (hE2.b j) (c_X2_isItems (by omega) hS2 (hE2.nn hj))) ?_
    refine zr_ifeqB (tgt := 85) dX7_layChild_71 (by decide) (fun h1 => ?_) (fun h1 => ?_)
    · rw [if_neg (by rw [← hit, h1]; decide)]
      refine zr_aload_n dX7_layChild_85 rfl rfl ?_
      refine zr_getN (k := 24) (v := .ref (kA c2 (rP j))) in_X2 hbj2 rfl (Nat.le_of_ble_eq_true rfl) q289 (.inl rfl) rfl dX7_layChild_86 ?_
      refine zr_iload dX7_layChild_89 rfl ?_
      refine zr_putN (k := 2) (fs' := (kPl (kSetP c2 j 2 a) j)) zt_X3 (hS2.pF (hE2.nn hj)) rfl (Nat.le_of_ble_eq_true rfl) q199 (.inl rfl) rfl rfl rfl (Nat.le_of_ble_eq_true rfl) (kPl_set2 _ _ _) dX7_layChild_91 ?_
      have hY3 := hY2.setP (hE2.nn hj) 2 a
      have hX3 := hX2.trans (hS2.XP hX2.gd (hE2.nn hj) (kPl (kSetP c2 j 2 a) j))
      generalize hc3 : kSetP c2 j 2 a = c3 at hY3 hX3 ⊢
      have hE3 : KEq c c3 := hE2.trans (hc3 ▸ KEq.setP c2 j 2 _)
      generalize hσ3 : sUp σ2 (kA c2 (rP j)) (.inr (3, kPl c3 j)) = σ3 at hY3 hX3 ⊢
      have hS3 := hY3.1
      have hbj3 : zAt G σ3 (kA c (rB j)) (.inr (2, kBx c3 j)) := hE3.b j ▸ hS3.bx (hE3.nn hj)
      have hcx3 := hX3.f hw hcx0 (by rw [hct]; exact SC_0)
      have hct3 := (hX3.t hw hcx0).trans hct
      have hF3 := hF.keepC hw hX3
      have hX3F := hX3.mono (S2 := SF fa) (fun _ h => Or.inl h)
      have htx3 : kText c3 j = kText (kZ c) j := by unfold kText; rw [hE3.f j 2 (by decide), show kF (kZ c) j 2 = kF c j 2 from rfl]
      have hz3 : kZ c3 = kSetP (kSetP (kSetP (kZ c) j 0 (kF c i 12 + kF c j 10)) j 1 (top - y)) j 2 a := by rw [← hz2, ← hc3]; exact kZ_setP c2 j 2 a
      refine zr_aload_n dX7_layChild_94 rfl rfl ?_
      refine zr_call1 (rest := []) (zs_V (As := []) (by omega) ok_X2_isText q1342 q1147 q1148 q57 q1149 rfl hbj3 rfl rfl rfl (Nat.le_of_ble_eq_true rfl) dX7_layChild_95) (zC.at1 (hE3.b j) (c_X2_isText (by omega) hS3 (hE3.nn hj))) ?_
      refine zr_ifeqB (tgt := 115) dX7_layChild_98 (by decide) (fun h2 => ?_) (fun h2 => ?_)
      · rw [if_neg (by rw [← htx3, h2]; decide), ← hz3]
        obtain ⟨_, σ4, ⟨c4, rfl, hE4, hz4, hY4, hF4, hl4, hX4⟩, hC4⟩ := hFlow σ3 c3 n fs j (x + (kF c i 12 + kF c j 10)) top hX3.gd hY3 hcx3 hct3 hF3 (hE3.nn hj) (by rw [hE3.n]; exact hf) (by rw [FC_eq hE3]; exact h24)
        have hC4' := zC.at2 (hE3.b j) hC4
        refine zr_aload_n dX7_layChild_115 rfl rfl ?_
        refine zr_aload_n dX7_layChild_116 rfl rfl ?_
        refine zr_iload_n dX7_layChild_117 rfl rfl ?_
        refine zr_iload dX7_layChild_118 rfl ?_
        refine zr_iadd dX7_layChild_120 ?_
        refine zr_iload dX7_layChild_121 rfl ?_
        refine zr_callv (rest := []) (zs_V (As := [.ref (kA c (rB j)), .int (x + ((kF c i 12) + (kF c j 10))), .int top]) (by omega) ok_X7_flow q1502 q1504 qs24 q91 q1505 rfl (.new hcx3) rfl rfl rfl (Nat.le_of_ble_eq_true rfl) dX7_layChild_123) hC4' ?_
        exact zr_vret rfl dX7_layChild_126 (⟨c4, rfl, hE3.trans hE4, hz4, hY4, hF4, by rw [FC_eq hE3] at hl4; exact hl4, zX.leE (hX3F.trans hX4) rfl hE3⟩)
      · rw [if_pos (htx3 ▸ h2), ← hz3]
        obtain ⟨_, σ4, ⟨c4, rfl, hE4, hz4, hY4, hX4⟩, hC4⟩ := c_X7_layLines (x := x + (kF c i 12 + kF c j 10)) (y := top) (d := d - 1) hNx (by omega) hG hX3.gd hY3 (hE3.nn hj) hcx3 hct3 hF3
        have hC4' := zC.at2 (hE3.b j) hC4
        have hX4F := hX3F.trans (hX4.mono (S2 := SF fa) (fun _ h => Or.inl h))
        have hXL : zX G (SF fa) σ σ4 (LB f c j) := zX.leLB hX4F hE3 hf0
        have hF4 := hF3.keepC hX3.gd hX4
        have hl4 : fs.length ≤ fs.length + FC f c j := Nat.le_add_right _ _
        refine zr_aload_n dX7_layChild_101 rfl rfl ?_
        refine zr_aload_n dX7_layChild_102 rfl rfl ?_
        refine zr_iload_n dX7_layChild_103 rfl rfl ?_
        refine zr_iload dX7_layChild_104 rfl ?_
        refine zr_iadd dX7_layChild_106 ?_
        refine zr_iload dX7_layChild_107 rfl ?_
        refine zr_callv (rest := []) (zs_VX (As := [.ref (kA c (rB j)), .int (x + ((kF c i 12) + (kF c j 10))), .int top]) (by omega) ok_X7_layLines q1343 q1345 qs21 q91 q1346 rfl (.new hcx3) rfl rfl rfl (Nat.le_of_ble_eq_true rfl) dX7_layChild_109) hC4' ?_
        refine zr_goto (tgt := 126) dX7_layChild_112 (by decide) ?_
        exact zr_vret rfl dX7_layChild_126 (⟨c4, rfl, hE3.trans hE4, hz4, hY4, hF4, hl4, hXL⟩)
    · rw [if_pos (hit ▸ h1)]
      obtain ⟨_, σ3, ⟨c3, rfl, hE3, hz3, hY3, hX3⟩, hC3⟩ := hLay σ2 c2 n j a hX2.gd hY2 (hE2.nn hj) (by rw [hE2.n]; exact hf)
      have hC3' := zC.at2 (hE2.b j) hC3
      rw [hz2] at hz3 hY3
      refine zr_aload_n dX7_layChild_74 rfl rfl ?_
      refine zr_get (k := 0) (v := .ref ly) in_X7 (.new hcx2) rfl (Nat.le_of_ble_eq_true rfl) q1328 (.inl rfl) rfl dX7_layChild_75 ?_
      refine zr_aload_n dX7_layChild_78 rfl rfl ?_
      refine zr_iload dX7_layChild_79 rfl ?_
      refine zr_callv (rest := []) (zs_VN (As := [.ref (kA c (rB j)), .int a]) (by omega) ok_X6_lay q1517 q1115 qs10 q83 q1116 hY2.lf rfl rfl rfl (Nat.le_of_ble_eq_true rfl) dX7_layChild_81) hC3' ?_
      exact zr_vret rfl dX7_layChild_84 (⟨c3, rfl, hE2.trans hE3, hz3, hY3, hF2.keepC hX2.gd hX3, Nat.le_add_right _ _, zX.leE (hX2F.trans (hX3.mono (S2 := SF fa) (fun _ h => Or.inl h))) rfl hE2⟩)
  refine zr_icmp_eq (tgt := 15) dX7_layChild_5 (by decide) (fun h0 => ?_) (fun h0 => ?_)
  · refine zr_iconst (v := 2) dX7_layChild_15 (by decide) ?_
    refine zr_aload_n dX7_layChild_16 rfl rfl ?_
    refine zr_getN (k := 12) (v := .int (kF c j 12)) in_X2 (hS.bx hj) rfl (Nat.le_of_ble_eq_true rfl) q258 (.inl rfl) rfl dX7_layChild_17 ?_
    refine zr_imul dX7_layChild_20 ?_
    refine zr_aload_n dX7_layChild_21 rfl rfl ?_
    refine zr_call1 (rest := [.int (2 * (kF c j 12))]) (zs_V (As := []) (by omega) ok_X2_inner q1355 q1135 q1136 q57 q1137 rfl (hS.bx hi) rfl rfl rfl (Nat.le_of_ble_eq_true rfl) dX7_layChild_22) (c_X2_inner (by omega) hS hi) ?_
    refine zr_aload_n dX7_layChild_25 rfl rfl ?_
    refine zr_call1 (rest := [.int (kInner c i), .int (2 * (kF c j 12))]) (zs_V (As := []) (by omega) ok_X2_sides q1512 q1164 q1165 q57 q1166 rfl (hS.bx hj) rfl rfl rfl (Nat.le_of_ble_eq_true rfl) dX7_layChild_26) (c_X2_sides (by omega) hS hj) ?_
    refine zr_isub dX7_layChild_29 ?_
    refine zr_max (by omega) q1393 q376 q60 q377 (Nat.le_of_ble_eq_true rfl) dX7_layChild_30 ?_
    exact key _ (if_neg (fun h => h h0)).symm
  · refine zr_aload_n dX7_layChild_8 rfl rfl ?_
    refine zr_call1 (rest := []) (zs_V (As := []) (by omega) ok_X2_told q1580 q1143 q1144 q57 q1145 rfl (hS.bx hj) rfl rfl rfl (Nat.le_of_ble_eq_true rfl) dX7_layChild_9) (c_X2_told (by omega) hS hj) ?_
    refine zr_goto (tgt := 33) dX7_layChild_12 (by decide) ?_
    exact key _ (if_pos h0).symm
