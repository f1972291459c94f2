/-! ===== the component: add, addWord (rows printed by tools/p86.py) ===== -/
def isKd (v : Int32) : Bool := decide (v = 98) || (decide (v = 116) || (decide (v = 102) || decide (v = 103)))
theorem isKd_1 {v : Int32} (h : isKd v = true) : v = 98 ∨ v = 116 ∨ v = 102 ∨ v = 103 := by
  unfold isKd at h
  simp only [Bool.or_eq_true, decide_eq_true_eq] at h
  exact h
def okDp (c : zCS) (i : Nat) : Bool := !kText c i && decide (kF c i 3 < 7)
def pAdd (c : zCS) (n kd : Int32) : (Nat × Value) × zCS :=
  if btw n 0 (nI (kN c) - 1) = true then
    (if isKd kd = true then
      (if kN c < 24 then
        (if okDp c n.toNatClampNeg = true then ((0, .int (nI (kN c))), kTouch (kAddA c n.toNatClampNeg kd (kA c)) (kN c)) else ((4, .null), c))
      else ((3, .null), c))
    else ((2, .null), c))
  else ((1, .null), c)
theorem pAdd_0 {c : zCS} {n kd : Int32} (h : btw n 0 (nI (kN c) - 1) = false) : pAdd c n kd = ((1, .null), c) := by unfold pAdd; rw [if_neg (by rw [h]; decide)]
theorem pAdd_2 {c : zCS} {i : Nat} {kd : Int32} (hN : kN c ≤ 24) (hi : i < kN c) (h : isKd kd = false) : pAdd c (nI i) kd = ((2, .null), c) := by unfold pAdd; rw [if_pos (btw_nI (by omega) hi), if_neg (by rw [h]; decide)]
theorem pAdd_3 {c : zCS} {i : Nat} {kd : Int32} (hN : kN c ≤ 24) (hi : i < kN c) (h : isKd kd = true) (h2 : ¬ kN c < 24) : pAdd c (nI i) kd = ((3, .null), c) := by unfold pAdd; rw [if_pos (btw_nI (by omega) hi), if_pos h, if_neg h2]
theorem pAdd_4 {c : zCS} {i : Nat} {kd : Int32} (hN : kN c ≤ 24) (hi : i < kN c) (h : isKd kd = true) (h2 : kN c < 24) (h3 : okDp c i = false) : pAdd c (nI i) kd = ((4, .null), c) := by unfold pAdd; rw [if_pos (btw_nI (by omega) hi), if_pos h, if_pos h2, nI_clamp (by omega), if_neg (by rw [h3]; decide)]
theorem pAdd_1 {c : zCS} {i : Nat} {kd : Int32} (hN : kN c ≤ 24) (hi : i < kN c) (h : isKd kd = true) (h2 : kN c < 24) (h3 : okDp c i = true) : pAdd c (nI i) kd = ((0, .int (nI (kN c))), kTouch (kAddA c i kd (kA c)) (kN c)) := by unfold pAdd; rw [if_pos (btw_nI (by omega) hi), if_pos h, if_pos h2, nI_clamp (by omega), if_pos h3]
theorem kTouch_NA (c : zCS) (i : Nat) : kN (kTouch c i) = kN c ∧ kA (kTouch c i) = kA c := by
  have h : ∀ f c i, kN (tchF f c i) = kN c ∧ kA (tchF f c i) = kA c := by
    intro f
    induction f with
    | zero => intro c i; exact ⟨rfl, rfl⟩
    | succ f ih =>
      intro c i
      show kN (match kPar c i with | none => kSetF c i 25 (-1) | some p => tchF f (kSetF c i 25 (-1)) p) = _ ∧ kA (match kPar c i with | none => kSetF c i 25 (-1) | some p => tchF f (kSetF c i 25 (-1)) p) = _
      cases kPar c i with
      | none => exact ⟨rfl, rfl⟩
      | some p => exact ih _ p
  exact h 24 _ i
theorem kTouch_N (c : zCS) (i : Nat) : kN (kTouch c i) = kN c := (kTouch_NA c i).1
theorem kTouch_A (c : zCS) (i : Nat) : kA (kTouch c i) = kA c := (kTouch_NA c i).2
theorem ST4_SC {N i s : Nat} (h : N ≤ 24) (hi : i < N) (hs : ST4 i s) : SC s := by
  unfold ST4 rC at hs
  exact ⟨by omega, by omega⟩
theorem zX.in {G : zG} {S : Nat → Prop} {σ σ1 : zT} {n : Nat} (h : zX G S0 σ σ1 n) : zX G S σ σ1 n := h.mono (fun _ h => absurd h (fun h => h))
set_option maxHeartbeats 4000000 in
theorem c_X1_add {G : zG} {σ : zT} {d : Nat} {c : zCS} {n kd : Int32} (hd : 20 ≤ d) (hG : zOk G) (hw : zGd G σ) (hS : CSys G σ c) : zCall G I_X1_add d [.ref (kA c 1), .int n, .int kd] σ ((fun o σ' => oR o (pAdd c n kd).1 ∧ ∃ c', CSys G σ' c' ∧ kZ c' = kZ (pAdd c n kd).2 ∧ zX G SC σ σ' 300)) := by
  refine zCall_of (ls := [(0, .ref (kA c 1)), (1, .int n), (2, .int kd)]) (by decide) (Nat.le_of_ble_eq_true rfl) rfl ?_
  have hle := hS.le
  by_cases hb : btw n 0 (nI (kN c) - 1) = true
  · obtain ⟨i, hi, rfl⟩ := btw_idx (by omega) hb
    obtain ⟨fl_hfl, hfl⟩ := hS.bxL.A
    refine zr_aload_n dX1_add_0 rfl rfl ?_
    refine zr_iload_n dX1_add_1 rfl rfl ?_
    refine zr_call1 (rest := []) (zs_V (As := [.int (nI i)]) (by omega) ok_X1_box q1629 q1631 qs28 q53 q1632 rfl hS.one rfl rfl rfl (Nat.le_of_ble_eq_true rfl) dX1_add_2) (c_box1 (by omega) hG hw hS hi) ?_
    refine zr_astore_n (ls2 := [(0, .ref (kA c 1)), (1, .int (nI i)), (2, .int kd), (3, .ref (kA c (rB i)))]) dX1_add_5 rfl (Nat.le_of_ble_eq_true rfl) rfl ?_
    have key : ∀ z : Int32, z = bI (isKd kd) → zR G yX1_add cX1_add 5 (Option.some Jvm.ClassFile.FieldType.int) [] d 35 [(0, .ref (kA c 1)), (1, .int (nI i)), (2, .int kd), (3, .ref (kA c (rB i)))] [.int z] σ (fun o σ' => oR o (pAdd c (nI i) kd).1 ∧ ∃ c', CSys G σ' c' ∧ kZ c' = kZ (pAdd c (nI i) kd).2 ∧ zX G SC σ σ' 300) := by
      intro z hz
      subst hz
      by_cases hk : isKd kd = true
      · rw [hk]
        show zR _ _ _ _ _ _ _ _ _ [.int 1] _ _
        refine zr_callv (rest := []) (zs_S (As := [.int 1]) (by omega) ok_X1_requireArgument q1644 q1645 q53 q1646 rfl rfl (Nat.le_of_ble_eq_true rfl) dX1_add_35) c_requireArgument1 ?_
        refine zr_aload_n dX1_add_38 rfl rfl ?_
        refine zr_get (k := 0) (v := .ref (kA c 2)) in_X1 hS.one rfl (Nat.le_of_ble_eq_true rfl) q806 (.inl rfl) rfl dX1_add_39 ?_
        refine zr_call51 (rest := []) (zs_F (As := []) (by omega) okF_J2_size (by decide +kernel) q1178 q162 q164 q56 q166 hfl rfl rfl rfl (Nat.le_of_ble_eq_true rfl) dX1_add_42) (c_size (by omega) hS.bxL (CSys.bxl c)) ?_
        refine zr_bipush (v := 24) dX1_add_47 (by decide) ?_
        refine zr_icmp_ge (tgt := 56) dX1_add_49 (by decide) (fun h24 => ?_) (fun h24 => ?_)
        · have h24n : ¬ kN c < 24 := fun h => absurd h24 (Int32.not_le.mpr (show nI (kN c) < nI 24 from (nI_ltI (by omega) (by omega)).mpr h))
          rw [pAdd_3 hle hi hk h24n]
          obtain ⟨_, σ1, ⟨q, rfl, hX⟩, hC⟩ := c_requireState0 (d := d - 1) (by omega) hG hw
          refine zr_iconst (v := 0) dX1_add_56 (by decide) ?_
          refine zr_callX (rest := []) (zs_S (As := [.int 0]) (by omega) ok_X1_requireState q1652 q1653 q53 q1654 rfl rfl (Nat.le_of_ble_eq_true rfl) dX1_add_57) hC ?_
          exact zx_out (by decide) ⟨oR_x (by decide), c, hS.keep0 hw hX, rfl, hX.in.le (by omega)⟩
        · have h24n : kN c < 24 := Nat.lt_of_not_le (fun h => h24 (show nI 24 ≤ nI (kN c) from (nI_leI (by omega) (by omega)).mpr h))
          refine zr_iconst (v := 1) dX1_add_52 (by decide) ?_
          refine zr_goto (tgt := 57) dX1_add_53 (by decide) ?_
          refine zr_callv (rest := []) (zs_S (As := [.int 1]) (by omega) ok_X1_requireState q1652 q1653 q53 q1654 rfl rfl (Nat.le_of_ble_eq_true rfl) dX1_add_57) c_requireState1 ?_
          refine zr_aload_n dX1_add_60 rfl rfl ?_
          refine zr_call1 (rest := []) (zs_V (As := []) (by omega) ok_X2_isText q1146 q1147 q1148 q57 q1149 rfl (hS.bx hi) rfl rfl rfl (Nat.le_of_ble_eq_true rfl) dX1_add_61) (c_X2_isText (by omega) hS hi) ?_
          have key4 : okDp c i = false → zR G yX1_add cX1_add 5 (Option.some Jvm.ClassFile.FieldType.int) [] d 81 [(0, .ref (kA c 1)), (1, .int (nI i)), (2, .int kd), (3, .ref (kA c (rB i)))] [.int 0] σ (fun o σ' => oR o (pAdd c (nI i) kd).1 ∧ ∃ c', CSys G σ' c' ∧ kZ c' = kZ (pAdd c (nI i) kd).2 ∧ zX G SC σ σ' 300) := by
            intro h4
            rw [pAdd_4 hle hi hk h24n h4]
            obtain ⟨_, σ1, ⟨q, rfl, hX⟩, hC⟩ := c_requireAllowed0 (d := d - 1) (by omega) hG hw
            refine zr_callX (rest := []) (zs_S (As := [.int 0]) (by omega) ok_X1_requireAllowed q1670 q1671 q53 q1672 rfl rfl (Nat.le_of_ble_eq_true rfl) dX1_add_81) hC ?_
            exact zx_out (by decide) ⟨oR_x (by decide), c, hS.keep0 hw hX, rfl, hX.in.le (by omega)⟩
          refine zr_ifneB (tgt := 80) dX1_add_64 (by decide) (fun hT => ?_) (fun hT => ?_)
          · refine zr_iconst (v := 0) dX1_add_80 (by decide) ?_
            exact key4 (by unfold okDp; rw [hT]; rfl)
          · refine zr_aload_n dX1_add_67 rfl rfl ?_
            refine zr_getN (k := 3) (v := .int (kF c i 3)) in_X2 (hS.bx hi) rfl (Nat.le_of_ble_eq_true rfl) q234 (.inl rfl) rfl dX1_add_68 ?_
            refine zr_bipush (v := 7) dX1_add_71 (by decide) ?_
            refine zr_icmp_ge (tgt := 80) dX1_add_73 (by decide) (fun hD => ?_) (fun hD => ?_)
            · refine zr_iconst (v := 0) dX1_add_80 (by decide) ?_
              exact key4 (by unfold okDp; rw [decide_eq_false (Int32.not_lt.mpr hD), Bool.and_false])
            · have hok : okDp c i = true := by unfold okDp; rw [hT, decide_eq_true (Int32.not_le.mp hD)]; rfl
              have hkd := isKd_1 hk
              rw [pAdd_1 hle hi hk h24n hok]
              refine zr_iconst (v := 1) dX1_add_76 (by decide) ?_
              refine zr_goto (tgt := 81) dX1_add_77 (by decide) ?_
              refine zr_callv (rest := []) (zs_S (As := [.int 1]) (by omega) ok_X1_requireAllowed q1670 q1671 q53 q1672 rfl rfl (Nat.le_of_ble_eq_true rfl) dX1_add_81) c_requireAllowed1 ?_
              refine zr_new (ci := 2) (rB (kN c)) zt_X2 q151 q152 q57 rfl df_X2 dX1_add_84 ?_
              have hzz := zX.new S0 hw (rB (kN c)) (by unfold rB; omega) (.inr (2, d0_X2)) 27
              have hBi := hS.2.2.1 i hi
              have hq9 := hzz.f hw hBi.1.1 (fun h => h)
              have hqt9 := (hzz.t hw hBi.1.1).trans hBi.1.2
              have h19 := hzz.f hw hS.1.1 (fun h => h)
              have h1t9 := (hzz.t hw hS.1.1).trans hS.1.2
              have hbl9 := hzz.L hw hS.bxL (fun h => h) (fun h => h)
              obtain ⟨_, σ1, ⟨ch, wd, pl, ln, rfl, hX1, _, hb1, hch, hwd, hpl, hln⟩, hC⟩ := c_binit (d := d - 1) (G := G) (σ0 := σ) (N := kN c) (kd := kd) (q := kA c (rB i)) (dq := kF c i 3) (by omega) hG hzz.gd (by omega) hzz (Nat.le_refl _) (sF_newS _ _ _ _) (sT_newS _ _ _ _) h19 h1t9 hbl9 (CSys.bxl c) hkd hq9 rfl (by rw [hqt9]; unfold rB; omega)
              refine zr_dup dX1_add_87 rfl ?_
              refine zr_aload_n dX1_add_88 rfl rfl ?_
              refine zr_aload_n dX1_add_89 rfl rfl ?_
              refine zr_iload_n dX1_add_90 rfl rfl ?_
              refine zr_callv (rest := [.ref (sZ σ)]) (zs_I (As := [.ref (kA c 1), .ref (kA c (rB i)), .int kd]) (by omega) ok_X2_init q153 q154 q57 q155 rfl rfl rfl (Nat.le_of_ble_eq_true rfl) dX1_add_91) hC ?_
              obtain ⟨b, hb9⟩ : ∃ b, b = sZ σ := ⟨_, rfl⟩
              rw [← hb9] at hb1 ⊢
              have hS1 := hS.keep0 hw hX1
              have hnb : zAt G σ1 b (.inr (2, _)) := .new hb1.1
              obtain ⟨fl_hfl1, hfl1⟩ := hS1.bxL.A
              refine zr_astore (ls2 := [(0, .ref (kA c 1)), (1, .int (nI i)), (2, .int kd), (3, .ref (kA c (rB i))), (4, .ref b)]) dX1_add_94 (Nat.le_of_ble_eq_true rfl) rfl ?_
              refine zr_aload_n dX1_add_96 rfl rfl ?_
              refine zr_get (k := 0) (v := .ref (kA c 2)) in_X1 hS1.one rfl (Nat.le_of_ble_eq_true rfl) q806 (.inl rfl) rfl dX1_add_97 ?_
              refine zr_aload dX1_add_100 rfl ?_
              have hel : ∀ σ9 : zT, ∀ y : Nat, (∃ fs, zAt G σ9 y (.inr (2, fs))) → zEl G σ9 y := fun σ9 y ⟨fs, h⟩ => ⟨_, _, _, _, _, h, rfl, q2847⟩
              obtain ⟨_, σ2, ⟨rfl, hL2, hX2⟩, hC2⟩ := c_add (d := d - 1) (x := b) (by omega) hG hX1.gd hS1.bxL (by rw [CSys.bxl]; omega) (hel _ _ ⟨_, hnb⟩) (fun y hy => by
                obtain ⟨j, hj, rfl⟩ := List.mem_map.mp hy
                exact hel _ _ ⟨_, hS1.bx (List.mem_range.mp hj)⟩)
              rw [CSys.bxl] at hX2
              refine zr_call51 (rest := []) (zs_F (As := [.ref b]) (by omega) okF_J2_add (by decide +kernel) q352 q355 q357 q56 q359 hfl1 rfl rfl rfl (Nat.le_of_ble_eq_true rfl) dX1_add_102) hC2 ?_
              have hS1i := hS1.2.2.1 i hi
              have hX2b := hX2.f hX1.gd hS1i.1.1 (by rw [hS1i.1.2]; unfold rB; omega)
              have hcl := hX2.L hX1.gd hS1i.2.1 (by unfold rC; omega) (by unfold rC; omega)
              obtain ⟨fl_c, hflc⟩ := hcl.A
              have hlc : ((kCh c i).map (fun j => kA c (rB j))).length ≤ 24 := by rw [List.length_map]; exact hS.chl hi
              refine zr_pop dX1_add_107 rfl ?_
              refine zr_aload_n dX1_add_108 rfl rfl ?_
              refine zr_getN (k := 4) (v := .ref (kA c (rC i))) in_X2 (.new hX2b) rfl (Nat.le_of_ble_eq_true rfl) q238 (.inl rfl) rfl dX1_add_109 ?_
              refine zr_aload dX1_add_112 rfl ?_
              obtain ⟨_, σ3, ⟨rfl, hL3, hX3⟩, hC3⟩ := c_add (d := d - 1) (x := b) (by omega) hG hX2.gd hcl (by omega) (hX2.2.2.1 _ (hel _ _ ⟨_, hnb⟩)) (fun y hy => by
                obtain ⟨j, hj, rfl⟩ := List.mem_map.mp hy
                exact hX2.2.2.1 _ (hel _ _ ⟨_, hS1.bx (hS.ch hi hj).2⟩))
              refine zr_call51 (rest := []) (zs_F (As := [.ref b]) (by omega) okF_J2_add (by decide +kernel) q352 q355 q357 q56 q359 hflc rfl rfl rfl (Nat.le_of_ble_eq_true rfl) dX1_add_114) hC3 ?_
              have hX12 : zX G (ST4 i) σ1 σ3 _ := (hX2.mono (fun s h => h.elim Or.inl (fun h => Or.inr (Or.inl h)))).trans (hX3.mono (fun s h => Or.inr (Or.inr h)))
              have hX03 : zX G (ST4 i) σ σ3 _ := hX1.in.trans hX12
              have hS3 := CSys.add hS hw hX1.gd h24n hi hkd hX03 hX12 hb1.1 hb1.2 hch hwd hpl.1 hpl.2 hln (hX3.L hX2.gd hL2 (by unfold rC; omega) (by unfold rC; omega)) hL3
              obtain ⟨c1, hc1⟩ : ∃ c1, c1 = kAddA c i kd (addA c b ch wd pl ln) := ⟨_, rfl⟩
              have hN1 : kN c1 = kN c + 1 := by rw [hc1]; rfl
              have hAb : kA c1 (rB (kN c)) = b := by rw [hc1]; exact addA_b c b ch wd pl ln
              have hZ1 : kZ c1 = kZ (kAddA c i kd (kA c)) := by rw [hc1]; rfl
              rw [← hc1] at hS3
              rw [← hAb]
              obtain ⟨_, σ4, ⟨rfl, hS4, hX4⟩, hC4⟩ := c_X2_touch (d := d - 1) hX03.gd hS3 (i := kN c) (by omega)
              have hN4 : kN (kTouch c1 (kN c)) = kN c1 := kTouch_N c1 (kN c)
              have hA4 : kA (kTouch c1 (kN c)) = kA c1 := kTouch_A c1 (kN c)
              have hb4 := hS4.bx (i := kN c) (by omega)
              rw [hA4] at hb4
              refine zr_pop dX1_add_119 rfl ?_
              refine zr_aload dX1_add_120 rfl ?_
              refine zr_callv (rest := []) (zs_V (As := []) (by omega) ok_X2_touch q1688 q1689 q1690 q57 q1691 rfl (hS3.bx (by omega)) rfl rfl rfl (Nat.le_of_ble_eq_true rfl) dX1_add_122) hC4 ?_
              refine zr_aload dX1_add_125 rfl ?_
              refine zr_getN (k := 0) (v := .int (nI (kN c))) in_X2 hb4 rfl (Nat.le_of_ble_eq_true rfl) q227 (.inl rfl) rfl dX1_add_127 ?_
              exact zr_iret rfl rfl dX1_add_130 (⟨oR_ok, _, hS4, by rw [kTouch_Z, kTouch_Z, hZ1], ((hX03.mono (fun s h => ST4_SC hle hi h)).trans hX4).le (by omega)⟩)
      · have hk0 : isKd kd = false := by simpa using hk
        rw [pAdd_2 hle hi hk0, hk0]
        obtain ⟨_, σ1, ⟨q, rfl, hX⟩, hC⟩ := c_requireArgument0 (d := d - 1) (by omega) hG hw
        show zR _ _ _ _ _ _ _ _ _ [.int 0] _ _
        refine zr_callX (rest := []) (zs_S (As := [.int 0]) (by omega) ok_X1_requireArgument q1644 q1645 q53 q1646 rfl rfl (Nat.le_of_ble_eq_true rfl) dX1_add_35) hC ?_
        exact zx_out (by decide) ⟨oR_x (by decide), c, hS.keep0 hw hX, rfl, hX.in.le (by omega)⟩
    refine zr_iload_n dX1_add_6 rfl rfl ?_
    refine zr_bipush (v := 98) dX1_add_7 (by decide) ?_
    refine zr_icmp_eq (tgt := 30) dX1_add_9 (by decide) (fun c_4 => ?_) (fun c_4 => ?_)
    · refine zr_iconst (v := 1) dX1_add_30 (by decide) ?_
      refine zr_goto (tgt := 35) dX1_add_31 (by decide) ?_
      exact key _ (by rw [show isKd kd = true from by simp [isKd, c_4]]; rfl)
    · refine zr_iload_n dX1_add_12 rfl rfl ?_
      refine zr_bipush (v := 116) dX1_add_13 (by decide) ?_
      refine zr_icmp_eq (tgt := 30) dX1_add_15 (by decide) (fun c_5 => ?_) (fun c_5 => ?_)
      · refine zr_iconst (v := 1) dX1_add_30 (by decide) ?_
        refine zr_goto (tgt := 35) dX1_add_31 (by decide) ?_
        exact key _ (by rw [show isKd kd = true from by simp [isKd, c_4, c_5]]; rfl)
      · refine zr_iload_n dX1_add_18 rfl rfl ?_
        refine zr_bipush (v := 102) dX1_add_19 (by decide) ?_
        refine zr_icmp_eq (tgt := 30) dX1_add_21 (by decide) (fun c_6 => ?_) (fun c_6 => ?_)
        · refine zr_iconst (v := 1) dX1_add_30 (by decide) ?_
          refine zr_goto (tgt := 35) dX1_add_31 (by decide) ?_
          exact key _ (by rw [show isKd kd = true from by simp [isKd, c_4, c_5, c_6]]; rfl)
        · refine zr_iload_n dX1_add_24 rfl rfl ?_
          refine zr_bipush (v := 103) dX1_add_25 (by decide) ?_
          refine zr_icmp_ne (tgt := 34) dX1_add_27 (by decide) (fun c_7 => ?_) (fun c_7 => ?_)
          · refine zr_iconst (v := 0) dX1_add_34 (by decide) ?_
            exact key _ (by rw [show isKd kd = false from by simp [isKd, c_4, c_5, c_6, c_7]]; rfl)
          · refine zr_iconst (v := 1) dX1_add_30 (by decide) ?_
            refine zr_goto (tgt := 35) dX1_add_31 (by decide) ?_
            exact key _ (by rw [show isKd kd = true from by simp [isKd, c_4, c_5, c_6, c_7]]; rfl)
  · have hb0 : btw n 0 (nI (kN c) - 1) = false := by simpa using hb
    rw [pAdd_0 hb0]
    obtain ⟨_, σ1, ⟨q, rfl, hX⟩, hC⟩ := c_box0 (d := d - 1) (by omega) hG hw hS hb0
    obtain ⟨fl_hfl, hfl⟩ := hS.bxL.A
    refine zr_aload_n dX1_add_0 rfl rfl ?_
    refine zr_iload_n dX1_add_1 rfl rfl ?_
    refine zr_callX (rest := []) (zs_V (As := [.int n]) (by omega) ok_X1_box q1629 q1631 qs28 q53 q1632 rfl hS.one rfl rfl rfl (Nat.le_of_ble_eq_true rfl) dX1_add_2) hC ?_
    exact zx_out (by decide) ⟨oR_x (by decide), c, hS.keep0 hw hX, rfl, hX.in.le (by omega)⟩
