/-! ===== the reference: grid, whole (rows printed by tools/p111.py) ===== -/
set_option maxHeartbeats 4000000 in
theorem l_X4_grid6 {G : zG} {σ : zT} {d m : Nat} {c0 : zCS} {th : Int32} {i l wa wb : Nat} {mod : Int32} {es : List Nat} {b : Bool} {g gw : Nat → Int32} {Q : zO → zT → Prop} (hd : 75 ≤ d) (hG : zOk G) (hw : zGd G σ) (hL : zL G σ (dT l) l mod (es.map (fun j => kA c0 (rB j)))) (hes : ∀ j, j ∈ es → j < kN c0) (hel : es.length ≤ 24) (hA0 : sF σ wa = some (aI G m g)) (hT0 : sT σ wa = 0) {fr to n : Nat} {y hh ct : Int32} (hft : fr ≤ to) (hto : to ≤ es.length) (htm : to ≤ fr + m) (hm4 : m ≤ 4) : ∀ (ys : List Nat) (k : Nat) (p : zCS × Int32) (σ1 : zT), (∃ zs, es.drop k = ys ++ zs) → k + ys.length = to → fr ≤ k → MQe c0 p.1 → zX G SM σ σ1 n → MSys G σ1 p.1 th ct → (∀ σ2 x, zX G SM σ σ2 n → MSys G σ2 ((nums ys k).foldl (mGx g fr y) p).1 th ct → zR G yX4_grid cX4_grid 13 (Option.some Jvm.ClassFile.FieldType.int) [] d 417 [(0, .ref (kA c0 1)), (1, .ref (kA c0 (rB i))), (2, .int (bI b)), (3, .ref l), (4, .ref wa), (6, .ref wb), (7, .int y), (8, .int (nI fr)), (9, .int (nI to)), (10, .int hh), (11, .int x)] [] σ2 Q) → zR G yX4_grid cX4_grid 13 (Option.some Jvm.ClassFile.FieldType.int) [] d 337 [(0, .ref (kA c0 1)), (1, .ref (kA c0 (rB i))), (2, .int (bI b)), (3, .ref l), (4, .ref wa), (6, .ref wb), (7, .int y), (8, .int (nI fr)), (9, .int (nI to)), (10, .int hh), (11, .int p.2), (12, .int (nI k))] [] σ1 Q := by
  intro ys
  induction ys with
  | nil =>
    intro k p σ1 hy hk hfk hE hX hS kQ
    rw [List.length_nil] at hk
    refine zr_iload dX4_grid_337 rfl ?_
    refine zr_iload dX4_grid_339 rfl ?_
    refine zr_icmp_ge (tgt := 417) dX4_grid_341 (by decide) (fun _ => ?_) (fun h9 => absurd (by rw [show k = to by omega]; exact Int32.le_refl _) h9)
    refine zr_sub (ls2 := [(0, .ref (kA c0 1)), (1, .ref (kA c0 (rB i))), (2, .int (bI b)), (3, .ref l), (4, .ref wa), (6, .ref wb), (7, .int y), (8, .int (nI fr)), (9, .int (nI to)), (10, .int hh), (11, .int p.2)]) [0, 1, 2, 3, 4, 5, 6, 7, 8, 9, 10] rfl ?_
    exact kQ σ1 _ hX hS
  | cons j ys ih =>
    intro k p σ1 hy hk hfk hE hX hS kQ
    obtain ⟨zs, hy⟩ := hy
    obtain ⟨hx, hy2, hkl, hm⟩ := drop_consZ hy
    have hj := hes j hm
    rw [List.length_cons] at hk
    have hkt : k < to := by omega
    have hL1 := hX.L hw hL SM_dT.1 SM_dT.2
    obtain ⟨fl, hfl⟩ := hL1.A
    have hj1 : j < kN p.1 := by rw [hE.n]; exact hj
    have hbF : sF σ1 (kA c0 (rB j)) = some (.inr (5, mBx p.1 j)) := hE.2 ▸ hS.bF hj1
    have hbj : zAt G σ1 (kA c0 (rB j)) (.inr (5, mBx p.1 j)) := .new hbF
    have hfold : ∀ p, List.foldl (mGx g fr y) p (nums (j :: ys) k) = (nums ys (k + 1)).foldl (mGx g fr y) (mGx g fr y p (k, j)) := fun _ => rfl
    simp only [hfold] at kQ
    have hS3 : MSys G (sUp σ1 (kA c0 (rB j)) (.inr (5, mBx (kSetP p.1 j 0 (p.2 + kF p.1 j 10)) j))) (kSetP p.1 j 0 (p.2 + kF p.1 j 10)) th ct := hE.2 ▸ hS.setP (k := 0) hj1 _
    have hX13 : zX G SM σ1 (sUp σ1 (kA c0 (rB j)) (.inr (5, mBx (kSetP p.1 j 0 (p.2 + kF p.1 j 10)) j))) 0 := hE.2 ▸ hS.XB hX.gd hj1 _
    generalize hσ3 : sUp σ1 (kA c0 (rB j)) (.inr (5, mBx (kSetP p.1 j 0 (p.2 + kF p.1 j 10)) j)) = σ3 at hS3 hX13
    have hX3 := hX.trans hX13
    have hbF3 : sF σ3 (kA c0 (rB j)) = some (.inr (5, mBx (kSetP p.1 j 0 (p.2 + kF p.1 j 10)) j)) := hE.2 ▸ hS3.bF hj1
    have hbj3 : zAt G σ3 (kA c0 (rB j)) (.inr (5, mBx (kSetP p.1 j 0 (p.2 + kF p.1 j 10)) j)) := .new hbF3
    have hov9 : zC G I_X5_over (d - 1) [.ref (kA (kSetP p.1 j 0 (p.2 + kF p.1 j 10)) (rB j))] σ3 (.inl (some (.int (mOver (kSetP p.1 j 0 (p.2 + kF p.1 j 10)) j 8)))) σ3 := c_X5_over hS3 hj1
    have hov8 : zC G I_X5_over (d - 1) [.ref (kA p.1 (rB j))] σ3 (.inl (some (.int (mOver p.1 j 8)))) σ3 := hov9
    have hov3 : zC G I_X5_over (d - 1) [.ref (kA c0 (rB j))] σ3 (.inl (some (.int (mOver p.1 j 8)))) σ3 := hE.2 ▸ hov8
    have hL3 := hX3.L hw hL SM_dT.1 SM_dT.2
    obtain ⟨fl3, hfl3⟩ := hL3.A
    have hS4 : MSys G (sUp σ3 (kA c0 (rB j)) (.inr (5, mBx (kSetP (kSetP p.1 j 0 (p.2 + kF p.1 j 10)) j 1 (y + mOver p.1 j 8)) j))) (kSetP (kSetP p.1 j 0 (p.2 + kF p.1 j 10)) j 1 (y + mOver p.1 j 8)) th ct := hE.2 ▸ hS3.setP (k := 1) hj1 _
    have hX34 : zX G SM σ3 (sUp σ3 (kA c0 (rB j)) (.inr (5, mBx (kSetP (kSetP p.1 j 0 (p.2 + kF p.1 j 10)) j 1 (y + mOver p.1 j 8)) j))) 0 := hE.2 ▸ hS3.XB hX3.gd hj1 _
    generalize hσ4 : sUp σ3 (kA c0 (rB j)) (.inr (5, mBx (kSetP (kSetP p.1 j 0 (p.2 + kF p.1 j 10)) j 1 (y + mOver p.1 j 8)) j)) = σ4 at hS4 hX34
    have hX4 := hX3.trans hX34
    have hA4 := hX4.f hw hA0 (by rw [hT0]; exact SM_0)
    refine zr_iload dX4_grid_337 rfl ?_
    refine zr_iload dX4_grid_339 rfl ?_
    refine zr_icmp_ge (tgt := 417) dX4_grid_341 (by decide) (fun h9 => absurd h9 (Int32.not_le.mpr ((nI_ltI (by omega) (by omega)).mpr hkt))) (fun _ => ?_)
    refine zr_aload_n dX4_grid_344 rfl rfl ?_
    refine zr_iload dX4_grid_345 rfl ?_
    refine zr_call1 (rest := []) (zs_V (As := [.int (nI k)]) (by omega) ok_J2_get q2250 q959 q2840 q56 q960 rfl hfl rfl rfl rfl (Nat.le_of_ble_eq_true rfl) dX4_grid_347) (c_J2_get (by omega) hG hL1 (map_at (fun j => kA c0 (rB j)) hx)) ?_
    refine zr_castS hbj rfl q2084 dX4_grid_350 ?_
    refine zr_iload dX4_grid_353 rfl ?_
    refine zr_aload_n dX4_grid_355 rfl rfl ?_
    refine zr_iload dX4_grid_356 rfl ?_
    refine zr_call1 (rest := [.int p.2, .ref (kA c0 (rB j))]) (zs_V (As := [.int (nI k)]) (by omega) ok_J2_get q2250 q959 q2840 q56 q960 rfl hfl rfl rfl rfl (Nat.le_of_ble_eq_true rfl) dX4_grid_358) (c_J2_get (by omega) hG hL1 (map_at (fun j => kA c0 (rB j)) hx)) ?_
    refine zr_castS hbj rfl q2084 dX4_grid_361 ?_
    refine zr_get (k := 11) (v := .int (kF p.1 j 10)) in_X5 hbj rfl (Nat.le_of_ble_eq_true rfl) q2115 (.inl rfl) rfl dX4_grid_364 ?_
    refine zr_iadd dX4_grid_367 ?_
    refine zr_put (k := 27) (fs' := (mBx (kSetP p.1 j 0 (p.2 + kF p.1 j 10)) j)) zt_X5 hbF rfl (Nat.le_of_ble_eq_true rfl) q2147 (.inl rfl) rfl rfl rfl (Nat.le_of_ble_eq_true rfl) (mBx_P0 _ _ _) dX4_grid_368 ?_
    rw [hσ3]
    refine zr_aload_n dX4_grid_371 rfl rfl ?_
    refine zr_iload dX4_grid_372 rfl ?_
    refine zr_call1 (rest := []) (zs_V (As := [.int (nI k)]) (by omega) ok_J2_get q2250 q959 q2840 q56 q960 rfl hfl3 rfl rfl rfl (Nat.le_of_ble_eq_true rfl) dX4_grid_374) (c_J2_get (by omega) hG hL3 (map_at (fun j => kA c0 (rB j)) hx)) ?_
    refine zr_castS hbj3 rfl q2084 dX4_grid_377 ?_
    refine zr_iload dX4_grid_380 rfl ?_
    refine zr_aload_n dX4_grid_382 rfl rfl ?_
    refine zr_iload dX4_grid_383 rfl ?_
    refine zr_call1 (rest := [.int y, .ref (kA c0 (rB j))]) (zs_V (As := [.int (nI k)]) (by omega) ok_J2_get q2250 q959 q2840 q56 q960 rfl hfl3 rfl rfl rfl (Nat.le_of_ble_eq_true rfl) dX4_grid_385) (c_J2_get (by omega) hG hL3 (map_at (fun j => kA c0 (rB j)) hx)) ?_
    refine zr_castS hbj3 rfl q2084 dX4_grid_388 ?_
    refine zr_call1 (rest := [.int y, .ref (kA c0 (rB j))]) (zs_V (As := []) (by omega) ok_X5_over q2377 q2378 q2379 q78 q2380 rfl hbj3 rfl rfl rfl (Nat.le_of_ble_eq_true rfl) dX4_grid_391) hov3 ?_
    refine zr_iadd dX4_grid_394 ?_
    refine zr_put (k := 28) (fs' := (mBx (kSetP (kSetP p.1 j 0 (p.2 + kF p.1 j 10)) j 1 (y + mOver p.1 j 8)) j)) zt_X5 hbF3 rfl (Nat.le_of_ble_eq_true rfl) q2149 (.inl rfl) rfl rfl rfl (Nat.le_of_ble_eq_true rfl) (mBx_P1 _ _ _) dX4_grid_395 ?_
    rw [hσ4]
    refine zr_iload dX4_grid_398 rfl ?_
    refine zr_aload dX4_grid_400 rfl ?_
    refine zr_iload dX4_grid_402 rfl ?_
    refine zr_iload dX4_grid_404 rfl ?_
    refine zr_isub dX4_grid_406 ?_
    refine zr_eqi (z := (nI (k - fr))) (nI_sub hfk) ?_
    refine zr_iald (v := .int (g (k - fr))) (.new hA4) (vp_in_nI (by omega) (by omega)) (by rw [nI_clamp (by omega)]) dX4_grid_407 ?_
    refine zr_iadd dX4_grid_408 ?_
    refine zr_istore (ls2 := [(0, .ref (kA c0 1)), (1, .ref (kA c0 (rB i))), (2, .int (bI b)), (3, .ref l), (4, .ref wa), (6, .ref wb), (7, .int y), (8, .int (nI fr)), (9, .int (nI to)), (10, .int hh), (11, .int (p.2 + (g (k - fr)))), (12, .int (nI k))]) dX4_grid_409 (Nat.le_of_ble_eq_true rfl) rfl ?_
    refine zr_iinc (v := (nI k + 1)) (ls2 := [(0, .ref (kA c0 1)), (1, .ref (kA c0 (rB i))), (2, .int (bI b)), (3, .ref l), (4, .ref wa), (6, .ref wb), (7, .int y), (8, .int (nI fr)), (9, .int (nI to)), (10, .int hh), (11, .int (p.2 + (g (k - fr)))), (12, .int (nI k + 1))]) dX4_grid_411 rfl rfl (Nat.le_of_ble_eq_true rfl) rfl ?_
    rw [show nI k + 1 = nI (k + 1) from nI_1 k]
    refine zr_goto (tgt := 337) dX4_grid_414 (by decide) ?_
    refine zr_sub (ls2 := [(0, .ref (kA c0 1)), (1, .ref (kA c0 (rB i))), (2, .int (bI b)), (3, .ref l), (4, .ref wa), (6, .ref wb), (7, .int y), (8, .int (nI fr)), (9, .int (nI to)), (10, .int hh), (11, .int (p.2 + (g (k - fr)))), (12, .int (nI (k + 1)))]) [0, 1, 2, 3, 4, 5, 6, 7, 8, 9, 10, 11] rfl ?_
    exact ih (k + 1) (mGx g fr y p (k, j)) σ4 ⟨zs, hy2⟩ (by omega) (by omega) (hE.trans (MQe.Gx g fr y p (k, j))) hX4 hS4 kQ
theorem nI_min {a b : Nat} (ha : a ≤ 1000) (hb : b ≤ 1000) : imin (nI a) (nI b) = nI (min a b) := by
  unfold imin
  by_cases h : a ≤ b
  · rw [Nat.min_eq_left h, if_neg (Int32.not_lt.mpr ((nI_leI (by omega) (by omega)).mpr h))]
  · rw [Nat.min_eq_right (by omega), if_pos ((nI_ltI (by omega) (by omega)).mpr (by omega))]
set_option maxHeartbeats 4000000 in
theorem l_X4_grid5 {G : zG} {σ : zT} {d m : Nat} {c0 : zCS} {th : Int32} {i l wa wb : Nat} {mod : Int32} {es : List Nat} {b : Bool} {g gw : Nat → Int32} {Q : zO → zT → Prop} (hd : 75 ≤ d) (hG : zOk G) (hw : zGd G σ) (hL : zL G σ (dT l) l mod (es.map (fun j => kA c0 (rB j)))) (hes : ∀ j, j ∈ es → j < kN c0) (hel : es.length ≤ 24) (hA0 : sF σ wa = some (aI G m g)) (hT0 : sT σ wa = 0) {L : LM} {f0 N : Nat} (hi : i < kN c0) (hbd : ∀ j, j ∈ es → kN c0 ≤ f0 + j) (hm1 : 1 ≤ m) (hm4 : m ≤ 4) (hcol : kF c0 i 15 = nI m) (hB0 : sF σ wb = some (aI G es.length gw)) (hTB : sT σ wb = 0) (hLM : HLM G th L f0 (d - 2)) : ∀ (f fr n : Nat) (s : MT) (y : Int32) (σ1 : zT), es.length < fr + f → fr ≤ es.length + m → MQe c0 s.1 → zX G SM σ σ1 n → n + ((es.drop fr).map (fun j => LB f0 c0 j)).sum ≤ N → MSys G σ1 s.1 th s.2 → (∀ σ2 x, zX G SM σ σ2 N → MSys G σ2 (mGLoop L b g gw es m (kF c0 i 12) f fr s y).1.1 th (mGLoop L b g gw es m (kF c0 i 12) f fr s y).1.2 → zR G yX4_grid cX4_grid 13 (Option.some Jvm.ClassFile.FieldType.int) [] d 436 [(0, .ref (kA c0 1)), (1, .ref (kA c0 (rB i))), (2, .int (bI b)), (3, .ref l), (4, .ref wa), (6, .ref wb), (7, .int (mGLoop L b g gw es m (kF c0 i 12) f fr s y).2), (8, .int x)] [] σ2 Q) → zR G yX4_grid cX4_grid 13 (Option.some Jvm.ClassFile.FieldType.int) [] d 290 [(0, .ref (kA c0 1)), (1, .ref (kA c0 (rB i))), (2, .int (bI b)), (3, .ref l), (4, .ref wa), (6, .ref wb), (7, .int y), (8, .int (nI fr))] [] σ1 Q := by
  intro f
  induction f with
  | zero =>
    intro fr n s y σ1 hf hfm hE hX hN hS kQ
    have hB1 := hX.f hw hB0 (by rw [hTB]; exact SM_0)
    have hge : es.length ≤ fr := by omega
    refine zr_iload dX4_grid_290 rfl ?_
    refine zr_aload dX4_grid_292 rfl ?_
    refine zr_alenI (v := nI es.length) (.new hB1) rfl dX4_grid_294 ?_
    refine zr_icmp_ge (tgt := 436) dX4_grid_295 (by decide) (fun _ => ?_) (fun h9 => absurd ((nI_leI (by omega) (by omega)).mpr hge) h9)
    exact kQ σ1 _ (hX.le (by omega)) hS
  | succ f ih =>
    intro fr n s y σ1 hf hfm hE hX hN hS kQ
    have hB1 := hX.f hw hB0 (by rw [hTB]; exact SM_0)
    by_cases hfl : fr < es.length
    · have hgo : mGLoop L b g gw es m (kF c0 i 12) (f + 1) fr s y = mGLoop L b g gw es m (kF c0 i 12) f (fr + m) (((nums ((es.drop fr).take (min es.length (fr + m) - fr)) fr).foldl (mGx g fr y) ((mRn L b gw s ((es.drop fr).take (min es.length (fr + m) - fr)) fr).1.1, kF c0 i 12)).1, (mRn L b gw s ((es.drop fr).take (min es.length (fr + m) - fr)) fr).1.2) (y + (mRn L b gw s ((es.drop fr).take (min es.length (fr + m) - fr)) fr).2) := if_pos hfl
      rw [hgo] at kQ
      obtain ⟨to, hto⟩ : ∃ to, to = min es.length (fr + m) := ⟨_, rfl⟩
      have hft : fr ≤ to := by omega
      have hte : to ≤ es.length := by omega
      have htm : to ≤ fr + m := by omega
      rw [← hto] at kQ
      obtain ⟨rs, hrs⟩ : ∃ rs, rs = (es.drop fr).take (to - fr) := ⟨_, rfl⟩
      rw [← hrs] at kQ
      have hrl : fr + rs.length = to := by rw [hrs, List.length_take, List.length_drop]; omega
      have hdr : ∃ zs, es.drop fr = rs ++ zs := ⟨(es.drop fr).drop (to - fr), by rw [hrs, List.take_append_drop]⟩
      have hcut : (es.drop fr).map (fun j => LB f0 c0 j) = rs.map (fun j => LB f0 c0 j) ++ ((es.drop to).map (fun j => LB f0 c0 j)) := by
        rw [← List.map_append, hrs, show es.drop to = (es.drop fr).drop (to - fr) by rw [List.drop_drop]; congr 1; omega, List.take_append_drop]
      rw [hcut, List.sum_append] at hN
      have hL1 := hX.L hw hL SM_dT.1 SM_dT.2
      have hA1 := hX.f hw hA0 (by rw [hT0]; exact SM_0)
      have hT1 := (hX.t hw hB0).trans hTB
      have hi1 : i < kN s.1 := by rw [hE.n]; exact hi
      have hbi1 : zAt G σ1 (kA c0 (rB i)) (.inr (5, mBx s.1 i)) := hE.2 ▸ hS.bx hi1
      have h11 : zAt G σ1 (kA c0 1) (.inr (4, mO s.1 th s.2)) := hE.2 ▸ hS.one
      have hcol1 : kF s.1 i 15 = nI m := (hE.1.f i 15 (by decide)).trans hcol
      have hL1' : zL G σ1 (dT l) l mod (es.map (fun j => kA s.1 (rB j))) := by rw [hE.2]; exact hL1
      obtain ⟨_, σ2, ⟨rfl, hS2, hX2⟩, hC2⟩ := c_X4_inRow (c0 := s.1) (ct := s.2) (fr := fr) (to := to) (b := b) (d := d - 1) (f := f0) (by omega) hG hX.gd hL1' (fun j hj => by rw [hE.n]; exact ⟨hes j hj, hbd j hj⟩) hel hte hB1 hT1 hS hft (L := L) hLM
      rw [← hrs] at hS2 hX2 hC2
      rw [hE.2] at hC2
      have hLBe : (rs.map (fun j => LB f0 s.1 j)) = rs.map (fun j => LB f0 c0 j) := List.map_congr_left (fun j _ => LB_eq hE.1 f0 j)
      rw [hLBe] at hX2
      obtain ⟨R, hR⟩ : ∃ R, R = mRn L b gw s rs fr := ⟨_, rfl⟩
      rw [← hR] at hS2 hC2 kQ
      have hE2 : MQe c0 R.1.1 := by rw [hR]; exact hE.trans (MQe.Rn hLM.1 b _ s rs fr)
      have hX12 := hX.trans hX2
      have hi2 : i < kN R.1.1 := by rw [hE2.n]; exact hi
      have hbi2 : zAt G σ2 (kA c0 (rB i)) (.inr (5, mBx R.1.1 i)) := hE2.2 ▸ hS2.bx hi2
      have hpad : kF R.1.1 i 12 = kF c0 i 12 := hE2.1.f i 12 (by decide)
      have hcol2 : kF R.1.1 i 15 = nI m := (hE2.1.f i 15 (by decide)).trans hcol
      refine zr_iload dX4_grid_290 rfl ?_
      refine zr_aload dX4_grid_292 rfl ?_
      refine zr_alenI (v := nI es.length) (.new hB1) rfl dX4_grid_294 ?_
      refine zr_icmp_ge (tgt := 436) dX4_grid_295 (by decide) (fun h9 => absurd h9 (Int32.not_le.mpr ((nI_ltI (by omega) (by omega)).mpr hfl))) (fun _ => ?_)
      refine zr_aload dX4_grid_298 rfl ?_
      refine zr_alenI (v := nI es.length) (.new hB1) rfl dX4_grid_300 ?_
      refine zr_iload dX4_grid_301 rfl ?_
      refine zr_aload_n dX4_grid_303 rfl rfl ?_
      refine zr_get (k := 16) (v := .int (kF s.1 i 15)) in_X5 hbi1 rfl (Nat.le_of_ble_eq_true rfl) q2125 (.inl rfl) rfl dX4_grid_304 ?_
      refine zr_eqi (z := (nI m)) (hcol1) ?_
      refine zr_iadd dX4_grid_307 ?_
      refine zr_eqi (z := (nI (fr + m))) (nI_add _ _) ?_
      refine zr_min (by omega) q2376 q431 q60 q432 (Nat.le_of_ble_eq_true rfl) dX4_grid_308 ?_
      refine zr_eqi (z := (nI to)) (by rw [hto]; exact nI_min (by omega) (by omega)) ?_
      refine zr_istore (ls2 := [(0, .ref (kA c0 1)), (1, .ref (kA c0 (rB i))), (2, .int (bI b)), (3, .ref l), (4, .ref wa), (6, .ref wb), (7, .int y), (8, .int (nI fr)), (9, .int (nI to))]) dX4_grid_311 (Nat.le_of_ble_eq_true rfl) rfl ?_
      refine zr_aload_n dX4_grid_313 rfl rfl ?_
      refine zr_aload_n dX4_grid_314 rfl rfl ?_
      refine zr_aload dX4_grid_315 rfl ?_
      refine zr_iload dX4_grid_317 rfl ?_
      refine zr_iload dX4_grid_319 rfl ?_
      refine zr_iload_n dX4_grid_321 rfl rfl ?_
      refine zr_call1 (rest := []) (zs_V (As := [.ref l, .ref wb, .int (nI fr), .int (nI to), .int (bI b)]) (by omega) ok_X4_inRow q2515 q2517 qs45 q77 q2518 rfl h11 rfl rfl rfl (Nat.le_of_ble_eq_true rfl) dX4_grid_322) hC2 ?_
      refine zr_istore (ls2 := [(0, .ref (kA c0 1)), (1, .ref (kA c0 (rB i))), (2, .int (bI b)), (3, .ref l), (4, .ref wa), (6, .ref wb), (7, .int y), (8, .int (nI fr)), (9, .int (nI to)), (10, .int R.2)]) dX4_grid_325 (Nat.le_of_ble_eq_true rfl) rfl ?_
      refine zr_aload_n dX4_grid_327 rfl rfl ?_
      refine zr_get (k := 13) (v := .int (kF R.1.1 i 12)) in_X5 hbi2 rfl (Nat.le_of_ble_eq_true rfl) q2119 (.inl rfl) rfl dX4_grid_328 ?_
      rw [hpad]
      refine zr_istore (ls2 := [(0, .ref (kA c0 1)), (1, .ref (kA c0 (rB i))), (2, .int (bI b)), (3, .ref l), (4, .ref wa), (6, .ref wb), (7, .int y), (8, .int (nI fr)), (9, .int (nI to)), (10, .int R.2), (11, .int (kF c0 i 12))]) dX4_grid_331 (Nat.le_of_ble_eq_true rfl) rfl ?_
      refine zr_iload dX4_grid_333 rfl ?_
      refine zr_istore (ls2 := [(0, .ref (kA c0 1)), (1, .ref (kA c0 (rB i))), (2, .int (bI b)), (3, .ref l), (4, .ref wa), (6, .ref wb), (7, .int y), (8, .int (nI fr)), (9, .int (nI to)), (10, .int R.2), (11, .int (kF c0 i 12)), (12, .int (nI fr))]) dX4_grid_335 (Nat.le_of_ble_eq_true rfl) rfl ?_
      refine zr_sub (ls2 := [(0, .ref (kA c0 1)), (1, .ref (kA c0 (rB i))), (2, .int (bI b)), (3, .ref l), (4, .ref wa), (6, .ref wb), (7, .int y), (8, .int (nI fr)), (9, .int (nI to)), (10, .int R.2), (11, .int (kF c0 i 12)), (12, .int (nI fr))]) [0, 1, 2, 3, 4, 5, 6, 7, 8, 9, 10, 11] rfl ?_
      refine l_X4_grid6 (gw := gw) (σ := σ) (y := y) (hh := R.2) (by omega) hG hw hL hes hel hA0 hT0 hft hte htm hm4 rs fr (R.1.1, kF c0 i 12) σ2 hdr hrl (Nat.le_refl _) hE2 hX12 hS2 (fun σ3 x3 hX3 hS3 => ?_)
      have hE3 : MQe c0 ((nums rs fr).foldl (mGx g fr y) (R.1.1, kF c0 i 12)).1 := hE2.trans (MQe.fold (fun p : zCS × Int32 => p.1) (mGx g fr y) (fun p q => MQe.Gx g fr y p q) _ (R.1.1, kF c0 i 12))
      have hi3 : i < kN ((nums rs fr).foldl (mGx g fr y) (R.1.1, kF c0 i 12)).1 := by rw [hE3.n]; exact hi
      have hbi3 : zAt G σ3 (kA c0 (rB i)) (.inr (5, mBx ((nums rs fr).foldl (mGx g fr y) (R.1.1, kF c0 i 12)).1 i)) := hE3.2 ▸ hS3.bx hi3
      have hcol3 : kF ((nums rs fr).foldl (mGx g fr y) (R.1.1, kF c0 i 12)).1 i 15 = nI m := (hE3.1.f i 15 (by decide)).trans hcol
      refine zr_iload dX4_grid_417 rfl ?_
      refine zr_iload dX4_grid_419 rfl ?_
      refine zr_iadd dX4_grid_421 ?_
      refine zr_istore (ls2 := [(0, .ref (kA c0 1)), (1, .ref (kA c0 (rB i))), (2, .int (bI b)), (3, .ref l), (4, .ref wa), (6, .ref wb), (7, .int (y + R.2)), (8, .int (nI fr)), (9, .int (nI to)), (10, .int R.2), (11, .int x3)]) dX4_grid_422 (Nat.le_of_ble_eq_true rfl) rfl ?_
      refine zr_iload dX4_grid_424 rfl ?_
      refine zr_aload_n dX4_grid_426 rfl rfl ?_
      refine zr_get (k := 16) (v := .int (kF ((nums rs fr).foldl (mGx g fr y) (R.1.1, kF c0 i 12)).1 i 15)) in_X5 hbi3 rfl (Nat.le_of_ble_eq_true rfl) q2125 (.inl rfl) rfl dX4_grid_427 ?_
      refine zr_eqi (z := (nI m)) (hcol3) ?_
      refine zr_iadd dX4_grid_430 ?_
      refine zr_eqi (z := (nI (fr + m))) (nI_add _ _) ?_
      refine zr_istore (ls2 := [(0, .ref (kA c0 1)), (1, .ref (kA c0 (rB i))), (2, .int (bI b)), (3, .ref l), (4, .ref wa), (6, .ref wb), (7, .int (y + R.2)), (8, .int (nI (fr + m))), (9, .int (nI to)), (10, .int R.2), (11, .int x3)]) dX4_grid_431 (Nat.le_of_ble_eq_true rfl) rfl ?_
      refine zr_goto (tgt := 290) dX4_grid_433 (by decide) ?_
      refine zr_sub (ls2 := [(0, .ref (kA c0 1)), (1, .ref (kA c0 (rB i))), (2, .int (bI b)), (3, .ref l), (4, .ref wa), (6, .ref wb), (7, .int (y + R.2)), (8, .int (nI (fr + m)))]) [0, 1, 2, 3, 4, 5, 6, 7] rfl ?_
      have hdm : ((es.drop (fr + m)).map (fun j => LB f0 c0 j)).sum ≤ ((es.drop to).map (fun j => LB f0 c0 j)).sum := by
        by_cases h9 : fr + m ≤ es.length
        · rw [show to = fr + m by omega]; exact Nat.le_refl _
        · rw [List.drop_eq_nil_of_le (show es.length ≤ fr + m by omega)]; exact Nat.zero_le _
      exact ih (fr + m) _ (((nums rs fr).foldl (mGx g fr y) (R.1.1, kF c0 i 12)).1, R.1.2) (y + R.2) σ3 (by omega) (by omega) hE3 hX3 (by omega) hS3 kQ
    · have hge : es.length ≤ fr := by omega
      rw [show mGLoop L b g gw es m (kF c0 i 12) (f + 1) fr s y = (s, y) from if_neg hfl] at kQ
      refine zr_iload dX4_grid_290 rfl ?_
      refine zr_aload dX4_grid_292 rfl ?_
      refine zr_alenI (v := nI es.length) (.new hB1) rfl dX4_grid_294 ?_
      refine zr_icmp_ge (tgt := 436) dX4_grid_295 (by decide) (fun _ => ?_) (fun h9 => absurd ((nI_leI (by omega) (by omega)).mpr hge) h9)
      exact kQ σ1 _ (hX.le (by omega)) hS
set_option maxHeartbeats 4000000 in
theorem c_X4_grid {G : zG} {σ : zT} {d : Nat} {c : zCS} {th ct : Int32} {i f : Nat} {b : Bool} {L : LM} (hd : 80 ≤ d) (hG : zOk G) (hw : zGd G σ) (hS : MSys G σ c th ct) (hi : i < kN c) (hf : kN c ≤ f + 1 + i) (hLM : HLM G th L f (d - 2)) : zCall G I_X4_grid d [.ref (kA c 1), .ref (kA c (rB i)), .int (bI b)] σ ((fun o σ' => o = .inl (some (.int (mGrid L (c, ct) i b).2)) ∧ MSys G σ' (mGrid L (c, ct) i b).1.1 th (mGrid L (c, ct) i b).1.2 ∧ zX G SM σ σ' (200 + 62 * (kCh c i).length + ((kItemsOf c i).map (fun j => KW 24 c j)).sum + ((kItemsOf c i).map (fun j => LB f c j)).sum))) := by
  refine zCall_of (ls := [(0, .ref (kA c 1)), (1, .ref (kA c (rB i))), (2, .int (bI b))]) (by decide) (Nat.le_of_ble_eq_true rfl) rfl ?_
  have hle := hS.le
  have hchl := hS.chl hi
  have hfl := List.length_filter_le (fun j => !kLifted c j) (kCh c i)
  have hel : (kItemsOf c i).length ≤ 24 := Nat.le_trans hfl hchl
  have hes : ∀ j, j ∈ kItemsOf c i → j < kN c ∧ kN c ≤ f + j := fun j hj => by
    have h9 := hS.ch hi (List.mem_filter.mp hj).1
    exact ⟨h9.2, by omega⟩
  obtain ⟨m, hm1, hm4, hcol⟩ : ∃ m, 1 ≤ m ∧ m ≤ 4 ∧ kF c i 15 = nI m := hS.val hi 15
  have hmc : (kF c i 15).toNatClampNeg = m := by rw [hcol]; exact nI_clamp (by omega)
  obtain ⟨_, σ1, ⟨l, mod, rfl, hlz, hL1, hX1⟩, hC1⟩ := c_X4_items (d := d - 1) (by omega) hG hw hS hi
  have hS1 := hS.keep0 hw hX1
  obtain ⟨fl1, hfl1⟩ := hL1.A
  obtain ⟨es, hese⟩ : ∃ es, es = kItemsOf c i := ⟨_, rfl⟩
  rw [← hese] at hel hes hL1
  refine zr_aload_n dX4_grid_0 rfl rfl ?_
  refine zr_call1 (rest := []) (zs_S (As := [.ref (kA c (rB i))]) (by omega) ok_X4_items q2501 q2502 q77 q2503 rfl rfl (Nat.le_of_ble_eq_true rfl) dX4_grid_1) hC1 ?_
  refine zr_astore_n (ls2 := [(0, .ref (kA c 1)), (1, .ref (kA c (rB i))), (2, .int (bI b)), (3, .ref l)]) dX4_grid_4 rfl (Nat.le_of_ble_eq_true rfl) rfl ?_
  refine zr_aload_n dX4_grid_5 rfl rfl ?_
  refine zr_get (k := 16) (v := .int (kF c i 15)) in_X5 (hS1.bx hi) rfl (Nat.le_of_ble_eq_true rfl) q2125 (.inl rfl) rfl dX4_grid_6 ?_
  refine zr_eqi (z := (nI m)) (hcol) ?_
  refine zr_newaI (N' := m) 0 q1302 (nI_pos (by omega)) (nI_clamp (by omega)) (by omega) dX4_grid_9 ?_
  have hX12 := zX.new S0 hX1.gd 0 (by omega) (aI G m (fun _ => 0)) m
  have hA2 : sF (sNew σ1 0 (aI G m (fun _ => 0)) m) (sZ σ1) = some (aI G m (fun _ => 0)) := sF_newS _ _ _ _
  have hT2 : sT (sNew σ1 0 (aI G m (fun _ => 0)) m) (sZ σ1) = 0 := sT_newS _ _ _ _
  generalize hσ2 : sNew σ1 0 (aI G m (fun _ => 0)) m = σ2 at hX12 hA2 hT2 ⊢
  obtain ⟨wa, hwa9⟩ : ∃ z, z = sZ σ1 := ⟨_, rfl⟩
  rw [← hwa9] at hA2 hT2 ⊢
  refine zr_astore (ls2 := [(0, .ref (kA c 1)), (1, .ref (kA c (rB i))), (2, .int (bI b)), (3, .ref l), (4, .ref wa)]) dX4_grid_11 (Nat.le_of_ble_eq_true rfl) rfl ?_
  refine zr_iconst (v := 0) dX4_grid_13 (by decide) ?_
  refine zr_istore (ls2 := [(0, .ref (kA c 1)), (1, .ref (kA c (rB i))), (2, .int (bI b)), (3, .ref l), (4, .ref wa), (5, .int 0)]) dX4_grid_14 (Nat.le_of_ble_eq_true rfl) rfl ?_
  refine l_X4_grid1 (m := m) (σ := σ1) (N := m + 4 + (es.map (fun j => KW 24 c j)).sum) (by omega) hG hX1.gd hL1 (fun j hj => (hes j hj).1) hel hS1 hi hm1 hm4 hcol (by omega) es 0 _ (fun _ => 0) σ2 rfl (Nat.zero_le _) hX12 (by omega) hA2 hT2 (fun σ3 hX3 hA3 hT3 => ?_)
  have hgc : (nums es 0).foldl (colf c (fun j => cW c j true) (kF c i 15)) (fun _ => 0) = gcol c i := by rw [hese]; rfl
  rw [hgc] at hA3
  have hX13 := hX1.trans hX3
  have hS3 := hS.keep0 hw hX13
  have hL3 := hX3.L hX1.gd hL1 (fun h => h) (fun h => h)
  obtain ⟨fl3, hfl3⟩ := hL3.A
  refine zr_aload_n dX4_grid_80 rfl rfl ?_
  refine zr_call1 (rest := []) (zs_S (As := [.ref (kA c (rB i))]) (by omega) ok_X4_inner q2361 q2362 q77 q2363 rfl rfl (Nat.le_of_ble_eq_true rfl) dX4_grid_81) (c_X4_innerB (by omega) (hS3.bx hi)) ?_
  refine zr_istore (ls2 := [(0, .ref (kA c 1)), (1, .ref (kA c (rB i))), (2, .int (bI b)), (3, .ref l), (4, .ref wa), (5, .int (kInner c i))]) dX4_grid_84 (Nat.le_of_ble_eq_true rfl) rfl ?_
  refine zr_aload dX4_grid_86 rfl ?_
  refine zr_astore (ls2 := [(0, .ref (kA c 1)), (1, .ref (kA c (rB i))), (2, .int (bI b)), (3, .ref l), (4, .ref wa), (5, .int (kInner c i)), (6, .ref wa)]) dX4_grid_88 (Nat.le_of_ble_eq_true rfl) rfl ?_
  refine zr_aload dX4_grid_90 rfl ?_
  refine zr_alenI (v := nI m) (.new hA3) rfl dX4_grid_92 ?_
  refine zr_istore (ls2 := [(0, .ref (kA c 1)), (1, .ref (kA c (rB i))), (2, .int (bI b)), (3, .ref l), (4, .ref wa), (5, .int (kInner c i)), (6, .ref wa), (7, .int (nI m))]) dX4_grid_93 (Nat.le_of_ble_eq_true rfl) rfl ?_
  refine zr_iconst (v := 0) dX4_grid_95 (by decide) ?_
  refine zr_istore (ls2 := [(0, .ref (kA c 1)), (1, .ref (kA c (rB i))), (2, .int (bI b)), (3, .ref l), (4, .ref wa), (5, .int (kInner c i)), (6, .ref wa), (7, .int (nI m)), (8, .int 0)]) dX4_grid_96 (Nat.le_of_ble_eq_true rfl) rfl ?_
  refine l_X4_grid2 hm4 hA3 m 0 (kInner c i) (by omega) ?_
  show zR G yX4_grid cX4_grid 13 (Option.some Jvm.ClassFile.FieldType.int) [] d 125 [(0, .ref (kA c 1)), (1, .ref (kA c (rB i))), (2, .int (bI b)), (3, .ref l), (4, .ref wa), (5, .int (gFree c i m))] [] σ3 _
  refine zr_iconst (v := 0) dX4_grid_125 (by decide) ?_
  refine zr_istore (ls2 := [(0, .ref (kA c 1)), (1, .ref (kA c (rB i))), (2, .int (bI b)), (3, .ref l), (4, .ref wa), (5, .int (gFree c i m)), (6, .int 0)]) dX4_grid_126 (Nat.le_of_ble_eq_true rfl) rfl ?_
  have key181 : ∀ (σ4 : zT) (x : Int32), zX G S0 σ1 σ4 (m + 4 + (es.map (fun j => KW 24 c j)).sum) → sF σ4 wa = some (aI G m (gWs c i m)) → sT σ4 wa = 0 → zR G yX4_grid cX4_grid 13 (Option.some Jvm.ClassFile.FieldType.int) [] d 181 [(0, .ref (kA c 1)), (1, .ref (kA c (rB i))), (2, .int (bI b)), (3, .ref l), (4, .ref wa), (5, .int (gFree c i m)), (6, .int x)] [] σ4 (fun o σ' => o = .inl (some (.int (mGrid L (c, ct) i b).2)) ∧ MSys G σ' (mGrid L (c, ct) i b).1.1 th (mGrid L (c, ct) i b).1.2 ∧ zX G SM σ σ' (200 + 62 * (kCh c i).length + ((kItemsOf c i).map (fun j => KW 24 c j)).sum + ((kItemsOf c i).map (fun j => LB f c j)).sum)) := by
    intro σ4 x hX34 hA4 hT4
    have hX14 := hX1.trans hX34
    have hS4 := hS.keep0 hw hX14
    have hL4 := hX34.L hX1.gd hL1 (fun h => h) (fun h => h)
    obtain ⟨fl4, hfl4⟩ := hL4.A
    refine zr_aload_n dX4_grid_181 rfl rfl ?_
    refine zr_call1 (rest := []) (zs_V (As := []) (by omega) ok_J2_size q2246 q164 q2839 q56 q166 rfl hfl4 rfl rfl rfl (Nat.le_of_ble_eq_true rfl) dX4_grid_182) (c_size (m := es.length) (by omega) hL4 (List.length_map _)) ?_
    refine zr_newaI (N' := es.length) 0 q1302 (nI_pos (by omega)) (nI_clamp (by omega)) (by omega) dX4_grid_185 ?_
    have hX45 := zX.new S0 hX14.gd 0 (by omega) (aI G es.length (fun _ => 0)) es.length
    have hB5 : sF (sNew σ4 0 (aI G es.length (fun _ => 0)) es.length) (sZ σ4) = some (aI G es.length (fun _ => 0)) := sF_newS _ _ _ _
    have hTB5 : sT (sNew σ4 0 (aI G es.length (fun _ => 0)) es.length) (sZ σ4) = 0 := sT_newS _ _ _ _
    generalize hσ5 : sNew σ4 0 (aI G es.length (fun _ => 0)) es.length = σ5 at hX45 hB5 hTB5 ⊢
    obtain ⟨wb, hwb9⟩ : ∃ z, z = sZ σ4 := ⟨_, rfl⟩
    rw [← hwb9] at hB5 hTB5 ⊢
    refine zr_astore (ls2 := [(0, .ref (kA c 1)), (1, .ref (kA c (rB i))), (2, .int (bI b)), (3, .ref l), (4, .ref wa), (5, .int (gFree c i m)), (6, .ref wb)]) dX4_grid_187 (Nat.le_of_ble_eq_true rfl) rfl ?_
    refine zr_iconst (v := 0) dX4_grid_189 (by decide) ?_
    refine zr_istore (ls2 := [(0, .ref (kA c 1)), (1, .ref (kA c (rB i))), (2, .int (bI b)), (3, .ref l), (4, .ref wa), (5, .int (gFree c i m)), (6, .ref wb), (7, .int 0)]) dX4_grid_190 (Nat.le_of_ble_eq_true rfl) rfl ?_
    refine l_X4_grid4 (m := m) (σ := σ4) (g := gWs c i m) (n0 := es.length + 4) (by omega) hG hX14.gd hL4 (fun j hj => (hes j hj).1) hel hS4 hi hm1 hm4 hcol (by omega) hA4 es 0 (fun _ => 0) σ5 rfl (Nat.zero_le _) hX45 hB5 hTB5 (fun σ6 x6 hX46 hB6 hTB6 => ?_)
    have hgw : (nums es 0).foldl (mGw c m (gWs c i m)) (fun _ => 0) = mGWs c i m := by rw [hese]; rfl
    rw [hgw] at hB6
    have hX16 := hX14.trans hX46
    have hS6 := hS.keep0 hw hX16
    have hL6 := hX46.L hX14.gd hL4 (fun h => h) (fun h => h)
    have hA6 := hX46.f hX14.gd hA4 (fun h => h)
    have hT6 := (hX46.t hX14.gd hA4).trans hT4
    refine zr_aload_n dX4_grid_281 rfl rfl ?_
    refine zr_get (k := 13) (v := .int (kF c i 12)) in_X5 (hS6.bx hi) rfl (Nat.le_of_ble_eq_true rfl) q2119 (.inl rfl) rfl dX4_grid_282 ?_
    refine zr_istore (ls2 := [(0, .ref (kA c 1)), (1, .ref (kA c (rB i))), (2, .int (bI b)), (3, .ref l), (4, .ref wa), (5, .int (gFree c i m)), (6, .ref wb), (7, .int (kF c i 12))]) dX4_grid_285 (Nat.le_of_ble_eq_true rfl) rfl ?_
    refine zr_iconst (v := 0) dX4_grid_287 (by decide) ?_
    refine zr_istore (ls2 := [(0, .ref (kA c 1)), (1, .ref (kA c (rB i))), (2, .int (bI b)), (3, .ref l), (4, .ref wa), (5, .int (gFree c i m)), (6, .ref wb), (7, .int (kF c i 12)), (8, .int 0)]) dX4_grid_288 (Nat.le_of_ble_eq_true rfl) rfl ?_
    refine zr_sub (ls2 := [(0, .ref (kA c 1)), (1, .ref (kA c (rB i))), (2, .int (bI b)), (3, .ref l), (4, .ref wa), (6, .ref wb), (7, .int (kF c i 12)), (8, .int (nI 0))]) [0, 1, 2, 3, 4, 6, 7, 8] rfl ?_
    refine l_X4_grid5 (m := m) (σ := σ6) (g := gWs c i m) (gw := mGWs c i m) (N := (es.map (fun j => LB f c j)).sum) (by omega) hG hX16.gd hL6 (fun j hj => (hes j hj).1) hel hA6 hT6 hi (fun j hj => (hes j hj).2) hm1 hm4 hcol hB6 hTB6 hLM 25 0 0 (c, ct) _ σ6 (by omega) (by omega) (MQe.rf c) (zX.rf _ hX16.gd 0) (by rw [List.drop_zero]; omega) hS6 (fun σ7 x7 hX7 hS7 => ?_)
    have hgr : mGrid L (c, ct) i b = ((mGLoop L b (gWs c i m) (mGWs c i m) es m (kF c i 12) 25 0 (c, ct) (kF c i 12)).1, (mGLoop L b (gWs c i m) (mGWs c i m) es m (kF c i 12) 25 0 (c, ct) (kF c i 12)).2 + kF c i 12) := by unfold mGrid; rw [hmc, hese]
    have hE7 : MQe c (mGLoop L b (gWs c i m) (mGWs c i m) es m (kF c i 12) 25 0 (c, ct) (kF c i 12)).1.1 := MQe.GLoop hLM.1 b _ _ _ _ _ 25 0 (c, ct) (kF c i 12)
    have hi7 : i < kN (mGLoop L b (gWs c i m) (mGWs c i m) es m (kF c i 12) 25 0 (c, ct) (kF c i 12)).1.1 := by rw [hE7.n]; exact hi
    have hbi7 : zAt G σ7 (kA c (rB i)) (.inr (5, mBx (mGLoop L b (gWs c i m) (mGWs c i m) es m (kF c i 12) 25 0 (c, ct) (kF c i 12)).1.1 i)) := hE7.2 ▸ hS7.bx hi7
    have hpad7 : kF (mGLoop L b (gWs c i m) (mGWs c i m) es m (kF c i 12) 25 0 (c, ct) (kF c i 12)).1.1 i 12 = kF c i 12 := hE7.1.f i 12 (by decide)
    rw [hgr]
    refine zr_iload dX4_grid_436 rfl ?_
    refine zr_aload_n dX4_grid_438 rfl rfl ?_
    refine zr_get (k := 13) (v := .int (kF (mGLoop L b (gWs c i m) (mGWs c i m) es m (kF c i 12) 25 0 (c, ct) (kF c i 12)).1.1 i 12)) in_X5 hbi7 rfl (Nat.le_of_ble_eq_true rfl) q2119 (.inl rfl) rfl dX4_grid_439 ?_
    rw [hpad7]
    refine zr_iadd dX4_grid_442 ?_
    exact zr_iret rfl rfl dX4_grid_443 (⟨rfl, hS7, (hX16.in.trans hX7).le (by rw [← hese]; omega)⟩)
  by_cases hfe : gFree c i m ≤ 0
  · have hws : gWs c i m = gcol c i := if_pos hfe
    refine zr_iload dX4_grid_128 rfl ?_
    refine zr_aload_n dX4_grid_130 rfl rfl ?_
    refine zr_get (k := 16) (v := .int (kF c i 15)) in_X5 (hS3.bx hi) rfl (Nat.le_of_ble_eq_true rfl) q2125 (.inl rfl) rfl dX4_grid_131 ?_
    refine zr_eqi (z := (nI m)) (hcol) ?_
    refine zr_icmp_ge (tgt := 181) dX4_grid_134 (by decide) (fun h9 => absurd h9 (Int32.not_le.mpr (show (nI 0 : Int32) < nI m from (nI_ltI (by omega) (by omega)).mpr (show 0 < m by omega)))) (fun _ => ?_)
    refine zr_iload dX4_grid_137 rfl ?_
    refine zr_if_le (tgt := 181) dX4_grid_139 (by decide) (fun _ => ?_) (fun h9 => absurd hfe h9)
    exact key181 σ3 _ hX3 (by rw [hws]; exact hA3) hT3
  · have hws : gWs c i m = gdA (gFree c i m) m m 0 (gcol c i) := if_neg hfe
    exact l_X4_grid3 (m := m) (σ := σ1) (by omega) hG hX1.gd hL1 (fun j hj => (hes j hj).1) hel hS1 hi hm1 hm4 hcol hfe (by omega) m 0 (gcol c i) σ3 (by omega) hX3 hA3 hT3 (fun σ4 x4 hX4 hA4 hT4 => key181 σ4 x4 hX4 (by rw [hws]; exact hA4) hT4)
