/-! ===== the reference: lines (rows printed by tools/p118.py) ===== -/
def nTx (c : zCS) (n : Int32) : Nat := if mNow c n = 0 then (if kF c n.toNatClampNeg 2 = 116 then 0 else 3) else mNow c n
def nLi (c : zCS) (n k : Int32) : Nat := if nTx c n = 0 then (if btw k 0 (nI (kLn c n.toNatClampNeg).length - 1) = true then 0 else 4) else nTx c n
theorem mNow_le (c : zCS) (n : Int32) : mNow c n ≤ 2 := by unfold mNow; split <;> (try split) <;> omega
theorem nTx_le (c : zCS) (n : Int32) : nTx c n ≤ 3 := by have := mNow_le c n; unfold nTx; split <;> (try split) <;> omega
theorem nLi_le (c : zCS) (n k : Int32) : nLi c n k ≤ 4 := by have := nTx_le c n; unfold nLi; split <;> (try split) <;> omega
theorem mNow_ok {c : zCS} {n : Int32} (hle : kN c ≤ 24) (h : mNow c n = 0) : ∃ i, i < kN c ∧ n = nI i ∧ n.toNatClampNeg = i := by
  unfold mNow at h
  by_cases hb : btw n 0 (nI (kN c) - 1) = true
  · obtain ⟨i, hi, rfl⟩ := btw_idx (by omega) hb
    exact ⟨i, hi, rfl, nI_clamp (by omega)⟩
  · rw [if_neg hb] at h; cases h
theorem nTx_ok {c : zCS} {n : Int32} (h : nTx c n = 0) : mNow c n = 0 := by
  unfold nTx at h
  by_cases hb : mNow c n = 0
  · exact hb
  · rw [if_neg hb] at h; exact absurd h hb
theorem nLi_ok {c : zCS} {n k : Int32} (h : nLi c n k = 0) : nTx c n = 0 ∧ btw k 0 (nI (kLn c n.toNatClampNeg).length - 1) = true := by
  unfold nLi at h
  by_cases hb : nTx c n = 0
  · rw [if_pos hb] at h
    by_cases h2 : btw k 0 (nI (kLn c n.toNatClampNeg).length - 1) = true
    · exact ⟨hb, h2⟩
    · rw [if_neg h2] at h; cases h
  · rw [if_neg hb] at h; exact absurd h hb
theorem MSys.lnL {G : zG} {σ : zT} {c : zCS} {th ct : Int32} (h : MSys G σ c th ct) {i : Nat} (hi : i < kN c) : mLn G σ (1000 + rL i) (1000 + rO i) (kA c (rL i)) (kLn c i) := (h.2.2.1 i hi).2.2.2
set_option maxHeartbeats 4000000 in
theorem c_X4_wrongText {G : zG} {σ : zT} {d : Nat} {c : zCS} {th ct : Int32} {n : Int32} (hd : 8 ≤ d) (hG : zOk G) (hw : zGd G σ) (hS : MSys G σ c th ct) : zCall G I_X4_wrongText d [.ref (kA c 1), .int n] σ ((fun o σ' => o = .inl (some (.int (nI (nTx c n)))) ∧ MSys G σ' c (nI (nTx c n)) ct ∧ zX G SM σ σ' 0)) := by
  refine zCall_of (ls := [(0, .ref (kA c 1)), (1, .int n)]) (by decide) (Nat.le_of_ble_eq_true rfl) rfl ?_
  have hle := hS.le
  have hm2 := mNow_le c n
  refine zr_aload_n dX4_wrongText_0 rfl rfl ?_
  refine zr_iload_n dX4_wrongText_1 rfl rfl ?_
  refine zr_call1 (rest := []) (zs_V (As := [.int n]) (by omega) ok_X4_wrongNow q2531 q2533 qs47 q77 q2534 rfl hS.one rfl rfl rfl (Nat.le_of_ble_eq_true rfl) dX4_wrongText_2) (c_X4_wrongNow (n := n) (by omega) hS) ?_
  have hX1 := hS.XO hw (mO c (nI (mNow c n)) ct)
  have hS1 := hS.setT (nI (mNow c n))
  generalize hσ1 : sUp σ (kA c 1) (.inr (4, mO c (nI (mNow c n)) ct)) = σ1 at hX1 hS1 ⊢
  have hone1 := hS1.one
  obtain ⟨fl_hfl, hfl⟩ := hS1.bxL.A
  by_cases hm : mNow c n = 0
  · refine zr_if_ne (tgt := 32) dX4_wrongText_5 (by decide) (fun h9 => absurd (by rw [hm]; rfl) h9) (fun _ => ?_)
    obtain ⟨i, hi, hn, hcl⟩ := mNow_ok hle hm
    rw [hn]
    rw [hn] at hm hS1 hone1
    rw [hn] at hcl
    obtain ⟨fl_hfl9, hfl9⟩ := hS1.bxL.A
    refine zr_aload_n dX4_wrongText_8 rfl rfl ?_
    refine zr_get (k := 0) (v := .ref (kA c 2)) in_X4 hone1 rfl (Nat.le_of_ble_eq_true rfl) q2218 (.inl rfl) rfl dX4_wrongText_9 ?_
    refine zr_iload_n dX4_wrongText_12 rfl rfl ?_
    refine zr_call1 (rest := []) (zs_V (As := [.int (nI i)]) (by omega) ok_J2_get q2250 q959 q2840 q56 q960 rfl hfl9 rfl rfl rfl (Nat.le_of_ble_eq_true rfl) dX4_wrongText_13) (c_J2_get (by omega) hG hS1.bxL (MSys.bxa hi)) ?_
    refine zr_castS (hS1.bx hi) rfl q2084 dX4_wrongText_16 ?_
    refine zr_get (k := 1) (v := .int (kF c i 2)) in_X5 (hS1.bx hi) rfl (Nat.le_of_ble_eq_true rfl) q2095 (.inl rfl) rfl dX4_wrongText_19 ?_
    refine zr_bipush (v := 116) dX4_wrongText_22 (by decide) ?_
    refine zr_icmp_eq (tgt := 32) dX4_wrongText_24 (by decide) (fun h2 => ?_) (fun h2 => ?_)
    · have h2 : kF c i 2 = 116 := by first | exact h2 | exact Decidable.not_not.mp h2
      have e9 : nTx c (nI i) = 0 := by unfold nTx; rw [if_pos hm, hcl, if_pos h2]
      rw [e9]
      rw [hm] at hS1 hone1
      refine zr_aload_n dX4_wrongText_32 rfl rfl ?_
      refine zr_get (k := 1) (v := .int (nI 0)) in_X4 hone1 rfl (Nat.le_of_ble_eq_true rfl) q2219 (.inl rfl) rfl dX4_wrongText_33 ?_
      exact zr_iret rfl rfl dX4_wrongText_36 (⟨rfl, hS1, hX1⟩)
    · have e9 : nTx c (nI i) = 3 := by unfold nTx; rw [if_pos hm, hcl, if_neg (by first | exact h2 | exact fun h => h2 h)]
      rw [e9]
      refine zr_aload_n dX4_wrongText_27 rfl rfl ?_
      refine zr_iconst (v := 3) dX4_wrongText_28 (by decide) ?_
      refine zr_put (k := 1) (fs' := (mO c (nI 3) ct)) zt_X4 hS1.1.1 rfl (Nat.le_of_ble_eq_true rfl) q2219 (.inl rfl) rfl rfl rfl (Nat.le_of_ble_eq_true rfl) rfl dX4_wrongText_29 ?_
      refine zr_aload_n dX4_wrongText_32 rfl rfl ?_
      refine zr_get (k := 1) (v := .int (nI 3)) in_X4 (.new (sF_upS _ _ _)) rfl (Nat.le_of_ble_eq_true rfl) q2219 (.inl rfl) rfl dX4_wrongText_33 ?_
      exact zr_iret rfl rfl dX4_wrongText_36 (⟨rfl, hS1.setT (nI 3), hX1.trans (hS1.XO hX1.gd _)⟩)
  · rw [show nTx c n = mNow c n from if_neg hm]
    refine zr_if_ne (tgt := 32) dX4_wrongText_5 (by decide) (fun _ => ?_) (fun h9 => absurd h9 (nI_ne0 (by omega) (by omega)))
    refine zr_aload_n dX4_wrongText_32 rfl rfl ?_
    refine zr_get (k := 1) (v := .int (nI (mNow c n))) in_X4 hone1 rfl (Nat.le_of_ble_eq_true rfl) q2219 (.inl rfl) rfl dX4_wrongText_33 ?_
    exact zr_iret rfl rfl dX4_wrongText_36 (⟨rfl, hS1, hX1⟩)
set_option maxHeartbeats 4000000 in
theorem c_X4_wrongLine {G : zG} {σ : zT} {d : Nat} {c : zCS} {th ct : Int32} {n k : Int32} (hd : 12 ≤ d) (hG : zOk G) (hw : zGd G σ) (hS : MSys G σ c th ct) : zCall G I_X4_wrongLine d [.ref (kA c 1), .int n, .int k] σ ((fun o σ' => o = .inl (some (.int (nI (nLi c n k)))) ∧ MSys G σ' c (nI (nLi c n k)) ct ∧ zX G SM σ σ' 0)) := by
  refine zCall_of (ls := [(0, .ref (kA c 1)), (1, .int n), (2, .int k)]) (by decide) (Nat.le_of_ble_eq_true rfl) rfl ?_
  have hle := hS.le
  have hm2 := nTx_le c n
  obtain ⟨_, σ1, ⟨rfl, hS1, hX1⟩, hC1⟩ := c_X4_wrongText (n := n) (d := d - 1) (by omega) hG hw hS
  have hone1 := hS1.one
  refine zr_aload_n dX4_wrongLine_0 rfl rfl ?_
  refine zr_iload_n dX4_wrongLine_1 rfl rfl ?_
  refine zr_call1 (rest := []) (zs_V (As := [.int n]) (by omega) ok_X4_wrongText q2575 q2577 qs48 q77 q2578 rfl hS.one rfl rfl rfl (Nat.le_of_ble_eq_true rfl) dX4_wrongLine_2) hC1 ?_
  obtain ⟨fl_hfl, hfl⟩ := hS1.bxL.A
  by_cases hm : nTx c n = 0
  · refine zr_if_ne (tgt := 40) dX4_wrongLine_5 (by decide) (fun h9 => absurd (by rw [hm]; rfl) h9) (fun _ => ?_)
    obtain ⟨i, hi, hn, hcl⟩ := mNow_ok hle (nTx_ok hm)
    rw [hn]
    rw [hn] at hm hS1 hone1
    rw [hn] at hcl
    obtain ⟨modl, xl, hLx, hlx, hlz⟩ := hS1.lnL hi
    obtain ⟨fll, hfll⟩ := hLx.A
    obtain ⟨fl_hfl9, hfl9⟩ := hS1.bxL.A
    refine zr_iload_n dX4_wrongLine_8 rfl rfl ?_
    refine zr_iconst (v := 0) dX4_wrongLine_9 (by decide) ?_
    refine zr_aload_n dX4_wrongLine_10 rfl rfl ?_
    refine zr_get (k := 0) (v := .ref (kA c 2)) in_X4 hone1 rfl (Nat.le_of_ble_eq_true rfl) q2218 (.inl rfl) rfl dX4_wrongLine_11 ?_
    refine zr_iload_n dX4_wrongLine_14 rfl rfl ?_
    refine zr_call1 (rest := [.int 0, .int k]) (zs_V (As := [.int (nI i)]) (by omega) ok_J2_get q2250 q959 q2840 q56 q960 rfl hfl9 rfl rfl rfl (Nat.le_of_ble_eq_true rfl) dX4_wrongLine_15) (c_J2_get (by omega) hG hS1.bxL (MSys.bxa hi)) ?_
    refine zr_castS (hS1.bx hi) rfl q2084 dX4_wrongLine_18 ?_
    refine zr_get (k := 6) (v := .ref (kA c (rL i))) in_X5 (hS1.bx hi) rfl (Nat.le_of_ble_eq_true rfl) q2105 (.inl rfl) rfl dX4_wrongLine_21 ?_
    refine zr_call1 (rest := [.int 0, .int k]) (zs_V (As := []) (by omega) ok_J2_size q2246 q164 q2839 q56 q166 rfl hfll rfl rfl rfl (Nat.le_of_ble_eq_true rfl) dX4_wrongLine_24) (c_size (by omega) hLx hlx) ?_
    refine zr_iconst (v := 1) dX4_wrongLine_27 (by decide) ?_
    refine zr_isub dX4_wrongLine_28 ?_
    refine zr_call1 (rest := []) (zs_S (As := [.int k, .int 0, .int ((nI (kLn c i).length) - 1)]) (by omega) ok_X4_in q2247 q2248 q77 q2249 rfl rfl (Nat.le_of_ble_eq_true rfl) dX4_wrongLine_29) c_X4_in ?_
    refine zr_ifneB (tgt := 40) dX4_wrongLine_32 (by decide) (fun h2 => ?_) (fun h2 => ?_)
    · have e9 : nLi c (nI i) k = 0 := by unfold nLi; rw [if_pos hm, hcl, if_pos h2]
      rw [e9]
      rw [hm] at hS1 hone1
      refine zr_aload_n dX4_wrongLine_40 rfl rfl ?_
      refine zr_get (k := 1) (v := .int (nI 0)) in_X4 hone1 rfl (Nat.le_of_ble_eq_true rfl) q2219 (.inl rfl) rfl dX4_wrongLine_41 ?_
      exact zr_iret rfl rfl dX4_wrongLine_44 (⟨rfl, hS1, hX1⟩)
    · have e9 : nLi c (nI i) k = 4 := by unfold nLi; rw [if_pos hm, hcl, if_neg (by rw [h2]; decide)]
      rw [e9]
      refine zr_aload_n dX4_wrongLine_35 rfl rfl ?_
      refine zr_iconst (v := 4) dX4_wrongLine_36 (by decide) ?_
      refine zr_put (k := 1) (fs' := (mO c (nI 4) ct)) zt_X4 hS1.1.1 rfl (Nat.le_of_ble_eq_true rfl) q2219 (.inl rfl) rfl rfl rfl (Nat.le_of_ble_eq_true rfl) rfl dX4_wrongLine_37 ?_
      refine zr_aload_n dX4_wrongLine_40 rfl rfl ?_
      refine zr_get (k := 1) (v := .int (nI 4)) in_X4 (.new (sF_upS _ _ _)) rfl (Nat.le_of_ble_eq_true rfl) q2219 (.inl rfl) rfl dX4_wrongLine_41 ?_
      exact zr_iret rfl rfl dX4_wrongLine_44 (⟨rfl, hS1.setT (nI 4), hX1.trans (hS1.XO hX1.gd _)⟩)
  · rw [show nLi c n k = nTx c n from if_neg hm]
    refine zr_if_ne (tgt := 40) dX4_wrongLine_5 (by decide) (fun _ => ?_) (fun h9 => absurd h9 (nI_ne0 (by omega) (by omega)))
    refine zr_aload_n dX4_wrongLine_40 rfl rfl ?_
    refine zr_get (k := 1) (v := .int (nI (nTx c n))) in_X4 hone1 rfl (Nat.le_of_ble_eq_true rfl) q2219 (.inl rfl) rfl dX4_wrongLine_41 ?_
    exact zr_iret rfl rfl dX4_wrongLine_44 (⟨rfl, hS1, hX1⟩)
def nLines (c : zCS) (n : Int32) : Nat × Value := (nTx c n, .int (nI (kLn c n.toNatClampNeg).length))
def nLine (c : zCS) (n k : Int32) (g : Int32 × Int32 × Int32 → Int32) : Nat × Value := (nLi c n k, .int (g (lnAt c n.toNatClampNeg k.toNatClampNeg)))
set_option maxHeartbeats 4000000 in
theorem c_X4_lines {G : zG} {σ : zT} {d : Nat} {c : zCS} {th ct : Int32} {n : Int32} (hd : 20 ≤ d) (hG : zOk G) (hw : zGd G σ) (hS : MSys G σ c th ct) : zCall G I_X4_lines d [.ref (kA c 1), .int n] σ ((fun o σ' => oM o (nLines c n) ∧ MSys G σ' c (nI (nLines c n).1) ct ∧ zX G SM σ σ' 10)) := by
  refine zCall_of (ls := [(0, .ref (kA c 1)), (1, .int n)]) (by decide) (Nat.le_of_ble_eq_true rfl) rfl ?_
  have hle := hS.le
  have hm2 := nTx_le c n
  obtain ⟨_, σ1, ⟨rfl, hS1, hX1⟩, hC1⟩ := c_X4_wrongText (n := n) (d := d - 1) (by omega) hG hw hS
  have hone1 := hS1.one
  refine zr_aload_n dX4_lines_0 rfl rfl ?_
  refine zr_iload_n dX4_lines_1 rfl rfl ?_
  refine zr_call1 (rest := []) (zs_V (As := [.int n]) (by omega) ok_X4_wrongText q2575 q2577 qs48 q77 q2578 rfl hS.one rfl rfl rfl (Nat.le_of_ble_eq_true rfl) dX4_lines_2) hC1 ?_
  obtain ⟨fl_hfl, hfl⟩ := hS1.bxL.A
  by_cases hm : (nTx c n) = 0
  · refine zr_if_le (tgt := 12) dX4_lines_5 (by decide) (fun _ => ?_) (fun h9 => absurd (by rw [hm]; decide) h9)
    obtain ⟨i, hi, hn, hcl⟩ := mNow_ok hle (nTx_ok hm)
    rw [hn]
    rw [hn] at hm hS1 hone1 hcl
    obtain ⟨modl, xl, hLx, hlx, hlz⟩ := hS1.lnL hi
    obtain ⟨fll, hfll⟩ := hLx.A
    obtain ⟨fl_hfl9, hfl9⟩ := hS1.bxL.A
    refine zr_aload_n dX4_lines_12 rfl rfl ?_
    refine zr_get (k := 0) (v := .ref (kA c 2)) in_X4 hone1 rfl (Nat.le_of_ble_eq_true rfl) q2218 (.inl rfl) rfl dX4_lines_13 ?_
    refine zr_iload_n dX4_lines_16 rfl rfl ?_
    refine zr_call1 (rest := []) (zs_V (As := [.int (nI i)]) (by omega) ok_J2_get q2250 q959 q2840 q56 q960 rfl hfl9 rfl rfl rfl (Nat.le_of_ble_eq_true rfl) dX4_lines_17) (c_J2_get (by omega) hG hS1.bxL (MSys.bxa hi)) ?_
    refine zr_castS (hS1.bx hi) rfl q2084 dX4_lines_20 ?_
    refine zr_get (k := 6) (v := .ref (kA c (rL i))) in_X5 (hS1.bx hi) rfl (Nat.le_of_ble_eq_true rfl) q2105 (.inl rfl) rfl dX4_lines_23 ?_
    refine zr_call1 (rest := []) (zs_V (As := []) (by omega) ok_J2_size q2246 q164 q2839 q56 q166 rfl hfll rfl rfl rfl (Nat.le_of_ble_eq_true rfl) dX4_lines_26) (c_size (by omega) hLx hlx) ?_
    exact zr_iret rfl rfl dX4_lines_29 (⟨⟨_, rfl, fun _ => by show _ = Value.int (nI (kLn c (nI i).toNatClampNeg).length); rw [hcl]⟩, hS1, hX1.le (by omega)⟩)
  · refine zr_if_le (tgt := 12) dX4_lines_5 (by decide) (fun h9 => absurd h9 (fun h9 => absurd h9 (Int32.not_le.mpr ((nI_ltI (a := 0) (by omega) (by omega)).mpr (by omega))))) (fun _ => ?_)
    refine zr_iconst (v := 0) dX4_lines_8 (by decide) ?_
    refine zr_goto (tgt := 29) dX4_lines_9 (by decide) ?_
    exact zr_iret rfl rfl dX4_lines_29 (⟨⟨_, rfl, fun h => absurd h hm⟩, hS1, hX1.le (by omega)⟩)
set_option maxHeartbeats 4000000 in
theorem c_X4_wordsIn {G : zG} {σ : zT} {d : Nat} {c : zCS} {th ct : Int32} {n k : Int32} (hd : 20 ≤ d) (hG : zOk G) (hw : zGd G σ) (hS : MSys G σ c th ct) : zCall G I_X4_wordsIn d [.ref (kA c 1), .int n, .int k] σ ((fun o σ' => oM o (nLine c n k (fun z => z.2.2)) ∧ MSys G σ' c (nI (nLine c n k (fun z => z.2.2)).1) ct ∧ zX G SM σ σ' 10)) := by
  refine zCall_of (ls := [(0, .ref (kA c 1)), (1, .int n), (2, .int k)]) (by decide) (Nat.le_of_ble_eq_true rfl) rfl ?_
  have hle := hS.le
  have hm2 := nLi_le c n k
  obtain ⟨_, σ1, ⟨rfl, hS1, hX1⟩, hC1⟩ := c_X4_wrongLine (n := n) (k := k) (d := d - 1) (by omega) hG hw hS
  have hone1 := hS1.one
  refine zr_aload_n dX4_wordsIn_0 rfl rfl ?_
  refine zr_iload_n dX4_wordsIn_1 rfl rfl ?_
  refine zr_iload_n dX4_wordsIn_2 rfl rfl ?_
  refine zr_call1 (rest := []) (zs_V (As := [.int n, .int k]) (by omega) ok_X4_wrongLine q2583 q2585 qs49 q77 q2586 rfl hS.one rfl rfl rfl (Nat.le_of_ble_eq_true rfl) dX4_wordsIn_3) hC1 ?_
  obtain ⟨fl_hfl, hfl⟩ := hS1.bxL.A
  by_cases hm : (nLi c n k) = 0
  · refine zr_if_le (tgt := 13) dX4_wordsIn_6 (by decide) (fun _ => ?_) (fun h9 => absurd (by rw [hm]; decide) h9)
    obtain ⟨hmt, hbk⟩ := nLi_ok hm
    obtain ⟨i, hi, hn, hcl⟩ := mNow_ok hle (nTx_ok hmt)
    rw [hn]
    rw [hn] at hm hS1 hone1 hcl hbk
    rw [hcl] at hbk
    obtain ⟨modl, xl, hLx, hlx, hlz⟩ := hS1.lnL hi
    obtain ⟨fll, hfll⟩ := hLx.A
    have hll : (kLn c i).length ≤ 1000000 := by obtain ⟨_, cap, _, _, _, h1, h2, _⟩ := hLx; omega
    obtain ⟨j, hj, hk⟩ := btw_idx' hll hbk
    have hclk : k.toNatClampNeg = j := by rw [hk]; exact nI_clamp (by omega)
    obtain ⟨z, hz⟩ : ∃ z, (kLn c i)[j]? = some z := ⟨_, List.getElem?_eq_getElem hj⟩
    obtain ⟨xq, hxq⟩ : ∃ q, xl[j]? = some q := ⟨_, List.getElem?_eq_getElem (by omega)⟩
    obtain ⟨hz1, hz2⟩ := hlz j xq z hxq hz
    have hzA : zAt G σ1 xq (.inr (14, [.int z.2.2, .int z.1, .int z.2.1])) := .new hz1
    have hlat : lnAt c i j = z := by unfold lnAt; rw [hz]; rfl
    rw [hk]
    rw [hk] at hm hS1 hone1 hclk
    obtain ⟨fl_hfl9, hfl9⟩ := hS1.bxL.A
    refine zr_aload_n dX4_wordsIn_13 rfl rfl ?_
    refine zr_get (k := 0) (v := .ref (kA c 2)) in_X4 hone1 rfl (Nat.le_of_ble_eq_true rfl) q2218 (.inl rfl) rfl dX4_wordsIn_14 ?_
    refine zr_iload_n dX4_wordsIn_17 rfl rfl ?_
    refine zr_call1 (rest := []) (zs_V (As := [.int (nI i)]) (by omega) ok_J2_get q2250 q959 q2840 q56 q960 rfl hfl9 rfl rfl rfl (Nat.le_of_ble_eq_true rfl) dX4_wordsIn_18) (c_J2_get (by omega) hG hS1.bxL (MSys.bxa hi)) ?_
    refine zr_castS (hS1.bx hi) rfl q2084 dX4_wordsIn_21 ?_
    refine zr_get (k := 6) (v := .ref (kA c (rL i))) in_X5 (hS1.bx hi) rfl (Nat.le_of_ble_eq_true rfl) q2105 (.inl rfl) rfl dX4_wordsIn_24 ?_
    refine zr_iload_n dX4_wordsIn_27 rfl rfl ?_
    refine zr_call1 (rest := []) (zs_V (As := [.int (nI j)]) (by omega) ok_J2_get q2250 q959 q2840 q56 q960 rfl hfll rfl rfl rfl (Nat.le_of_ble_eq_true rfl) dX4_wordsIn_28) (c_J2_get (by omega) hG hLx hxq) ?_
    refine zr_castS hzA rfl q2481 dX4_wordsIn_31 ?_
    refine zr_call1 (rest := []) (zs_V (As := []) (by omega) ok_X14_words q2587 q2588 q2589 q99 q2590 rfl hzA rfl rfl rfl (Nat.le_of_ble_eq_true rfl) dX4_wordsIn_34) (c_X14_words hzA) ?_
    exact zr_iret rfl rfl dX4_wordsIn_37 (⟨⟨_, rfl, fun _ => by show Value.int z.2.2 = Value.int ((fun z => z.2.2) (lnAt c (nI i).toNatClampNeg (nI j).toNatClampNeg)); rw [hcl, hclk, hlat]⟩, hS1, hX1.le (by omega)⟩)
  · refine zr_if_le (tgt := 13) dX4_wordsIn_6 (by decide) (fun h9 => absurd h9 (fun h9 => absurd h9 (Int32.not_le.mpr ((nI_ltI (a := 0) (by omega) (by omega)).mpr (by omega))))) (fun _ => ?_)
    refine zr_iconst (v := 0) dX4_wordsIn_9 (by decide) ?_
    refine zr_goto (tgt := 37) dX4_wordsIn_10 (by decide) ?_
    exact zr_iret rfl rfl dX4_wordsIn_37 (⟨⟨_, rfl, fun h => absurd h hm⟩, hS1, hX1.le (by omega)⟩)
set_option maxHeartbeats 4000000 in
theorem c_X4_lineX {G : zG} {σ : zT} {d : Nat} {c : zCS} {th ct : Int32} {n k : Int32} (hd : 20 ≤ d) (hG : zOk G) (hw : zGd G σ) (hS : MSys G σ c th ct) : zCall G I_X4_lineX d [.ref (kA c 1), .int n, .int k] σ ((fun o σ' => oM o (nLine c n k (fun z => z.1)) ∧ MSys G σ' c (nI (nLine c n k (fun z => z.1)).1) ct ∧ zX G SM σ σ' 10)) := by
  refine zCall_of (ls := [(0, .ref (kA c 1)), (1, .int n), (2, .int k)]) (by decide) (Nat.le_of_ble_eq_true rfl) rfl ?_
  have hle := hS.le
  have hm2 := nLi_le c n k
  obtain ⟨_, σ1, ⟨rfl, hS1, hX1⟩, hC1⟩ := c_X4_wrongLine (n := n) (k := k) (d := d - 1) (by omega) hG hw hS
  have hone1 := hS1.one
  refine zr_aload_n dX4_lineX_0 rfl rfl ?_
  refine zr_iload_n dX4_lineX_1 rfl rfl ?_
  refine zr_iload_n dX4_lineX_2 rfl rfl ?_
  refine zr_call1 (rest := []) (zs_V (As := [.int n, .int k]) (by omega) ok_X4_wrongLine q2583 q2585 qs49 q77 q2586 rfl hS.one rfl rfl rfl (Nat.le_of_ble_eq_true rfl) dX4_lineX_3) hC1 ?_
  obtain ⟨fl_hfl, hfl⟩ := hS1.bxL.A
  by_cases hm : (nLi c n k) = 0
  · refine zr_if_le (tgt := 13) dX4_lineX_6 (by decide) (fun _ => ?_) (fun h9 => absurd (by rw [hm]; decide) h9)
    obtain ⟨hmt, hbk⟩ := nLi_ok hm
    obtain ⟨i, hi, hn, hcl⟩ := mNow_ok hle (nTx_ok hmt)
    rw [hn]
    rw [hn] at hm hS1 hone1 hcl hbk
    rw [hcl] at hbk
    obtain ⟨modl, xl, hLx, hlx, hlz⟩ := hS1.lnL hi
    obtain ⟨fll, hfll⟩ := hLx.A
    have hll : (kLn c i).length ≤ 1000000 := by obtain ⟨_, cap, _, _, _, h1, h2, _⟩ := hLx; omega
    obtain ⟨j, hj, hk⟩ := btw_idx' hll hbk
    have hclk : k.toNatClampNeg = j := by rw [hk]; exact nI_clamp (by omega)
    obtain ⟨z, hz⟩ : ∃ z, (kLn c i)[j]? = some z := ⟨_, List.getElem?_eq_getElem hj⟩
    obtain ⟨xq, hxq⟩ : ∃ q, xl[j]? = some q := ⟨_, List.getElem?_eq_getElem (by omega)⟩
    obtain ⟨hz1, hz2⟩ := hlz j xq z hxq hz
    have hzA : zAt G σ1 xq (.inr (14, [.int z.2.2, .int z.1, .int z.2.1])) := .new hz1
    have hlat : lnAt c i j = z := by unfold lnAt; rw [hz]; rfl
    rw [hk]
    rw [hk] at hm hS1 hone1 hclk
    obtain ⟨fl_hfl9, hfl9⟩ := hS1.bxL.A
    refine zr_aload_n dX4_lineX_13 rfl rfl ?_
    refine zr_get (k := 0) (v := .ref (kA c 2)) in_X4 hone1 rfl (Nat.le_of_ble_eq_true rfl) q2218 (.inl rfl) rfl dX4_lineX_14 ?_
    refine zr_iload_n dX4_lineX_17 rfl rfl ?_
    refine zr_call1 (rest := []) (zs_V (As := [.int (nI i)]) (by omega) ok_J2_get q2250 q959 q2840 q56 q960 rfl hfl9 rfl rfl rfl (Nat.le_of_ble_eq_true rfl) dX4_lineX_18) (c_J2_get (by omega) hG hS1.bxL (MSys.bxa hi)) ?_
    refine zr_castS (hS1.bx hi) rfl q2084 dX4_lineX_21 ?_
    refine zr_get (k := 6) (v := .ref (kA c (rL i))) in_X5 (hS1.bx hi) rfl (Nat.le_of_ble_eq_true rfl) q2105 (.inl rfl) rfl dX4_lineX_24 ?_
    refine zr_iload_n dX4_lineX_27 rfl rfl ?_
    refine zr_call1 (rest := []) (zs_V (As := [.int (nI j)]) (by omega) ok_J2_get q2250 q959 q2840 q56 q960 rfl hfll rfl rfl rfl (Nat.le_of_ble_eq_true rfl) dX4_lineX_28) (c_J2_get (by omega) hG hLx hxq) ?_
    refine zr_castS hzA rfl q2481 dX4_lineX_31 ?_
    refine zr_call1 (rest := []) (zs_V (As := []) (by omega) ok_X14_x q2595 q2596 q2597 q99 q2598 rfl hzA rfl rfl rfl (Nat.le_of_ble_eq_true rfl) dX4_lineX_34) (c_X14_x hzA) ?_
    exact zr_iret rfl rfl dX4_lineX_37 (⟨⟨_, rfl, fun _ => by show Value.int z.1 = Value.int ((fun z => z.1) (lnAt c (nI i).toNatClampNeg (nI j).toNatClampNeg)); rw [hcl, hclk, hlat]⟩, hS1, hX1.le (by omega)⟩)
  · refine zr_if_le (tgt := 13) dX4_lineX_6 (by decide) (fun h9 => absurd h9 (fun h9 => absurd h9 (Int32.not_le.mpr ((nI_ltI (a := 0) (by omega) (by omega)).mpr (by omega))))) (fun _ => ?_)
    refine zr_iconst (v := 0) dX4_lineX_9 (by decide) ?_
    refine zr_goto (tgt := 37) dX4_lineX_10 (by decide) ?_
    exact zr_iret rfl rfl dX4_lineX_37 (⟨⟨_, rfl, fun h => absurd h hm⟩, hS1, hX1.le (by omega)⟩)
set_option maxHeartbeats 4000000 in
theorem c_X4_lineY {G : zG} {σ : zT} {d : Nat} {c : zCS} {th ct : Int32} {n k : Int32} (hd : 20 ≤ d) (hG : zOk G) (hw : zGd G σ) (hS : MSys G σ c th ct) : zCall G I_X4_lineY d [.ref (kA c 1), .int n, .int k] σ ((fun o σ' => oM o (nLine c n k (fun z => z.2.1)) ∧ MSys G σ' c (nI (nLine c n k (fun z => z.2.1)).1) ct ∧ zX G SM σ σ' 10)) := by
  refine zCall_of (ls := [(0, .ref (kA c 1)), (1, .int n), (2, .int k)]) (by decide) (Nat.le_of_ble_eq_true rfl) rfl ?_
  have hle := hS.le
  have hm2 := nLi_le c n k
  obtain ⟨_, σ1, ⟨rfl, hS1, hX1⟩, hC1⟩ := c_X4_wrongLine (n := n) (k := k) (d := d - 1) (by omega) hG hw hS
  have hone1 := hS1.one
  refine zr_aload_n dX4_lineY_0 rfl rfl ?_
  refine zr_iload_n dX4_lineY_1 rfl rfl ?_
  refine zr_iload_n dX4_lineY_2 rfl rfl ?_
  refine zr_call1 (rest := []) (zs_V (As := [.int n, .int k]) (by omega) ok_X4_wrongLine q2583 q2585 qs49 q77 q2586 rfl hS.one rfl rfl rfl (Nat.le_of_ble_eq_true rfl) dX4_lineY_3) hC1 ?_
  obtain ⟨fl_hfl, hfl⟩ := hS1.bxL.A
  by_cases hm : (nLi c n k) = 0
  · refine zr_if_le (tgt := 13) dX4_lineY_6 (by decide) (fun _ => ?_) (fun h9 => absurd (by rw [hm]; decide) h9)
    obtain ⟨hmt, hbk⟩ := nLi_ok hm
    obtain ⟨i, hi, hn, hcl⟩ := mNow_ok hle (nTx_ok hmt)
    rw [hn]
    rw [hn] at hm hS1 hone1 hcl hbk
    rw [hcl] at hbk
    obtain ⟨modl, xl, hLx, hlx, hlz⟩ := hS1.lnL hi
    obtain ⟨fll, hfll⟩ := hLx.A
    have hll : (kLn c i).length ≤ 1000000 := by obtain ⟨_, cap, _, _, _, h1, h2, _⟩ := hLx; omega
    obtain ⟨j, hj, hk⟩ := btw_idx' hll hbk
    have hclk : k.toNatClampNeg = j := by rw [hk]; exact nI_clamp (by omega)
    obtain ⟨z, hz⟩ : ∃ z, (kLn c i)[j]? = some z := ⟨_, List.getElem?_eq_getElem hj⟩
    obtain ⟨xq, hxq⟩ : ∃ q, xl[j]? = some q := ⟨_, List.getElem?_eq_getElem (by omega)⟩
    obtain ⟨hz1, hz2⟩ := hlz j xq z hxq hz
    have hzA : zAt G σ1 xq (.inr (14, [.int z.2.2, .int z.1, .int z.2.1])) := .new hz1
    have hlat : lnAt c i j = z := by unfold lnAt; rw [hz]; rfl
    rw [hk]
    rw [hk] at hm hS1 hone1 hclk
    obtain ⟨fl_hfl9, hfl9⟩ := hS1.bxL.A
    refine zr_aload_n dX4_lineY_13 rfl rfl ?_
    refine zr_get (k := 0) (v := .ref (kA c 2)) in_X4 hone1 rfl (Nat.le_of_ble_eq_true rfl) q2218 (.inl rfl) rfl dX4_lineY_14 ?_
    refine zr_iload_n dX4_lineY_17 rfl rfl ?_
    refine zr_call1 (rest := []) (zs_V (As := [.int (nI i)]) (by omega) ok_J2_get q2250 q959 q2840 q56 q960 rfl hfl9 rfl rfl rfl (Nat.le_of_ble_eq_true rfl) dX4_lineY_18) (c_J2_get (by omega) hG hS1.bxL (MSys.bxa hi)) ?_
    refine zr_castS (hS1.bx hi) rfl q2084 dX4_lineY_21 ?_
    refine zr_get (k := 6) (v := .ref (kA c (rL i))) in_X5 (hS1.bx hi) rfl (Nat.le_of_ble_eq_true rfl) q2105 (.inl rfl) rfl dX4_lineY_24 ?_
    refine zr_iload_n dX4_lineY_27 rfl rfl ?_
    refine zr_call1 (rest := []) (zs_V (As := [.int (nI j)]) (by omega) ok_J2_get q2250 q959 q2840 q56 q960 rfl hfll rfl rfl rfl (Nat.le_of_ble_eq_true rfl) dX4_lineY_28) (c_J2_get (by omega) hG hLx hxq) ?_
    refine zr_castS hzA rfl q2481 dX4_lineY_31 ?_
    refine zr_call1 (rest := []) (zs_V (As := []) (by omega) ok_X14_y q2603 q2604 q2605 q99 q2606 rfl hzA rfl rfl rfl (Nat.le_of_ble_eq_true rfl) dX4_lineY_34) (c_X14_y hzA) ?_
    exact zr_iret rfl rfl dX4_lineY_37 (⟨⟨_, rfl, fun _ => by show Value.int z.2.1 = Value.int ((fun z => z.2.1) (lnAt c (nI i).toNatClampNeg (nI j).toNatClampNeg)); rw [hcl, hclk, hlat]⟩, hS1, hX1.le (by omega)⟩)
  · refine zr_if_le (tgt := 13) dX4_lineY_6 (by decide) (fun h9 => absurd h9 (fun h9 => absurd h9 (Int32.not_le.mpr ((nI_ltI (a := 0) (by omega) (by omega)).mpr (by omega))))) (fun _ => ?_)
    refine zr_iconst (v := 0) dX4_lineY_9 (by decide) ?_
    refine zr_goto (tgt := 37) dX4_lineY_10 (by decide) ?_
    exact zr_iret rfl rfl dX4_lineY_37 (⟨⟨_, rfl, fun h => absurd h hm⟩, hS1, hX1.le (by omega)⟩)
