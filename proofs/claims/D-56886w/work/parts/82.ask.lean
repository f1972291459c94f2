/-! ===== the component: what is asked of boxes and lines (rows printed by tools/p82.py) ===== -/
def pBox (c : zCS) (n : Int32) (v : Nat → Nat × Value) : Nat × Value := if btw n 0 (nI (kN c) - 1) = true then v n.toNatClampNeg else (1, .null)
def pLaid (c : zCS) (n : Int32) (v : Nat → Nat × Value) : Nat × Value := pBox c n (fun i => if kLw c = -1 then (3, .null) else v i)
def pText (c : zCS) (n : Int32) (v : Nat → Nat × Value) : Nat × Value := pLaid c n (fun i => if kText c i = true then v i else (4, .null))
def pLine (c : zCS) (n l : Int32) (v : Nat → Nat → Nat × Value) : Nat × Value := pText c n (fun i => if btw l 0 (nI (kLn c i).length - 1) = true then v i l.toNatClampNeg else (5, .null))
theorem pBox_0 {c : zCS} {n : Int32} {v : Nat → Nat × Value} (h : btw n 0 (nI (kN c) - 1) = false) : pBox c n v = (1, .null) := by unfold pBox; rw [if_neg (by rw [h]; decide)]
theorem pBox_1 {c : zCS} {i : Nat} {v : Nat → Nat × Value} (hN : kN c ≤ 24) (hi : i < kN c) : pBox c (nI i) v = v i := by unfold pBox; rw [if_pos (btw_nI (by omega) hi), nI_clamp (by omega)]
theorem pLaid_0 {c : zCS} {n : Int32} {v : Nat → Nat × Value} (h : btw n 0 (nI (kN c) - 1) = false) : pLaid c n v = (1, .null) := pBox_0 h
theorem pLaid_3 {c : zCS} {i : Nat} {v : Nat → Nat × Value} (hN : kN c ≤ 24) (hi : i < kN c) (hl : kLw c = -1) : pLaid c (nI i) v = (3, .null) := (pBox_1 hN hi).trans (if_pos hl)
theorem pLaid_1 {c : zCS} {i : Nat} {v : Nat → Nat × Value} (hN : kN c ≤ 24) (hi : i < kN c) (hl : ¬ kLw c = -1) : pLaid c (nI i) v = v i := (pBox_1 hN hi).trans (if_neg hl)
def KM (c : zCS) : Nat := ((List.range (kN c)).map (KW 24 c)).sum
theorem KW_LA {c : zCS} {i : Nat} (hi : i < kN c) : KW 24 c i ≤ KM c := by
  unfold KM
  have h : ∀ N, i < N → KW 24 c i ≤ ((List.range N).map (KW 24 c)).sum := by
    intro N
    induction N with
    | zero => intro h; omega
    | succ N ih =>
      intro h
      rw [List.range_succ, List.map_append, List.sum_append]
      show _ ≤ _ + ([KW 24 c N] : List Nat).sum
      rw [List.sum_singleton]
      by_cases e : i = N
      · subst e; omega
      · have := ih (by omega); omega
  exact h _ hi
set_option maxHeartbeats 4000000 in
theorem c_laid1 {G : zG} {σ : zT} {d : Nat} {c : zCS} {i : Nat} (hd : 14 ≤ d) (hG : zOk G) (hw : zGd G σ) (hS : CSys G σ c) (hi : i < kN c) (hl : ¬ kLw c = -1) : zC G I_X1_laid d [.ref (kA c 1), .int (nI i)] σ (.inl (some (.ref (kA c (rB i))))) σ := by
  refine zCall.exact (zCall_of (ls := [(0, .ref (kA c 1)), (1, .int (nI i))]) (by decide) (Nat.le_of_ble_eq_true rfl) rfl ?_)
  obtain ⟨fl_hfl, hfl⟩ := hS.bxL.A
  refine zr_aload_n dX1_laid_0 rfl rfl ?_
  refine zr_iload_n dX1_laid_1 rfl rfl ?_
  refine zr_call1 (rest := []) (zs_V (As := [.int (nI i)]) (by omega) ok_X1_box q1629 q1631 qs28 q53 q1632 rfl hS.one rfl rfl rfl (Nat.le_of_ble_eq_true rfl) dX1_laid_2) (c_box1 (by omega) hG hw hS hi) ?_
  refine zr_astore_n (ls2 := [(0, .ref (kA c 1)), (1, .int (nI i)), (2, .ref (kA c (rB i)))]) dX1_laid_5 rfl (Nat.le_of_ble_eq_true rfl) rfl ?_
  refine zr_aload_n dX1_laid_6 rfl rfl ?_
  refine zr_get (k := 1) (v := .int (kLw c)) in_X1 hS.one rfl (Nat.le_of_ble_eq_true rfl) q810 (.inl rfl) rfl dX1_laid_7 ?_
  refine zr_iconst (v := (-1)) dX1_laid_10 (by decide) ?_
  refine zr_icmp_eq (tgt := 18) dX1_laid_11 (by decide) (fun h9 => absurd h9 (hl)) (fun _ => ?_)
  refine zr_iconst (v := 1) dX1_laid_14 (by decide) ?_
  refine zr_goto (tgt := 19) dX1_laid_15 (by decide) ?_
  refine zr_callv (rest := []) (zs_S (As := [.int 1]) (by omega) ok_X1_requireState q1652 q1653 q53 q1654 rfl rfl (Nat.le_of_ble_eq_true rfl) dX1_laid_19) c_requireState1 ?_
  refine zr_aload_n dX1_laid_22 rfl rfl ?_
  exact zr_aret rfl (.inl ⟨_, rfl⟩) (.inr ⟨_, rfl⟩) dX1_laid_23 (⟨rfl, rfl⟩)
set_option maxHeartbeats 4000000 in
theorem c_laid0 {G : zG} {σ : zT} {d : Nat} {c : zCS} {n : Int32} (hd : 14 ≤ d) (hG : zOk G) (hw : zGd G σ) (hS : CSys G σ c) (hn : btw n 0 (nI (kN c) - 1) = false) : zCall G I_X1_laid d [.ref (kA c 1), .int n] σ (fun o σ' => ∃ q, o = .inr (xE 1, q) ∧ zX G S0 σ σ' 10) := by
  refine zCall_of (ls := [(0, .ref (kA c 1)), (1, .int n)]) (by decide) (Nat.le_of_ble_eq_true rfl) rfl ?_
  obtain ⟨_, σ1, ⟨q, rfl, hX⟩, hC⟩ := c_box0 (d := d - 1) (by omega) hG hw hS hn
  obtain ⟨fl_hfl, hfl⟩ := hS.bxL.A
  refine zr_aload_n dX1_laid_0 rfl rfl ?_
  refine zr_iload_n dX1_laid_1 rfl rfl ?_
  refine zr_callX (rest := []) (zs_V (As := [.int n]) (by omega) ok_X1_box q1629 q1631 qs28 q53 q1632 rfl hS.one rfl rfl rfl (Nat.le_of_ble_eq_true rfl) dX1_laid_2) hC ?_
  exact zx_out (by decide) ⟨q, rfl, hX⟩
set_option maxHeartbeats 4000000 in
theorem c_laid3 {G : zG} {σ : zT} {d : Nat} {c : zCS} {i : Nat} (hd : 14 ≤ d) (hG : zOk G) (hw : zGd G σ) (hS : CSys G σ c) (hi : i < kN c) (hl : kLw c = -1) : zCall G I_X1_laid d [.ref (kA c 1), .int (nI i)] σ (fun o σ' => ∃ q, o = .inr (xE 3, q) ∧ zX G S0 σ σ' 10) := by
  refine zCall_of (ls := [(0, .ref (kA c 1)), (1, .int (nI i))]) (by decide) (Nat.le_of_ble_eq_true rfl) rfl ?_
  obtain ⟨_, σ1, ⟨q, rfl, hX⟩, hC⟩ := c_requireState0 (d := d - 1) (by omega) hG hw
  obtain ⟨fl_hfl, hfl⟩ := hS.bxL.A
  refine zr_aload_n dX1_laid_0 rfl rfl ?_
  refine zr_iload_n dX1_laid_1 rfl rfl ?_
  refine zr_call1 (rest := []) (zs_V (As := [.int (nI i)]) (by omega) ok_X1_box q1629 q1631 qs28 q53 q1632 rfl hS.one rfl rfl rfl (Nat.le_of_ble_eq_true rfl) dX1_laid_2) (c_box1 (by omega) hG hw hS hi) ?_
  refine zr_astore_n (ls2 := [(0, .ref (kA c 1)), (1, .int (nI i)), (2, .ref (kA c (rB i)))]) dX1_laid_5 rfl (Nat.le_of_ble_eq_true rfl) rfl ?_
  refine zr_aload_n dX1_laid_6 rfl rfl ?_
  refine zr_get (k := 1) (v := .int (kLw c)) in_X1 hS.one rfl (Nat.le_of_ble_eq_true rfl) q810 (.inl rfl) rfl dX1_laid_7 ?_
  refine zr_iconst (v := (-1)) dX1_laid_10 (by decide) ?_
  refine zr_icmp_eq (tgt := 18) dX1_laid_11 (by decide) (fun _ => ?_) (fun h9 => absurd (hl) h9)
  refine zr_iconst (v := 0) dX1_laid_18 (by decide) ?_
  refine zr_callX (rest := []) (zs_S (As := [.int 0]) (by omega) ok_X1_requireState q1652 q1653 q53 q1654 rfl rfl (Nat.le_of_ble_eq_true rfl) dX1_laid_19) hC ?_
  exact zx_out (by decide) ⟨q, rfl, hX⟩
set_option maxHeartbeats 4000000 in
theorem c_X1_xOf {G : zG} {σ : zT} {d : Nat} {c : zCS} {n : Int32} (hd : 60 ≤ d) (hG : zOk G) (hw : zGd G σ) (hS : CSys G σ c) : zCall G I_X1_xOf d [.ref (kA c 1), .int n] σ ((fun o σ' => oR o (pLaid c n (fun i => (0, .int (kXY 0 24 c i)))) ∧ zX G S0 σ σ' 10)) := by
  refine zCall_of (ls := [(0, .ref (kA c 1)), (1, .int n)]) (by decide) (Nat.le_of_ble_eq_true rfl) rfl ?_
  have hle := hS.le
  by_cases hb : btw n 0 (nI (kN c) - 1) = true
  · obtain ⟨i, hi, rfl⟩ := btw_idx (by omega) hb
    obtain ⟨fl_hfl, hfl⟩ := hS.bxL.A
    by_cases hl : kLw c = -1
    · rw [pLaid_3 hle hi hl]
      obtain ⟨_, σ1, ⟨q, rfl, hX⟩, hC⟩ := c_laid3 (d := d - 1) (by omega) hG hw hS hi hl
      refine zr_aload_n dX1_xOf_0 rfl rfl ?_
      refine zr_iload_n dX1_xOf_1 rfl rfl ?_
      refine zr_callX (rest := []) (zs_V (As := [.int (nI i)]) (by omega) ok_X1_laid q1816 q1818 qs29 q53 q1819 rfl hS.one rfl rfl rfl (Nat.le_of_ble_eq_true rfl) dX1_xOf_2) hC ?_
      exact zx_out (by decide) ⟨oR_x (by decide), hX⟩
    · rw [pLaid_1 hle hi hl]
      refine zr_aload_n dX1_xOf_0 rfl rfl ?_
      refine zr_iload_n dX1_xOf_1 rfl rfl ?_
      refine zr_call1 (rest := []) (zs_V (As := [.int (nI i)]) (by omega) ok_X1_laid q1816 q1818 qs29 q53 q1819 rfl hS.one rfl rfl rfl (Nat.le_of_ble_eq_true rfl) dX1_xOf_2) (c_laid1 (by omega) hG hw hS hi hl) ?_
      refine zr_call1 (rest := []) (zs_V (As := []) (by omega) ok_X2_x q1820 q1821 q1822 q57 q1823 rfl (hS.bx hi) rfl rfl rfl (Nat.le_of_ble_eq_true rfl) dX1_xOf_5) (c_X2_x hS 24 i (d - 1) (by omega) (by omega) hi) ?_
      exact zr_iret rfl rfl dX1_xOf_8 (⟨oR_ok, zX.rf _ hw _⟩)
  · have hb0 : btw n 0 (nI (kN c) - 1) = false := by simpa using hb
    rw [pLaid_0 hb0]
    obtain ⟨_, σ1, ⟨q, rfl, hX⟩, hC⟩ := c_laid0 (d := d - 1) (by omega) hG hw hS hb0
    obtain ⟨fl_hfl, hfl⟩ := hS.bxL.A
    refine zr_aload_n dX1_xOf_0 rfl rfl ?_
    refine zr_iload_n dX1_xOf_1 rfl rfl ?_
    refine zr_callX (rest := []) (zs_V (As := [.int n]) (by omega) ok_X1_laid q1816 q1818 qs29 q53 q1819 rfl hS.one rfl rfl rfl (Nat.le_of_ble_eq_true rfl) dX1_xOf_2) hC ?_
    exact zx_out (by decide) ⟨oR_x (by decide), hX⟩
set_option maxHeartbeats 4000000 in
theorem c_X1_yOf {G : zG} {σ : zT} {d : Nat} {c : zCS} {n : Int32} (hd : 60 ≤ d) (hG : zOk G) (hw : zGd G σ) (hS : CSys G σ c) : zCall G I_X1_yOf d [.ref (kA c 1), .int n] σ ((fun o σ' => oR o (pLaid c n (fun i => (0, .int (kXY 1 24 c i)))) ∧ zX G S0 σ σ' 10)) := by
  refine zCall_of (ls := [(0, .ref (kA c 1)), (1, .int n)]) (by decide) (Nat.le_of_ble_eq_true rfl) rfl ?_
  have hle := hS.le
  by_cases hb : btw n 0 (nI (kN c) - 1) = true
  · obtain ⟨i, hi, rfl⟩ := btw_idx (by omega) hb
    obtain ⟨fl_hfl, hfl⟩ := hS.bxL.A
    by_cases hl : kLw c = -1
    · rw [pLaid_3 hle hi hl]
      obtain ⟨_, σ1, ⟨q, rfl, hX⟩, hC⟩ := c_laid3 (d := d - 1) (by omega) hG hw hS hi hl
      refine zr_aload_n dX1_yOf_0 rfl rfl ?_
      refine zr_iload_n dX1_yOf_1 rfl rfl ?_
      refine zr_callX (rest := []) (zs_V (As := [.int (nI i)]) (by omega) ok_X1_laid q1816 q1818 qs29 q53 q1819 rfl hS.one rfl rfl rfl (Nat.le_of_ble_eq_true rfl) dX1_yOf_2) hC ?_
      exact zx_out (by decide) ⟨oR_x (by decide), hX⟩
    · rw [pLaid_1 hle hi hl]
      refine zr_aload_n dX1_yOf_0 rfl rfl ?_
      refine zr_iload_n dX1_yOf_1 rfl rfl ?_
      refine zr_call1 (rest := []) (zs_V (As := [.int (nI i)]) (by omega) ok_X1_laid q1816 q1818 qs29 q53 q1819 rfl hS.one rfl rfl rfl (Nat.le_of_ble_eq_true rfl) dX1_yOf_2) (c_laid1 (by omega) hG hw hS hi hl) ?_
      refine zr_call1 (rest := []) (zs_V (As := []) (by omega) ok_X2_y q1837 q1838 q1839 q57 q1840 rfl (hS.bx hi) rfl rfl rfl (Nat.le_of_ble_eq_true rfl) dX1_yOf_5) (c_X2_y hS 24 i (d - 1) (by omega) (by omega) hi) ?_
      exact zr_iret rfl rfl dX1_yOf_8 (⟨oR_ok, zX.rf _ hw _⟩)
  · have hb0 : btw n 0 (nI (kN c) - 1) = false := by simpa using hb
    rw [pLaid_0 hb0]
    obtain ⟨_, σ1, ⟨q, rfl, hX⟩, hC⟩ := c_laid0 (d := d - 1) (by omega) hG hw hS hb0
    obtain ⟨fl_hfl, hfl⟩ := hS.bxL.A
    refine zr_aload_n dX1_yOf_0 rfl rfl ?_
    refine zr_iload_n dX1_yOf_1 rfl rfl ?_
    refine zr_callX (rest := []) (zs_V (As := [.int n]) (by omega) ok_X1_laid q1816 q1818 qs29 q53 q1819 rfl hS.one rfl rfl rfl (Nat.le_of_ble_eq_true rfl) dX1_yOf_2) hC ?_
    exact zx_out (by decide) ⟨oR_x (by decide), hX⟩
set_option maxHeartbeats 4000000 in
theorem c_X1_widthOf {G : zG} {σ : zT} {d : Nat} {c : zCS} {n : Int32} (hd : 60 ≤ d) (hG : zOk G) (hw : zGd G σ) (hS : CSys G σ c) : zCall G I_X1_widthOf d [.ref (kA c 1), .int n] σ ((fun o σ' => oR o (pLaid c n (fun i => (0, .int (kP c i 2)))) ∧ zX G S0 σ σ' 10)) := by
  refine zCall_of (ls := [(0, .ref (kA c 1)), (1, .int n)]) (by decide) (Nat.le_of_ble_eq_true rfl) rfl ?_
  have hle := hS.le
  by_cases hb : btw n 0 (nI (kN c) - 1) = true
  · obtain ⟨i, hi, rfl⟩ := btw_idx (by omega) hb
    obtain ⟨fl_hfl, hfl⟩ := hS.bxL.A
    by_cases hl : kLw c = -1
    · rw [pLaid_3 hle hi hl]
      obtain ⟨_, σ1, ⟨q, rfl, hX⟩, hC⟩ := c_laid3 (d := d - 1) (by omega) hG hw hS hi hl
      refine zr_aload_n dX1_widthOf_0 rfl rfl ?_
      refine zr_iload_n dX1_widthOf_1 rfl rfl ?_
      refine zr_callX (rest := []) (zs_V (As := [.int (nI i)]) (by omega) ok_X1_laid q1816 q1818 qs29 q53 q1819 rfl hS.one rfl rfl rfl (Nat.le_of_ble_eq_true rfl) dX1_widthOf_2) hC ?_
      exact zx_out (by decide) ⟨oR_x (by decide), hX⟩
    · rw [pLaid_1 hle hi hl]
      refine zr_aload_n dX1_widthOf_0 rfl rfl ?_
      refine zr_iload_n dX1_widthOf_1 rfl rfl ?_
      refine zr_call1 (rest := []) (zs_V (As := [.int (nI i)]) (by omega) ok_X1_laid q1816 q1818 qs29 q53 q1819 rfl hS.one rfl rfl rfl (Nat.le_of_ble_eq_true rfl) dX1_widthOf_2) (c_laid1 (by omega) hG hw hS hi hl) ?_
      refine zr_getN (k := 24) (v := .ref (kA c (rP i))) in_X2 (hS.bx hi) rfl (Nat.le_of_ble_eq_true rfl) q292 (.inl rfl) rfl dX1_widthOf_5 ?_
      refine zr_getN (k := 2) (v := .int (kP c i 2)) in_X3 (hS.pl hi) rfl (Nat.le_of_ble_eq_true rfl) q201 (.inl rfl) rfl dX1_widthOf_8 ?_
      exact zr_iret rfl rfl dX1_widthOf_11 (⟨oR_ok, zX.rf _ hw _⟩)
  · have hb0 : btw n 0 (nI (kN c) - 1) = false := by simpa using hb
    rw [pLaid_0 hb0]
    obtain ⟨_, σ1, ⟨q, rfl, hX⟩, hC⟩ := c_laid0 (d := d - 1) (by omega) hG hw hS hb0
    obtain ⟨fl_hfl, hfl⟩ := hS.bxL.A
    refine zr_aload_n dX1_widthOf_0 rfl rfl ?_
    refine zr_iload_n dX1_widthOf_1 rfl rfl ?_
    refine zr_callX (rest := []) (zs_V (As := [.int n]) (by omega) ok_X1_laid q1816 q1818 qs29 q53 q1819 rfl hS.one rfl rfl rfl (Nat.le_of_ble_eq_true rfl) dX1_widthOf_2) hC ?_
    exact zx_out (by decide) ⟨oR_x (by decide), hX⟩
set_option maxHeartbeats 4000000 in
theorem c_X1_heightOf {G : zG} {σ : zT} {d : Nat} {c : zCS} {n : Int32} (hd : 60 ≤ d) (hG : zOk G) (hw : zGd G σ) (hS : CSys G σ c) : zCall G I_X1_heightOf d [.ref (kA c 1), .int n] σ ((fun o σ' => oR o (pLaid c n (fun i => (0, .int (kP c i 3)))) ∧ zX G S0 σ σ' 10)) := by
  refine zCall_of (ls := [(0, .ref (kA c 1)), (1, .int n)]) (by decide) (Nat.le_of_ble_eq_true rfl) rfl ?_
  have hle := hS.le
  by_cases hb : btw n 0 (nI (kN c) - 1) = true
  · obtain ⟨i, hi, rfl⟩ := btw_idx (by omega) hb
    obtain ⟨fl_hfl, hfl⟩ := hS.bxL.A
    by_cases hl : kLw c = -1
    · rw [pLaid_3 hle hi hl]
      obtain ⟨_, σ1, ⟨q, rfl, hX⟩, hC⟩ := c_laid3 (d := d - 1) (by omega) hG hw hS hi hl
      refine zr_aload_n dX1_heightOf_0 rfl rfl ?_
      refine zr_iload_n dX1_heightOf_1 rfl rfl ?_
      refine zr_callX (rest := []) (zs_V (As := [.int (nI i)]) (by omega) ok_X1_laid q1816 q1818 qs29 q53 q1819 rfl hS.one rfl rfl rfl (Nat.le_of_ble_eq_true rfl) dX1_heightOf_2) hC ?_
      exact zx_out (by decide) ⟨oR_x (by decide), hX⟩
    · rw [pLaid_1 hle hi hl]
      refine zr_aload_n dX1_heightOf_0 rfl rfl ?_
      refine zr_iload_n dX1_heightOf_1 rfl rfl ?_
      refine zr_call1 (rest := []) (zs_V (As := [.int (nI i)]) (by omega) ok_X1_laid q1816 q1818 qs29 q53 q1819 rfl hS.one rfl rfl rfl (Nat.le_of_ble_eq_true rfl) dX1_heightOf_2) (c_laid1 (by omega) hG hw hS hi hl) ?_
      refine zr_getN (k := 24) (v := .ref (kA c (rP i))) in_X2 (hS.bx hi) rfl (Nat.le_of_ble_eq_true rfl) q292 (.inl rfl) rfl dX1_heightOf_5 ?_
      refine zr_getN (k := 3) (v := .int (kP c i 3)) in_X3 (hS.pl hi) rfl (Nat.le_of_ble_eq_true rfl) q206 (.inl rfl) rfl dX1_heightOf_8 ?_
      exact zr_iret rfl rfl dX1_heightOf_11 (⟨oR_ok, zX.rf _ hw _⟩)
  · have hb0 : btw n 0 (nI (kN c) - 1) = false := by simpa using hb
    rw [pLaid_0 hb0]
    obtain ⟨_, σ1, ⟨q, rfl, hX⟩, hC⟩ := c_laid0 (d := d - 1) (by omega) hG hw hS hb0
    obtain ⟨fl_hfl, hfl⟩ := hS.bxL.A
    refine zr_aload_n dX1_heightOf_0 rfl rfl ?_
    refine zr_iload_n dX1_heightOf_1 rfl rfl ?_
    refine zr_callX (rest := []) (zs_V (As := [.int n]) (by omega) ok_X1_laid q1816 q1818 qs29 q53 q1819 rfl hS.one rfl rfl rfl (Nat.le_of_ble_eq_true rfl) dX1_heightOf_2) hC ?_
    exact zx_out (by decide) ⟨oR_x (by decide), hX⟩
set_option maxHeartbeats 4000000 in
theorem c_X1_leastWidth {G : zG} {σ : zT} {d : Nat} {c : zCS} {n : Int32} (hd : 84 ≤ d) (hG : zOk G) (hw : zGd G σ) (hS : CSys G σ c) : zCall G I_X1_leastWidth d [.ref (kA c 1), .int n] σ ((fun o σ' => oR o (pBox c n (fun i => (0, .int (cW c i true)))) ∧ zX G S0 σ σ' (10 + KM c))) := by
  refine zCall_of (ls := [(0, .ref (kA c 1)), (1, .int n)]) (by decide) (Nat.le_of_ble_eq_true rfl) rfl ?_
  have hle := hS.le
  by_cases hb : btw n 0 (nI (kN c) - 1) = true
  · obtain ⟨i, hi, rfl⟩ := btw_idx (by omega) hb
    obtain ⟨fl_hfl, hfl⟩ := hS.bxL.A
    rw [pBox_1 hle hi]
    obtain ⟨_, σ1, ⟨rfl, hX⟩, hC⟩ := c_W (d := d - 1) true (by omega) hG hw hS hi
    have hKL := KW_LA hi
    refine zr_aload_n dX1_leastWidth_0 rfl rfl ?_
    refine zr_iload_n dX1_leastWidth_1 rfl rfl ?_
    refine zr_call1 (rest := []) (zs_V (As := [.int (nI i)]) (by omega) ok_X1_box q1629 q1631 qs28 q53 q1632 rfl hS.one rfl rfl rfl (Nat.le_of_ble_eq_true rfl) dX1_leastWidth_2) (c_box1 (by omega) hG hw hS hi) ?_
    refine zr_iconst (v := 1) dX1_leastWidth_5 (by decide) ?_
    refine zr_call1 (rest := []) (zs_S (As := [.ref (kA c (rB i)), .int 1]) (by omega) ok_X1_contentWidth q1162 q1140 q53 q1141 rfl rfl (Nat.le_of_ble_eq_true rfl) dX1_leastWidth_6) hC ?_
    exact zr_iret rfl rfl dX1_leastWidth_9 (⟨oR_ok, hX.le (by omega)⟩)
  · have hb0 : btw n 0 (nI (kN c) - 1) = false := by simpa using hb
    rw [pBox_0 hb0]
    obtain ⟨_, σ1, ⟨q, rfl, hX⟩, hC⟩ := c_box0 (d := d - 1) (by omega) hG hw hS hb0
    obtain ⟨fl_hfl, hfl⟩ := hS.bxL.A
    refine zr_aload_n dX1_leastWidth_0 rfl rfl ?_
    refine zr_iload_n dX1_leastWidth_1 rfl rfl ?_
    refine zr_callX (rest := []) (zs_V (As := [.int n]) (by omega) ok_X1_box q1629 q1631 qs28 q53 q1632 rfl hS.one rfl rfl rfl (Nat.le_of_ble_eq_true rfl) dX1_leastWidth_2) hC ?_
    exact zx_out (by decide) ⟨oR_x (by decide), hX.le (by omega)⟩
set_option maxHeartbeats 4000000 in
theorem c_X1_greatestWidth {G : zG} {σ : zT} {d : Nat} {c : zCS} {n : Int32} (hd : 84 ≤ d) (hG : zOk G) (hw : zGd G σ) (hS : CSys G σ c) : zCall G I_X1_greatestWidth d [.ref (kA c 1), .int n] σ ((fun o σ' => oR o (pBox c n (fun i => (0, .int (cW c i false)))) ∧ zX G S0 σ σ' (10 + KM c))) := by
  refine zCall_of (ls := [(0, .ref (kA c 1)), (1, .int n)]) (by decide) (Nat.le_of_ble_eq_true rfl) rfl ?_
  have hle := hS.le
  by_cases hb : btw n 0 (nI (kN c) - 1) = true
  · obtain ⟨i, hi, rfl⟩ := btw_idx (by omega) hb
    obtain ⟨fl_hfl, hfl⟩ := hS.bxL.A
    rw [pBox_1 hle hi]
    obtain ⟨_, σ1, ⟨rfl, hX⟩, hC⟩ := c_W (d := d - 1) false (by omega) hG hw hS hi
    have hKL := KW_LA hi
    refine zr_aload_n dX1_greatestWidth_0 rfl rfl ?_
    refine zr_iload_n dX1_greatestWidth_1 rfl rfl ?_
    refine zr_call1 (rest := []) (zs_V (As := [.int (nI i)]) (by omega) ok_X1_box q1629 q1631 qs28 q53 q1632 rfl hS.one rfl rfl rfl (Nat.le_of_ble_eq_true rfl) dX1_greatestWidth_2) (c_box1 (by omega) hG hw hS hi) ?_
    refine zr_iconst (v := 0) dX1_greatestWidth_5 (by decide) ?_
    refine zr_call1 (rest := []) (zs_S (As := [.ref (kA c (rB i)), .int 0]) (by omega) ok_X1_contentWidth q1162 q1140 q53 q1141 rfl rfl (Nat.le_of_ble_eq_true rfl) dX1_greatestWidth_6) hC ?_
    exact zr_iret rfl rfl dX1_greatestWidth_9 (⟨oR_ok, hX.le (by omega)⟩)
  · have hb0 : btw n 0 (nI (kN c) - 1) = false := by simpa using hb
    rw [pBox_0 hb0]
    obtain ⟨_, σ1, ⟨q, rfl, hX⟩, hC⟩ := c_box0 (d := d - 1) (by omega) hG hw hS hb0
    obtain ⟨fl_hfl, hfl⟩ := hS.bxL.A
    refine zr_aload_n dX1_greatestWidth_0 rfl rfl ?_
    refine zr_iload_n dX1_greatestWidth_1 rfl rfl ?_
    refine zr_callX (rest := []) (zs_V (As := [.int n]) (by omega) ok_X1_box q1629 q1631 qs28 q53 q1632 rfl hS.one rfl rfl rfl (Nat.le_of_ble_eq_true rfl) dX1_greatestWidth_2) hC ?_
    exact zx_out (by decide) ⟨oR_x (by decide), hX.le (by omega)⟩
theorem CSys.lnL {G : zG} {σ : zT} {c : zCS} (h : CSys G σ c) {i : Nat} (hi : i < kN c) : zLn G σ (rL i) (rO i) (kA c (rL i)) (kLn c i) := (h.2.2.1 i hi).2.2.2.2
set_option maxHeartbeats 4000000 in
theorem c_linesOf0 {G : zG} {σ : zT} {d : Nat} {c : zCS} {n : Int32} (hd : 16 ≤ d) (hG : zOk G) (hw : zGd G σ) (hS : CSys G σ c) (hn : btw n 0 (nI (kN c) - 1) = false) : zCall G I_X1_linesOf d [.ref (kA c 1), .int n] σ (fun o σ' => ∃ q, o = .inr (xE 1, q) ∧ zX G S0 σ σ' 10) := by
  refine zCall_of (ls := [(0, .ref (kA c 1)), (1, .int n)]) (by decide) (Nat.le_of_ble_eq_true rfl) rfl ?_
  obtain ⟨_, σ1, ⟨q, rfl, hX⟩, hC⟩ := c_laid0 (d := d - 1) (by omega) hG hw hS hn
  obtain ⟨fl_hfl, hfl⟩ := hS.bxL.A
  refine zr_aload_n dX1_linesOf_0 rfl rfl ?_
  refine zr_iload_n dX1_linesOf_1 rfl rfl ?_
  refine zr_callX (rest := []) (zs_V (As := [.int n]) (by omega) ok_X1_laid q1816 q1818 qs29 q53 q1819 rfl hS.one rfl rfl rfl (Nat.le_of_ble_eq_true rfl) dX1_linesOf_2) hC ?_
  exact zx_out (by decide) ⟨q, rfl, hX⟩
set_option maxHeartbeats 4000000 in
theorem c_linesOf3 {G : zG} {σ : zT} {d : Nat} {c : zCS} {i : Nat} (hd : 16 ≤ d) (hG : zOk G) (hw : zGd G σ) (hS : CSys G σ c) (hi : i < kN c) (hl : kLw c = -1) : zCall G I_X1_linesOf d [.ref (kA c 1), .int (nI i)] σ (fun o σ' => ∃ q, o = .inr (xE 3, q) ∧ zX G S0 σ σ' 10) := by
  refine zCall_of (ls := [(0, .ref (kA c 1)), (1, .int (nI i))]) (by decide) (Nat.le_of_ble_eq_true rfl) rfl ?_
  obtain ⟨_, σ1, ⟨q, rfl, hX⟩, hC⟩ := c_laid3 (d := d - 1) (by omega) hG hw hS hi hl
  obtain ⟨fl_hfl, hfl⟩ := hS.bxL.A
  refine zr_aload_n dX1_linesOf_0 rfl rfl ?_
  refine zr_iload_n dX1_linesOf_1 rfl rfl ?_
  refine zr_callX (rest := []) (zs_V (As := [.int (nI i)]) (by omega) ok_X1_laid q1816 q1818 qs29 q53 q1819 rfl hS.one rfl rfl rfl (Nat.le_of_ble_eq_true rfl) dX1_linesOf_2) hC ?_
  exact zx_out (by decide) ⟨q, rfl, hX⟩
set_option maxHeartbeats 4000000 in
theorem c_linesOf4 {G : zG} {σ : zT} {d : Nat} {c : zCS} {i : Nat} (hd : 16 ≤ d) (hG : zOk G) (hw : zGd G σ) (hS : CSys G σ c) (hi : i < kN c) (hl : ¬ kLw c = -1) (ht : kText c i = false) : zCall G I_X1_linesOf d [.ref (kA c 1), .int (nI i)] σ (fun o σ' => ∃ q, o = .inr (xE 4, q) ∧ zX G S0 σ σ' 10) := by
  refine zCall_of (ls := [(0, .ref (kA c 1)), (1, .int (nI i))]) (by decide) (Nat.le_of_ble_eq_true rfl) rfl ?_
  obtain ⟨_, σ1, ⟨q, rfl, hX⟩, hC⟩ := c_requireAllowed0 (d := d - 1) (by omega) hG hw
  obtain ⟨fl_hfl, hfl⟩ := hS.bxL.A
  refine zr_aload_n dX1_linesOf_0 rfl rfl ?_
  refine zr_iload_n dX1_linesOf_1 rfl rfl ?_
  refine zr_call1 (rest := []) (zs_V (As := [.int (nI i)]) (by omega) ok_X1_laid q1816 q1818 qs29 q53 q1819 rfl hS.one rfl rfl rfl (Nat.le_of_ble_eq_true rfl) dX1_linesOf_2) (c_laid1 (by omega) hG hw hS hi hl) ?_
  refine zr_astore_n (ls2 := [(0, .ref (kA c 1)), (1, .int (nI i)), (2, .ref (kA c (rB i)))]) dX1_linesOf_5 rfl (Nat.le_of_ble_eq_true rfl) rfl ?_
  refine zr_aload_n dX1_linesOf_6 rfl rfl ?_
  refine zr_call1 (rest := []) (zs_V (As := []) (by omega) ok_X2_isText q1146 q1147 q1148 q57 q1149 rfl (hS.bx hi) rfl rfl rfl (Nat.le_of_ble_eq_true rfl) dX1_linesOf_7) (c_X2_isText (by omega) hS hi) ?_
  refine zr_eqi (z := 0) (by rw [ht]; rfl) ?_
  refine zr_callX (rest := []) (zs_S (As := [.int 0]) (by omega) ok_X1_requireAllowed q1670 q1671 q53 q1672 rfl rfl (Nat.le_of_ble_eq_true rfl) dX1_linesOf_10) hC ?_
  exact zx_out (by decide) ⟨q, rfl, hX⟩
set_option maxHeartbeats 4000000 in
theorem c_linesOf1 {G : zG} {σ : zT} {d : Nat} {c : zCS} {i : Nat} (hd : 16 ≤ d) (hG : zOk G) (hw : zGd G σ) (hS : CSys G σ c) (hi : i < kN c) (hl : ¬ kLw c = -1) (ht : kText c i = true) : zC G I_X1_linesOf d [.ref (kA c 1), .int (nI i)] σ (.inl (some (.ref (kA c (rL i))))) σ := by
  refine zCall.exact (zCall_of (ls := [(0, .ref (kA c 1)), (1, .int (nI i))]) (by decide) (Nat.le_of_ble_eq_true rfl) rfl ?_)
  obtain ⟨fl_hfl, hfl⟩ := hS.bxL.A
  refine zr_aload_n dX1_linesOf_0 rfl rfl ?_
  refine zr_iload_n dX1_linesOf_1 rfl rfl ?_
  refine zr_call1 (rest := []) (zs_V (As := [.int (nI i)]) (by omega) ok_X1_laid q1816 q1818 qs29 q53 q1819 rfl hS.one rfl rfl rfl (Nat.le_of_ble_eq_true rfl) dX1_linesOf_2) (c_laid1 (by omega) hG hw hS hi hl) ?_
  refine zr_astore_n (ls2 := [(0, .ref (kA c 1)), (1, .int (nI i)), (2, .ref (kA c (rB i)))]) dX1_linesOf_5 rfl (Nat.le_of_ble_eq_true rfl) rfl ?_
  refine zr_aload_n dX1_linesOf_6 rfl rfl ?_
  refine zr_call1 (rest := []) (zs_V (As := []) (by omega) ok_X2_isText q1146 q1147 q1148 q57 q1149 rfl (hS.bx hi) rfl rfl rfl (Nat.le_of_ble_eq_true rfl) dX1_linesOf_7) (c_X2_isText (by omega) hS hi) ?_
  refine zr_eqi (z := 1) (by rw [ht]; rfl) ?_
  refine zr_callv (rest := []) (zs_S (As := [.int 1]) (by omega) ok_X1_requireAllowed q1670 q1671 q53 q1672 rfl rfl (Nat.le_of_ble_eq_true rfl) dX1_linesOf_10) c_requireAllowed1 ?_
  refine zr_aload_n dX1_linesOf_13 rfl rfl ?_
  refine zr_getN (k := 24) (v := .ref (kA c (rP i))) in_X2 (hS.bx hi) rfl (Nat.le_of_ble_eq_true rfl) q292 (.inl rfl) rfl dX1_linesOf_14 ?_
  refine zr_getN (k := 5) (v := .ref (kA c (rL i))) in_X3 (hS.pl hi) rfl (Nat.le_of_ble_eq_true rfl) q211 (.inl rfl) rfl dX1_linesOf_17 ?_
  exact zr_aret rfl (.inl ⟨_, rfl⟩) (.inr ⟨_, rfl⟩) dX1_linesOf_20 (⟨rfl, rfl⟩)
theorem pText_0 {c : zCS} {n : Int32} {v : Nat → Nat × Value} (h : btw n 0 (nI (kN c) - 1) = false) : pText c n v = (1, .null) := pLaid_0 h
theorem pText_3 {c : zCS} {i : Nat} {v : Nat → Nat × Value} (hN : kN c ≤ 24) (hi : i < kN c) (hl : kLw c = -1) : pText c (nI i) v = (3, .null) := pLaid_3 hN hi hl
theorem pText_4 {c : zCS} {i : Nat} {v : Nat → Nat × Value} (hN : kN c ≤ 24) (hi : i < kN c) (hl : ¬ kLw c = -1) (ht : kText c i = false) : pText c (nI i) v = (4, .null) := (pLaid_1 hN hi hl).trans (if_neg (by rw [ht]; decide))
theorem pText_1 {c : zCS} {i : Nat} {v : Nat → Nat × Value} (hN : kN c ≤ 24) (hi : i < kN c) (hl : ¬ kLw c = -1) (ht : kText c i = true) : pText c (nI i) v = v i := (pLaid_1 hN hi hl).trans (if_pos ht)
set_option maxHeartbeats 4000000 in
theorem c_X1_lines {G : zG} {σ : zT} {d : Nat} {c : zCS} {n : Int32} (hd : 60 ≤ d) (hG : zOk G) (hw : zGd G σ) (hS : CSys G σ c) : zCall G I_X1_lines d [.ref (kA c 1), .int n] σ ((fun o σ' => oR o (pText c n (fun i => (0, .int (nI (kLn c i).length)))) ∧ zX G S0 σ σ' 10)) := by
  refine zCall_of (ls := [(0, .ref (kA c 1)), (1, .int n)]) (by decide) (Nat.le_of_ble_eq_true rfl) rfl ?_
  have hle := hS.le
  by_cases hb : btw n 0 (nI (kN c) - 1) = true
  · obtain ⟨i, hi, rfl⟩ := btw_idx (by omega) hb
    obtain ⟨fl_hfl, hfl⟩ := hS.bxL.A
    by_cases hl : kLw c = -1
    · rw [pText_3 hle hi hl]
      obtain ⟨_, σ1, ⟨q, rfl, hX⟩, hC⟩ := c_linesOf3 (d := d - 1) (by omega) hG hw hS hi hl
      refine zr_aload_n dX1_lines_0 rfl rfl ?_
      refine zr_iload_n dX1_lines_1 rfl rfl ?_
      refine zr_callX (rest := []) (zs_V (As := [.int (nI i)]) (by omega) ok_X1_linesOf q1863 q1865 qs30 q53 q1866 rfl hS.one rfl rfl rfl (Nat.le_of_ble_eq_true rfl) dX1_lines_2) hC ?_
      exact zx_out (by decide) ⟨oR_x (by decide), hX⟩
    · by_cases ht : kText c i = true
      · rw [pText_1 hle hi hl ht]
        obtain ⟨mod, xs, hLx, hlx, hln⟩ := hS.lnL hi
        obtain ⟨fll, hfll⟩ := hLx.A
        refine zr_aload_n dX1_lines_0 rfl rfl ?_
        refine zr_iload_n dX1_lines_1 rfl rfl ?_
        refine zr_call1 (rest := []) (zs_V (As := [.int (nI i)]) (by omega) ok_X1_linesOf q1863 q1865 qs30 q53 q1866 rfl hS.one rfl rfl rfl (Nat.le_of_ble_eq_true rfl) dX1_lines_2) (c_linesOf1 (by omega) hG hw hS hi hl ht) ?_
        refine zr_call51 (rest := []) (zs_F (As := []) (by omega) okF_J2_size (by decide +kernel) q1178 q162 q164 q56 q166 hfll rfl rfl rfl (Nat.le_of_ble_eq_true rfl) dX1_lines_5) (c_size (by omega) hLx hlx) ?_
        exact zr_iret rfl rfl dX1_lines_10 (⟨oR_ok, zX.rf _ hw _⟩)
      · have ht0 : kText c i = false := by simpa using ht
        rw [pText_4 hle hi hl ht0]
        obtain ⟨_, σ1, ⟨q, rfl, hX⟩, hC⟩ := c_linesOf4 (d := d - 1) (by omega) hG hw hS hi hl ht0
        refine zr_aload_n dX1_lines_0 rfl rfl ?_
        refine zr_iload_n dX1_lines_1 rfl rfl ?_
        refine zr_callX (rest := []) (zs_V (As := [.int (nI i)]) (by omega) ok_X1_linesOf q1863 q1865 qs30 q53 q1866 rfl hS.one rfl rfl rfl (Nat.le_of_ble_eq_true rfl) dX1_lines_2) hC ?_
        exact zx_out (by decide) ⟨oR_x (by decide), hX⟩
  · have hb0 : btw n 0 (nI (kN c) - 1) = false := by simpa using hb
    rw [pText_0 hb0]
    obtain ⟨_, σ1, ⟨q, rfl, hX⟩, hC⟩ := c_linesOf0 (d := d - 1) (by omega) hG hw hS hb0
    obtain ⟨fl_hfl, hfl⟩ := hS.bxL.A
    refine zr_aload_n dX1_lines_0 rfl rfl ?_
    refine zr_iload_n dX1_lines_1 rfl rfl ?_
    refine zr_callX (rest := []) (zs_V (As := [.int n]) (by omega) ok_X1_linesOf q1863 q1865 qs30 q53 q1866 rfl hS.one rfl rfl rfl (Nat.le_of_ble_eq_true rfl) dX1_lines_2) hC ?_
    exact zx_out (by decide) ⟨oR_x (by decide), hX⟩
set_option maxHeartbeats 4000000 in
theorem c_lineAt0 {G : zG} {σ : zT} {d : Nat} {c : zCS} {n l : Int32} (hd : 18 ≤ d) (hG : zOk G) (hw : zGd G σ) (hS : CSys G σ c) (hn : btw n 0 (nI (kN c) - 1) = false) : zCall G I_X1_lineAt d [.ref (kA c 1), .int n, .int l] σ (fun o σ' => ∃ q, o = .inr (xE 1, q) ∧ zX G S0 σ σ' 10) := by
  refine zCall_of (ls := [(0, .ref (kA c 1)), (1, .int n), (2, .int l)]) (by decide) (Nat.le_of_ble_eq_true rfl) rfl ?_
  obtain ⟨_, σ1, ⟨q, rfl, hX⟩, hC⟩ := c_linesOf0 (d := d - 1) (by omega) hG hw hS hn
  obtain ⟨fl_hfl, hfl⟩ := hS.bxL.A
  refine zr_aload_n dX1_lineAt_0 rfl rfl ?_
  refine zr_iload_n dX1_lineAt_1 rfl rfl ?_
  refine zr_callX (rest := []) (zs_V (As := [.int n]) (by omega) ok_X1_linesOf q1863 q1865 qs30 q53 q1866 rfl hS.one rfl rfl rfl (Nat.le_of_ble_eq_true rfl) dX1_lineAt_2) hC ?_
  exact zx_out (by decide) ⟨q, rfl, hX⟩
set_option maxHeartbeats 4000000 in
theorem c_lineAt3 {G : zG} {σ : zT} {d : Nat} {c : zCS} {i : Nat} {l : Int32} (hd : 18 ≤ d) (hG : zOk G) (hw : zGd G σ) (hS : CSys G σ c) (hi : i < kN c) (hl : kLw c = -1) : zCall G I_X1_lineAt d [.ref (kA c 1), .int (nI i), .int l] σ (fun o σ' => ∃ q, o = .inr (xE 3, q) ∧ zX G S0 σ σ' 10) := by
  refine zCall_of (ls := [(0, .ref (kA c 1)), (1, .int (nI i)), (2, .int l)]) (by decide) (Nat.le_of_ble_eq_true rfl) rfl ?_
  obtain ⟨_, σ1, ⟨q, rfl, hX⟩, hC⟩ := c_linesOf3 (d := d - 1) (by omega) hG hw hS hi hl
  obtain ⟨fl_hfl, hfl⟩ := hS.bxL.A
  refine zr_aload_n dX1_lineAt_0 rfl rfl ?_
  refine zr_iload_n dX1_lineAt_1 rfl rfl ?_
  refine zr_callX (rest := []) (zs_V (As := [.int (nI i)]) (by omega) ok_X1_linesOf q1863 q1865 qs30 q53 q1866 rfl hS.one rfl rfl rfl (Nat.le_of_ble_eq_true rfl) dX1_lineAt_2) hC ?_
  exact zx_out (by decide) ⟨q, rfl, hX⟩
set_option maxHeartbeats 4000000 in
theorem c_lineAt4 {G : zG} {σ : zT} {d : Nat} {c : zCS} {i : Nat} {l : Int32} (hd : 18 ≤ d) (hG : zOk G) (hw : zGd G σ) (hS : CSys G σ c) (hi : i < kN c) (hl : ¬ kLw c = -1) (ht : kText c i = false) : zCall G I_X1_lineAt d [.ref (kA c 1), .int (nI i), .int l] σ (fun o σ' => ∃ q, o = .inr (xE 4, q) ∧ zX G S0 σ σ' 10) := by
  refine zCall_of (ls := [(0, .ref (kA c 1)), (1, .int (nI i)), (2, .int l)]) (by decide) (Nat.le_of_ble_eq_true rfl) rfl ?_
  obtain ⟨_, σ1, ⟨q, rfl, hX⟩, hC⟩ := c_linesOf4 (d := d - 1) (by omega) hG hw hS hi hl ht
  obtain ⟨fl_hfl, hfl⟩ := hS.bxL.A
  refine zr_aload_n dX1_lineAt_0 rfl rfl ?_
  refine zr_iload_n dX1_lineAt_1 rfl rfl ?_
  refine zr_callX (rest := []) (zs_V (As := [.int (nI i)]) (by omega) ok_X1_linesOf q1863 q1865 qs30 q53 q1866 rfl hS.one rfl rfl rfl (Nat.le_of_ble_eq_true rfl) dX1_lineAt_2) hC ?_
  exact zx_out (by decide) ⟨q, rfl, hX⟩
set_option maxHeartbeats 4000000 in
theorem c_lineAt5 {G : zG} {σ : zT} {d : Nat} {c : zCS} {i : Nat} {l mod : Int32} {xs : List Nat} (hd : 18 ≤ d) (hG : zOk G) (hw : zGd G σ) (hS : CSys G σ c) (hi : i < kN c) (hl : ¬ kLw c = -1) (ht : kText c i = true) (hLx : zL G σ (rL i) (kA c (rL i)) mod xs) (hlx : xs.length = (kLn c i).length) (hb : btw l 0 (nI (kLn c i).length - 1) = false) : zCall G I_X1_lineAt d [.ref (kA c 1), .int (nI i), .int l] σ (fun o σ' => ∃ q, o = .inr (xE 5, q) ∧ zX G S0 σ σ' 10) := by
  refine zCall_of (ls := [(0, .ref (kA c 1)), (1, .int (nI i)), (2, .int l)]) (by decide) (Nat.le_of_ble_eq_true rfl) rfl ?_
  obtain ⟨_, σ1, ⟨q, rfl, hX⟩, hC⟩ := c_requireElement0 (d := d - 1) (by omega) hG hw
  obtain ⟨fll, hfll⟩ := hLx.A
  obtain ⟨fl_hfl, hfl⟩ := hS.bxL.A
  refine zr_aload_n dX1_lineAt_0 rfl rfl ?_
  refine zr_iload_n dX1_lineAt_1 rfl rfl ?_
  refine zr_call1 (rest := []) (zs_V (As := [.int (nI i)]) (by omega) ok_X1_linesOf q1863 q1865 qs30 q53 q1866 rfl hS.one rfl rfl rfl (Nat.le_of_ble_eq_true rfl) dX1_lineAt_2) (c_linesOf1 (by omega) hG hw hS hi hl ht) ?_
  refine zr_astore_n (ls2 := [(0, .ref (kA c 1)), (1, .int (nI i)), (2, .int l), (3, .ref (kA c (rL i)))]) dX1_lineAt_5 rfl (Nat.le_of_ble_eq_true rfl) rfl ?_
  refine zr_iload_n dX1_lineAt_6 rfl rfl ?_
  refine zr_iconst (v := 0) dX1_lineAt_7 (by decide) ?_
  refine zr_aload_n dX1_lineAt_8 rfl rfl ?_
  refine zr_call51 (rest := [.int 0, .int l]) (zs_F (As := []) (by omega) okF_J2_size (by decide +kernel) q1178 q162 q164 q56 q166 hfll rfl rfl rfl (Nat.le_of_ble_eq_true rfl) dX1_lineAt_9) (c_size (by omega) hLx hlx) ?_
  refine zr_iconst (v := 1) dX1_lineAt_14 (by decide) ?_
  refine zr_isub dX1_lineAt_15 ?_
  refine zr_call1 (rest := []) (zs_S (As := [.int l, .int 0, .int ((nI (kLn c i).length) - 1)]) (by omega) ok_X1_isBetween q1633 q1634 q53 q1635 rfl rfl (Nat.le_of_ble_eq_true rfl) dX1_lineAt_16) c_X1_isBetween ?_
  refine zr_eqi (z := 0) (by rw [hb]; rfl) ?_
  refine zr_callX (rest := []) (zs_S (As := [.int 0]) (by omega) ok_X1_requireElement q1879 q1880 q53 q1881 rfl rfl (Nat.le_of_ble_eq_true rfl) dX1_lineAt_19) hC ?_
  exact zx_out (by decide) ⟨q, rfl, hX⟩
set_option maxHeartbeats 4000000 in
theorem c_lineAt1 {G : zG} {σ : zT} {d : Nat} {c : zCS} {i : Nat} {mod : Int32} {xs : List Nat} (hd : 18 ≤ d) (hG : zOk G) (hw : zGd G σ) (hS : CSys G σ c) (hi : i < kN c) (hl : ¬ kLw c = -1) (ht : kText c i = true) (hLx : zL G σ (rL i) (kA c (rL i)) mod xs) (hlx : xs.length = (kLn c i).length) {j q : Nat} {v0 v1 v2 : Int32} (hb : btw (nI j) 0 (nI (kLn c i).length - 1) = true) (hq : xs[j]? = some q) (hz : sF σ q = some (.inr (11, [.int v0, .int v1, .int v2]))) : zC G I_X1_lineAt d [.ref (kA c 1), .int (nI i), .int (nI j)] σ (.inl (some (.ref q))) σ := by
  refine zCall.exact (zCall_of (ls := [(0, .ref (kA c 1)), (1, .int (nI i)), (2, .int (nI j))]) (by decide) (Nat.le_of_ble_eq_true rfl) rfl ?_)
  obtain ⟨fll, hfll⟩ := hLx.A
  obtain ⟨fl_hfl, hfl⟩ := hS.bxL.A
  refine zr_aload_n dX1_lineAt_0 rfl rfl ?_
  refine zr_iload_n dX1_lineAt_1 rfl rfl ?_
  refine zr_call1 (rest := []) (zs_V (As := [.int (nI i)]) (by omega) ok_X1_linesOf q1863 q1865 qs30 q53 q1866 rfl hS.one rfl rfl rfl (Nat.le_of_ble_eq_true rfl) dX1_lineAt_2) (c_linesOf1 (by omega) hG hw hS hi hl ht) ?_
  refine zr_astore_n (ls2 := [(0, .ref (kA c 1)), (1, .int (nI i)), (2, .int (nI j)), (3, .ref (kA c (rL i)))]) dX1_lineAt_5 rfl (Nat.le_of_ble_eq_true rfl) rfl ?_
  refine zr_iload_n dX1_lineAt_6 rfl rfl ?_
  refine zr_iconst (v := 0) dX1_lineAt_7 (by decide) ?_
  refine zr_aload_n dX1_lineAt_8 rfl rfl ?_
  refine zr_call51 (rest := [.int 0, .int (nI j)]) (zs_F (As := []) (by omega) okF_J2_size (by decide +kernel) q1178 q162 q164 q56 q166 hfll rfl rfl rfl (Nat.le_of_ble_eq_true rfl) dX1_lineAt_9) (c_size (by omega) hLx hlx) ?_
  refine zr_iconst (v := 1) dX1_lineAt_14 (by decide) ?_
  refine zr_isub dX1_lineAt_15 ?_
  refine zr_call1 (rest := []) (zs_S (As := [.int (nI j), .int 0, .int ((nI (kLn c i).length) - 1)]) (by omega) ok_X1_isBetween q1633 q1634 q53 q1635 rfl rfl (Nat.le_of_ble_eq_true rfl) dX1_lineAt_16) c_X1_isBetween ?_
  refine zr_eqi (z := 1) (by rw [hb]; rfl) ?_
  refine zr_callv (rest := []) (zs_S (As := [.int 1]) (by omega) ok_X1_requireElement q1879 q1880 q53 q1881 rfl rfl (Nat.le_of_ble_eq_true rfl) dX1_lineAt_19) c_requireElement1 ?_
  refine zr_aload_n dX1_lineAt_22 rfl rfl ?_
  refine zr_iload_n dX1_lineAt_23 rfl rfl ?_
  refine zr_call51 (rest := []) (zs_F (As := [.int (nI j)]) (by omega) okF_J2_get (by decide +kernel) q1180 q1106 q959 q56 q960 hfll rfl rfl rfl (Nat.le_of_ble_eq_true rfl) dX1_lineAt_24) (c_J2_get (by omega) hG hLx hq) ?_
  refine zr_castS (.new hz) rfl q1588 dX1_lineAt_29 ?_
  exact zr_aret rfl (.inl ⟨_, rfl⟩) (.inr ⟨_, rfl⟩) dX1_lineAt_32 (⟨rfl, rfl⟩)
def lnAt (c : zCS) (i j : Nat) : Int32 × Int32 × Int32 := (kLn c i)[j]?.getD (0, 0, 0)
theorem btw_idx' {n : Int32} {N : Nat} (hN : N ≤ 1000000) (h : btw n 0 (nI N - 1) = true) : ∃ i, i < N ∧ n = nI i := by
  unfold btw at h
  obtain ⟨h1, h2⟩ := (Bool.and_eq_true _ _).mp h
  have h1' : (0 : Int32) ≤ n := of_decide_eq_true h1
  have h2' : n ≤ nI N - 1 := of_decide_eq_true h2
  cases N with
  | zero =>
    have h3 := Int32.le_trans h1' h2'
    exact absurd h3 (by decide)
  | succ M =>
    rw [nI_pred] at h2'
    obtain ⟨j, hj, e⟩ := nI_of2 (nI_toInt (by omega)) (Int32.not_lt.mpr h1') h2'
    exact ⟨j, by omega, e⟩
set_option maxHeartbeats 4000000 in
theorem c_X1_wordsIn {G : zG} {σ : zT} {d : Nat} {c : zCS} {n l : Int32} (hd : 60 ≤ d) (hG : zOk G) (hw : zGd G σ) (hS : CSys G σ c) : zCall G I_X1_wordsIn d [.ref (kA c 1), .int n, .int l] σ ((fun o σ' => oR o (pLine c n l (fun i j => (0, .int (lnAt c i j).2.2))) ∧ zX G S0 σ σ' 10)) := by
  refine zCall_of (ls := [(0, .ref (kA c 1)), (1, .int n), (2, .int l)]) (by decide) (Nat.le_of_ble_eq_true rfl) rfl ?_
  have hle := hS.le
  by_cases hb : btw n 0 (nI (kN c) - 1) = true
  · obtain ⟨i, hi, rfl⟩ := btw_idx (by omega) hb
    obtain ⟨fl_hfl, hfl⟩ := hS.bxL.A
    by_cases hl : kLw c = -1
    · rw [pLine, pText_3 hle hi hl]
      obtain ⟨_, σ1, ⟨q, rfl, hX⟩, hC⟩ := c_lineAt3 (d := d - 1) (by omega) hG hw hS hi hl
      refine zr_aload_n dX1_wordsIn_0 rfl rfl ?_
      refine zr_iload_n dX1_wordsIn_1 rfl rfl ?_
      refine zr_iload_n dX1_wordsIn_2 rfl rfl ?_
      refine zr_callX (rest := []) (zs_V (As := [.int (nI i), .int l]) (by omega) ok_X1_lineAt q1875 q1877 qs31 q53 q1878 rfl hS.one rfl rfl rfl (Nat.le_of_ble_eq_true rfl) dX1_wordsIn_3) hC ?_
      exact zx_out (by decide) ⟨oR_x (by decide), hX⟩
    · by_cases ht : kText c i = true
      · rw [pLine, pText_1 hle hi hl ht]
        obtain ⟨mod, xs, hLx, hlx, hln⟩ := hS.lnL hi
        obtain ⟨fll, hfll⟩ := hLx.A
        have hll : (kLn c i).length ≤ 1000000 := by obtain ⟨_, cap, _, _, _, h1, h2, _⟩ := hLx; omega
        by_cases hb2 : btw l 0 (nI (kLn c i).length - 1) = true
        · rw [if_pos hb2]
          obtain ⟨j, hj, rfl⟩ := btw_idx' hll hb2
          rw [nI_clamp (by omega)]
          obtain ⟨q, hq⟩ : ∃ q, xs[j]? = some q := ⟨_, List.getElem?_eq_getElem (by omega)⟩
          obtain ⟨z, hz⟩ : ∃ z, (kLn c i)[j]? = some z := ⟨_, List.getElem?_eq_getElem hj⟩
          have hqz := (hln j q z hq hz).1
          rw [show lnAt c i j = z from by unfold lnAt; rw [hz]; rfl]
          refine zr_aload_n dX1_wordsIn_0 rfl rfl ?_
          refine zr_iload_n dX1_wordsIn_1 rfl rfl ?_
          refine zr_iload_n dX1_wordsIn_2 rfl rfl ?_
          refine zr_call1 (rest := []) (zs_V (As := [.int (nI i), .int (nI j)]) (by omega) ok_X1_lineAt q1875 q1877 qs31 q53 q1878 rfl hS.one rfl rfl rfl (Nat.le_of_ble_eq_true rfl) dX1_wordsIn_3) (c_lineAt1 (by omega) hG hw hS hi hl ht hLx hlx hb2 hq hqz) ?_
          refine zr_call1 (rest := []) (zs_V (As := []) (by omega) ok_X11_words q1589 q1485 q1486 q96 q1487 rfl (.new hqz) rfl rfl rfl (Nat.le_of_ble_eq_true rfl) dX1_wordsIn_6) (c_X11_words (.new hqz)) ?_
          exact zr_iret rfl rfl dX1_wordsIn_9 (⟨oR_ok, zX.rf _ hw _⟩)
        · have hb3 : btw l 0 (nI (kLn c i).length - 1) = false := by simpa using hb2
          rw [if_neg hb2]
          obtain ⟨_, σ1, ⟨q, rfl, hX⟩, hC⟩ := c_lineAt5 (d := d - 1) (by omega) hG hw hS hi hl ht hLx hlx hb3
          refine zr_aload_n dX1_wordsIn_0 rfl rfl ?_
          refine zr_iload_n dX1_wordsIn_1 rfl rfl ?_
          refine zr_iload_n dX1_wordsIn_2 rfl rfl ?_
          refine zr_callX (rest := []) (zs_V (As := [.int (nI i), .int l]) (by omega) ok_X1_lineAt q1875 q1877 qs31 q53 q1878 rfl hS.one rfl rfl rfl (Nat.le_of_ble_eq_true rfl) dX1_wordsIn_3) hC ?_
          exact zx_out (by decide) ⟨oR_x (by decide), hX⟩
      · have ht0 : kText c i = false := by simpa using ht
        rw [pLine, pText_4 hle hi hl ht0]
        obtain ⟨_, σ1, ⟨q, rfl, hX⟩, hC⟩ := c_lineAt4 (d := d - 1) (by omega) hG hw hS hi hl ht0
        refine zr_aload_n dX1_wordsIn_0 rfl rfl ?_
        refine zr_iload_n dX1_wordsIn_1 rfl rfl ?_
        refine zr_iload_n dX1_wordsIn_2 rfl rfl ?_
        refine zr_callX (rest := []) (zs_V (As := [.int (nI i), .int l]) (by omega) ok_X1_lineAt q1875 q1877 qs31 q53 q1878 rfl hS.one rfl rfl rfl (Nat.le_of_ble_eq_true rfl) dX1_wordsIn_3) hC ?_
        exact zx_out (by decide) ⟨oR_x (by decide), hX⟩
  · have hb0 : btw n 0 (nI (kN c) - 1) = false := by simpa using hb
    rw [pLine, pText_0 hb0]
    obtain ⟨_, σ1, ⟨q, rfl, hX⟩, hC⟩ := c_lineAt0 (d := d - 1) (by omega) hG hw hS hb0
    obtain ⟨fl_hfl, hfl⟩ := hS.bxL.A
    refine zr_aload_n dX1_wordsIn_0 rfl rfl ?_
    refine zr_iload_n dX1_wordsIn_1 rfl rfl ?_
    refine zr_iload_n dX1_wordsIn_2 rfl rfl ?_
    refine zr_callX (rest := []) (zs_V (As := [.int n, .int l]) (by omega) ok_X1_lineAt q1875 q1877 qs31 q53 q1878 rfl hS.one rfl rfl rfl (Nat.le_of_ble_eq_true rfl) dX1_wordsIn_3) hC ?_
    exact zx_out (by decide) ⟨oR_x (by decide), hX⟩
set_option maxHeartbeats 4000000 in
theorem c_X1_lineX {G : zG} {σ : zT} {d : Nat} {c : zCS} {n l : Int32} (hd : 60 ≤ d) (hG : zOk G) (hw : zGd G σ) (hS : CSys G σ c) : zCall G I_X1_lineX d [.ref (kA c 1), .int n, .int l] σ ((fun o σ' => oR o (pLine c n l (fun i j => (0, .int (lnAt c i j).1))) ∧ zX G S0 σ σ' 10)) := by
  refine zCall_of (ls := [(0, .ref (kA c 1)), (1, .int n), (2, .int l)]) (by decide) (Nat.le_of_ble_eq_true rfl) rfl ?_
  have hle := hS.le
  by_cases hb : btw n 0 (nI (kN c) - 1) = true
  · obtain ⟨i, hi, rfl⟩ := btw_idx (by omega) hb
    obtain ⟨fl_hfl, hfl⟩ := hS.bxL.A
    by_cases hl : kLw c = -1
    · rw [pLine, pText_3 hle hi hl]
      obtain ⟨_, σ1, ⟨q, rfl, hX⟩, hC⟩ := c_lineAt3 (d := d - 1) (by omega) hG hw hS hi hl
      refine zr_aload_n dX1_lineX_0 rfl rfl ?_
      refine zr_iload_n dX1_lineX_1 rfl rfl ?_
      refine zr_iload_n dX1_lineX_2 rfl rfl ?_
      refine zr_callX (rest := []) (zs_V (As := [.int (nI i), .int l]) (by omega) ok_X1_lineAt q1875 q1877 qs31 q53 q1878 rfl hS.one rfl rfl rfl (Nat.le_of_ble_eq_true rfl) dX1_lineX_3) hC ?_
      exact zx_out (by decide) ⟨oR_x (by decide), hX⟩
    · by_cases ht : kText c i = true
      · rw [pLine, pText_1 hle hi hl ht]
        obtain ⟨mod, xs, hLx, hlx, hln⟩ := hS.lnL hi
        obtain ⟨fll, hfll⟩ := hLx.A
        have hll : (kLn c i).length ≤ 1000000 := by obtain ⟨_, cap, _, _, _, h1, h2, _⟩ := hLx; omega
        by_cases hb2 : btw l 0 (nI (kLn c i).length - 1) = true
        · rw [if_pos hb2]
          obtain ⟨j, hj, rfl⟩ := btw_idx' hll hb2
          rw [nI_clamp (by omega)]
          obtain ⟨q, hq⟩ : ∃ q, xs[j]? = some q := ⟨_, List.getElem?_eq_getElem (by omega)⟩
          obtain ⟨z, hz⟩ : ∃ z, (kLn c i)[j]? = some z := ⟨_, List.getElem?_eq_getElem hj⟩
          have hqz := (hln j q z hq hz).1
          rw [show lnAt c i j = z from by unfold lnAt; rw [hz]; rfl]
          refine zr_aload_n dX1_lineX_0 rfl rfl ?_
          refine zr_iload_n dX1_lineX_1 rfl rfl ?_
          refine zr_iload_n dX1_lineX_2 rfl rfl ?_
          refine zr_call1 (rest := []) (zs_V (As := [.int (nI i), .int (nI j)]) (by omega) ok_X1_lineAt q1875 q1877 qs31 q53 q1878 rfl hS.one rfl rfl rfl (Nat.le_of_ble_eq_true rfl) dX1_lineX_3) (c_lineAt1 (by omega) hG hw hS hi hl ht hLx hlx hb2 hq hqz) ?_
          refine zr_call1 (rest := []) (zs_V (As := []) (by omega) ok_X11_x q1891 q1477 q1478 q96 q1479 rfl (.new hqz) rfl rfl rfl (Nat.le_of_ble_eq_true rfl) dX1_lineX_6) (c_X11_x (.new hqz)) ?_
          exact zr_iret rfl rfl dX1_lineX_9 (⟨oR_ok, zX.rf _ hw _⟩)
        · have hb3 : btw l 0 (nI (kLn c i).length - 1) = false := by simpa using hb2
          rw [if_neg hb2]
          obtain ⟨_, σ1, ⟨q, rfl, hX⟩, hC⟩ := c_lineAt5 (d := d - 1) (by omega) hG hw hS hi hl ht hLx hlx hb3
          refine zr_aload_n dX1_lineX_0 rfl rfl ?_
          refine zr_iload_n dX1_lineX_1 rfl rfl ?_
          refine zr_iload_n dX1_lineX_2 rfl rfl ?_
          refine zr_callX (rest := []) (zs_V (As := [.int (nI i), .int l]) (by omega) ok_X1_lineAt q1875 q1877 qs31 q53 q1878 rfl hS.one rfl rfl rfl (Nat.le_of_ble_eq_true rfl) dX1_lineX_3) hC ?_
          exact zx_out (by decide) ⟨oR_x (by decide), hX⟩
      · have ht0 : kText c i = false := by simpa using ht
        rw [pLine, pText_4 hle hi hl ht0]
        obtain ⟨_, σ1, ⟨q, rfl, hX⟩, hC⟩ := c_lineAt4 (d := d - 1) (by omega) hG hw hS hi hl ht0
        refine zr_aload_n dX1_lineX_0 rfl rfl ?_
        refine zr_iload_n dX1_lineX_1 rfl rfl ?_
        refine zr_iload_n dX1_lineX_2 rfl rfl ?_
        refine zr_callX (rest := []) (zs_V (As := [.int (nI i), .int l]) (by omega) ok_X1_lineAt q1875 q1877 qs31 q53 q1878 rfl hS.one rfl rfl rfl (Nat.le_of_ble_eq_true rfl) dX1_lineX_3) hC ?_
        exact zx_out (by decide) ⟨oR_x (by decide), hX⟩
  · have hb0 : btw n 0 (nI (kN c) - 1) = false := by simpa using hb
    rw [pLine, pText_0 hb0]
    obtain ⟨_, σ1, ⟨q, rfl, hX⟩, hC⟩ := c_lineAt0 (d := d - 1) (by omega) hG hw hS hb0
    obtain ⟨fl_hfl, hfl⟩ := hS.bxL.A
    refine zr_aload_n dX1_lineX_0 rfl rfl ?_
    refine zr_iload_n dX1_lineX_1 rfl rfl ?_
    refine zr_iload_n dX1_lineX_2 rfl rfl ?_
    refine zr_callX (rest := []) (zs_V (As := [.int n, .int l]) (by omega) ok_X1_lineAt q1875 q1877 qs31 q53 q1878 rfl hS.one rfl rfl rfl (Nat.le_of_ble_eq_true rfl) dX1_lineX_3) hC ?_
    exact zx_out (by decide) ⟨oR_x (by decide), hX⟩
set_option maxHeartbeats 4000000 in
theorem c_X1_lineY {G : zG} {σ : zT} {d : Nat} {c : zCS} {n l : Int32} (hd : 60 ≤ d) (hG : zOk G) (hw : zGd G σ) (hS : CSys G σ c) : zCall G I_X1_lineY d [.ref (kA c 1), .int n, .int l] σ ((fun o σ' => oR o (pLine c n l (fun i j => (0, .int (lnAt c i j).2.1))) ∧ zX G S0 σ σ' 10)) := by
  refine zCall_of (ls := [(0, .ref (kA c 1)), (1, .int n), (2, .int l)]) (by decide) (Nat.le_of_ble_eq_true rfl) rfl ?_
  have hle := hS.le
  by_cases hb : btw n 0 (nI (kN c) - 1) = true
  · obtain ⟨i, hi, rfl⟩ := btw_idx (by omega) hb
    obtain ⟨fl_hfl, hfl⟩ := hS.bxL.A
    by_cases hl : kLw c = -1
    · rw [pLine, pText_3 hle hi hl]
      obtain ⟨_, σ1, ⟨q, rfl, hX⟩, hC⟩ := c_lineAt3 (d := d - 1) (by omega) hG hw hS hi hl
      refine zr_aload_n dX1_lineY_0 rfl rfl ?_
      refine zr_iload_n dX1_lineY_1 rfl rfl ?_
      refine zr_iload_n dX1_lineY_2 rfl rfl ?_
      refine zr_callX (rest := []) (zs_V (As := [.int (nI i), .int l]) (by omega) ok_X1_lineAt q1875 q1877 qs31 q53 q1878 rfl hS.one rfl rfl rfl (Nat.le_of_ble_eq_true rfl) dX1_lineY_3) hC ?_
      exact zx_out (by decide) ⟨oR_x (by decide), hX⟩
    · by_cases ht : kText c i = true
      · rw [pLine, pText_1 hle hi hl ht]
        obtain ⟨mod, xs, hLx, hlx, hln⟩ := hS.lnL hi
        obtain ⟨fll, hfll⟩ := hLx.A
        have hll : (kLn c i).length ≤ 1000000 := by obtain ⟨_, cap, _, _, _, h1, h2, _⟩ := hLx; omega
        by_cases hb2 : btw l 0 (nI (kLn c i).length - 1) = true
        · rw [if_pos hb2]
          obtain ⟨j, hj, rfl⟩ := btw_idx' hll hb2
          rw [nI_clamp (by omega)]
          obtain ⟨q, hq⟩ : ∃ q, xs[j]? = some q := ⟨_, List.getElem?_eq_getElem (by omega)⟩
          obtain ⟨z, hz⟩ : ∃ z, (kLn c i)[j]? = some z := ⟨_, List.getElem?_eq_getElem hj⟩
          have hqz := (hln j q z hq hz).1
          rw [show lnAt c i j = z from by unfold lnAt; rw [hz]; rfl]
          refine zr_aload_n dX1_lineY_0 rfl rfl ?_
          refine zr_iload_n dX1_lineY_1 rfl rfl ?_
          refine zr_iload_n dX1_lineY_2 rfl rfl ?_
          refine zr_call1 (rest := []) (zs_V (As := [.int (nI i), .int (nI j)]) (by omega) ok_X1_lineAt q1875 q1877 qs31 q53 q1878 rfl hS.one rfl rfl rfl (Nat.le_of_ble_eq_true rfl) dX1_lineY_3) (c_lineAt1 (by omega) hG hw hS hi hl ht hLx hlx hb2 hq hqz) ?_
          refine zr_call1 (rest := []) (zs_V (As := []) (by omega) ok_X11_y q1899 q1481 q1482 q96 q1483 rfl (.new hqz) rfl rfl rfl (Nat.le_of_ble_eq_true rfl) dX1_lineY_6) (c_X11_y (.new hqz)) ?_
          exact zr_iret rfl rfl dX1_lineY_9 (⟨oR_ok, zX.rf _ hw _⟩)
        · have hb3 : btw l 0 (nI (kLn c i).length - 1) = false := by simpa using hb2
          rw [if_neg hb2]
          obtain ⟨_, σ1, ⟨q, rfl, hX⟩, hC⟩ := c_lineAt5 (d := d - 1) (by omega) hG hw hS hi hl ht hLx hlx hb3
          refine zr_aload_n dX1_lineY_0 rfl rfl ?_
          refine zr_iload_n dX1_lineY_1 rfl rfl ?_
          refine zr_iload_n dX1_lineY_2 rfl rfl ?_
          refine zr_callX (rest := []) (zs_V (As := [.int (nI i), .int l]) (by omega) ok_X1_lineAt q1875 q1877 qs31 q53 q1878 rfl hS.one rfl rfl rfl (Nat.le_of_ble_eq_true rfl) dX1_lineY_3) hC ?_
          exact zx_out (by decide) ⟨oR_x (by decide), hX⟩
      · have ht0 : kText c i = false := by simpa using ht
        rw [pLine, pText_4 hle hi hl ht0]
        obtain ⟨_, σ1, ⟨q, rfl, hX⟩, hC⟩ := c_lineAt4 (d := d - 1) (by omega) hG hw hS hi hl ht0
        refine zr_aload_n dX1_lineY_0 rfl rfl ?_
        refine zr_iload_n dX1_lineY_1 rfl rfl ?_
        refine zr_iload_n dX1_lineY_2 rfl rfl ?_
        refine zr_callX (rest := []) (zs_V (As := [.int (nI i), .int l]) (by omega) ok_X1_lineAt q1875 q1877 qs31 q53 q1878 rfl hS.one rfl rfl rfl (Nat.le_of_ble_eq_true rfl) dX1_lineY_3) hC ?_
        exact zx_out (by decide) ⟨oR_x (by decide), hX⟩
  · have hb0 : btw n 0 (nI (kN c) - 1) = false := by simpa using hb
    rw [pLine, pText_0 hb0]
    obtain ⟨_, σ1, ⟨q, rfl, hX⟩, hC⟩ := c_lineAt0 (d := d - 1) (by omega) hG hw hS hb0
    obtain ⟨fl_hfl, hfl⟩ := hS.bxL.A
    refine zr_aload_n dX1_lineY_0 rfl rfl ?_
    refine zr_iload_n dX1_lineY_1 rfl rfl ?_
    refine zr_iload_n dX1_lineY_2 rfl rfl ?_
    refine zr_callX (rest := []) (zs_V (As := [.int n, .int l]) (by omega) ok_X1_lineAt q1875 q1877 qs31 q53 q1878 rfl hS.one rfl rfl rfl (Nat.le_of_ble_eq_true rfl) dX1_lineY_3) hC ?_
    exact zx_out (by decide) ⟨oR_x (by decide), hX⟩
