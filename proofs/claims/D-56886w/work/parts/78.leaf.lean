/-! ===== the component: requireX, ranges, box(number), contexts (rows printed by tools/p78.py) ===== -/
/-- exceptions by numbers: 1 index, 2 argument, 3 state, 4 unsupported, 5 no element, 6 arithmetic -/
def xE : Nat → String
  | 1 => RJ10
  | 2 => RJ19
  | 3 => RJ22
  | 4 => RJ9
  | 5 => RJ27
  | _ => RJ30
def oR (o : zO) (r : Nat × Value) : Prop := (r.1 = 0 → o = .inl (some r.2)) ∧ (r.1 ≠ 0 → ∃ q, o = .inr (xE r.1, q))
theorem oR_ok {v : Value} : oR (.inl (some v)) (0, v) := ⟨fun _ => rfl, fun h => absurd rfl h⟩
theorem oR_x {k q : Nat} {v : Value} (hk : k ≠ 0) : oR (.inr (xE k, q)) (k, v) := ⟨fun h => absurd h hk, fun _ => ⟨q, rfl⟩⟩
theorem btw_idx {n : Int32} {N : Nat} (hN : N ≤ 1000) (h : btw n 0 (nI N - 1) = true) : ∃ i, i < N ∧ n = nI i := by
  unfold btw at h
  obtain ⟨h1, h2⟩ := (Bool.and_eq_true _ _).mp h
  have h1' : (0 : Int32) ≤ n := of_decide_eq_true h1
  have h2' : n ≤ nI N - 1 := of_decide_eq_true h2
  cases N with
  | zero =>
    have h3 := Int32.le_trans h1' h2'
    exact absurd h3 (by decide)
  | succ M =>
    rw [nI_pred] at h2'
    obtain ⟨j, hj, e⟩ := nI_of2 (nI_toInt (by omega)) (Int32.not_lt.mpr h1') h2'
    exact ⟨j, by omega, e⟩
theorem btw_nI {i N : Nat} (hN : N ≤ 1000) (h : i < N) : btw (nI i) 0 (nI N - 1) = true := by
  cases N with
  | zero => omega
  | succ M =>
    rw [nI_pred]
    unfold btw
    rw [decide_eq_true (nI_pos' (by omega)), decide_eq_true (nI_le (by omega) (by omega))]
    rfl
theorem nar_z (b : Bool) : narrow .boolean (.int (bI b)) = .int (bI b) := by cases b <;> rfl
set_option maxHeartbeats 4000000 in
theorem c_requireIndex1 {G : zG} {σ : zT} {d : Nat} : zC G I_X1_requireIndex d [.int 1] σ (.inl none) σ := by
  refine zCall.exact (zCall_of (ls := [(0, .int 1)]) (by decide) (Nat.le_of_ble_eq_true rfl) rfl ?_)
  refine zr_iload_n dX1_requireIndex_0 rfl rfl ?_
  refine zr_if_ne (tgt := 12) dX1_requireIndex_1 (by decide) (fun _ => ?_) (fun h9 => absurd h9 (by decide))
  exact zr_vret rfl dX1_requireIndex_12 (⟨rfl, rfl⟩)
set_option maxHeartbeats 4000000 in
theorem c_requireIndex0 {G : zG} {σ : zT} {d : Nat} (hd : 12 ≤ d) (hG : zOk G) (hw : zGd G σ) : zCall G I_X1_requireIndex d [.int 0] σ (fun o σ' => ∃ q, o = .inr (xE 1, q) ∧ zX G S0 σ σ' 10) := by
  refine zCall_of (ls := [(0, .int 0)]) (by decide) (Nat.le_of_ble_eq_true rfl) rfl ?_
  refine zr_iload_n dX1_requireIndex_0 rfl rfl ?_
  refine zr_if_ne (tgt := 12) dX1_requireIndex_1 (by decide) (fun h9 => absurd (rfl) h9) (fun _ => ?_)
  refine zr_make0 (E := RJ10) (names := ["java/lang/RuntimeException", "java/lang/Exception"]) (ci := 24) 0 (by omega) hG.1 (by decide +kernel) (List.all_eq_true.mp (by decide +kernel)) (by decide) q1639 q67 zat_J10 (List.all_eq_true.mp (by decide +kernel)) dX1_requireIndex_4 dX1_requireIndex_7 dX1_requireIndex_8 rfl (Nat.le_of_ble_eq_true rfl) ?_
  refine zr_athrow (.new (sF_newS _ _ _ _)) rfl dX1_requireIndex_11 ?_
  exact zx_out (by decide) ⟨_, rfl, zX.new S0 hw 0 (by omega) _ _⟩
theorem c_requireIndexB {G : zG} {σ : zT} {d : Nat} (b : Bool) (hd : 12 ≤ d) (hG : zOk G) (hw : zGd G σ) : zCall G I_X1_requireIndex d [.int (bI b)] σ (fun o σ' => if b = true then o = .inl none ∧ σ' = σ else ∃ q, o = .inr (xE 1, q) ∧ zX G S0 σ σ' 10) := by
  cases b with
  | true => exact ⟨_, σ, ⟨rfl, rfl⟩, c_requireIndex1⟩
  | false => exact c_requireIndex0 hd hG hw
set_option maxHeartbeats 4000000 in
theorem c_requireArgument1 {G : zG} {σ : zT} {d : Nat} : zC G I_X1_requireArgument d [.int 1] σ (.inl none) σ := by
  refine zCall.exact (zCall_of (ls := [(0, .int 1)]) (by decide) (Nat.le_of_ble_eq_true rfl) rfl ?_)
  refine zr_iload_n dX1_requireArgument_0 rfl rfl ?_
  refine zr_if_ne (tgt := 12) dX1_requireArgument_1 (by decide) (fun _ => ?_) (fun h9 => absurd h9 (by decide))
  exact zr_vret rfl dX1_requireArgument_12 (⟨rfl, rfl⟩)
set_option maxHeartbeats 4000000 in
theorem c_requireArgument0 {G : zG} {σ : zT} {d : Nat} (hd : 12 ≤ d) (hG : zOk G) (hw : zGd G σ) : zCall G I_X1_requireArgument d [.int 0] σ (fun o σ' => ∃ q, o = .inr (xE 2, q) ∧ zX G S0 σ σ' 10) := by
  refine zCall_of (ls := [(0, .int 0)]) (by decide) (Nat.le_of_ble_eq_true rfl) rfl ?_
  refine zr_iload_n dX1_requireArgument_0 rfl rfl ?_
  refine zr_if_ne (tgt := 12) dX1_requireArgument_1 (by decide) (fun h9 => absurd (rfl) h9) (fun _ => ?_)
  refine zr_make0 (E := RJ19) (names := ["java/lang/RuntimeException", "java/lang/Exception"]) (ci := 25) 0 (by omega) hG.1 (by decide +kernel) (List.all_eq_true.mp (by decide +kernel)) (by decide) q1647 q76 zat_J19 (List.all_eq_true.mp (by decide +kernel)) dX1_requireArgument_4 dX1_requireArgument_7 dX1_requireArgument_8 rfl (Nat.le_of_ble_eq_true rfl) ?_
  refine zr_athrow (.new (sF_newS _ _ _ _)) rfl dX1_requireArgument_11 ?_
  exact zx_out (by decide) ⟨_, rfl, zX.new S0 hw 0 (by omega) _ _⟩
theorem c_requireArgumentB {G : zG} {σ : zT} {d : Nat} (b : Bool) (hd : 12 ≤ d) (hG : zOk G) (hw : zGd G σ) : zCall G I_X1_requireArgument d [.int (bI b)] σ (fun o σ' => if b = true then o = .inl none ∧ σ' = σ else ∃ q, o = .inr (xE 2, q) ∧ zX G S0 σ σ' 10) := by
  cases b with
  | true => exact ⟨_, σ, ⟨rfl, rfl⟩, c_requireArgument1⟩
  | false => exact c_requireArgument0 hd hG hw
set_option maxHeartbeats 4000000 in
theorem c_requireState1 {G : zG} {σ : zT} {d : Nat} : zC G I_X1_requireState d [.int 1] σ (.inl none) σ := by
  refine zCall.exact (zCall_of (ls := [(0, .int 1)]) (by decide) (Nat.le_of_ble_eq_true rfl) rfl ?_)
  refine zr_iload_n dX1_requireState_0 rfl rfl ?_
  refine zr_if_ne (tgt := 12) dX1_requireState_1 (by decide) (fun _ => ?_) (fun h9 => absurd h9 (by decide))
  exact zr_vret rfl dX1_requireState_12 (⟨rfl, rfl⟩)
set_option maxHeartbeats 4000000 in
theorem c_requireState0 {G : zG} {σ : zT} {d : Nat} (hd : 12 ≤ d) (hG : zOk G) (hw : zGd G σ) : zCall G I_X1_requireState d [.int 0] σ (fun o σ' => ∃ q, o = .inr (xE 3, q) ∧ zX G S0 σ σ' 10) := by
  refine zCall_of (ls := [(0, .int 0)]) (by decide) (Nat.le_of_ble_eq_true rfl) rfl ?_
  refine zr_iload_n dX1_requireState_0 rfl rfl ?_
  refine zr_if_ne (tgt := 12) dX1_requireState_1 (by decide) (fun h9 => absurd (rfl) h9) (fun _ => ?_)
  refine zr_make0 (E := RJ22) (names := ["java/lang/RuntimeException", "java/lang/Exception"]) (ci := 26) 0 (by omega) hG.1 (by decide +kernel) (List.all_eq_true.mp (by decide +kernel)) (by decide) q1655 q81 zat_J22 (List.all_eq_true.mp (by decide +kernel)) dX1_requireState_4 dX1_requireState_7 dX1_requireState_8 rfl (Nat.le_of_ble_eq_true rfl) ?_
  refine zr_athrow (.new (sF_newS _ _ _ _)) rfl dX1_requireState_11 ?_
  exact zx_out (by decide) ⟨_, rfl, zX.new S0 hw 0 (by omega) _ _⟩
theorem c_requireStateB {G : zG} {σ : zT} {d : Nat} (b : Bool) (hd : 12 ≤ d) (hG : zOk G) (hw : zGd G σ) : zCall G I_X1_requireState d [.int (bI b)] σ (fun o σ' => if b = true then o = .inl none ∧ σ' = σ else ∃ q, o = .inr (xE 3, q) ∧ zX G S0 σ σ' 10) := by
  cases b with
  | true => exact ⟨_, σ, ⟨rfl, rfl⟩, c_requireState1⟩
  | false => exact c_requireState0 hd hG hw
set_option maxHeartbeats 4000000 in
theorem c_requireAllowed1 {G : zG} {σ : zT} {d : Nat} : zC G I_X1_requireAllowed d [.int 1] σ (.inl none) σ := by
  refine zCall.exact (zCall_of (ls := [(0, .int 1)]) (by decide) (Nat.le_of_ble_eq_true rfl) rfl ?_)
  refine zr_iload_n dX1_requireAllowed_0 rfl rfl ?_
  refine zr_if_ne (tgt := 12) dX1_requireAllowed_1 (by decide) (fun _ => ?_) (fun h9 => absurd h9 (by decide))
  exact zr_vret rfl dX1_requireAllowed_12 (⟨rfl, rfl⟩)
set_option maxHeartbeats 4000000 in
theorem c_requireAllowed0 {G : zG} {σ : zT} {d : Nat} (hd : 12 ≤ d) (hG : zOk G) (hw : zGd G σ) : zCall G I_X1_requireAllowed d [.int 0] σ (fun o σ' => ∃ q, o = .inr (xE 4, q) ∧ zX G S0 σ σ' 10) := by
  refine zCall_of (ls := [(0, .int 0)]) (by decide) (Nat.le_of_ble_eq_true rfl) rfl ?_
  refine zr_iload_n dX1_requireAllowed_0 rfl rfl ?_
  refine zr_if_ne (tgt := 12) dX1_requireAllowed_1 (by decide) (fun h9 => absurd (rfl) h9) (fun _ => ?_)
  refine zr_make0 (E := RJ9) (names := ["java/lang/RuntimeException", "java/lang/Exception"]) (ci := 27) 0 (by omega) hG.1 (by decide +kernel) (List.all_eq_true.mp (by decide +kernel)) (by decide) q1673 q66 zat_J9 (List.all_eq_true.mp (by decide +kernel)) dX1_requireAllowed_4 dX1_requireAllowed_7 dX1_requireAllowed_8 rfl (Nat.le_of_ble_eq_true rfl) ?_
  refine zr_athrow (.new (sF_newS _ _ _ _)) rfl dX1_requireAllowed_11 ?_
  exact zx_out (by decide) ⟨_, rfl, zX.new S0 hw 0 (by omega) _ _⟩
theorem c_requireAllowedB {G : zG} {σ : zT} {d : Nat} (b : Bool) (hd : 12 ≤ d) (hG : zOk G) (hw : zGd G σ) : zCall G I_X1_requireAllowed d [.int (bI b)] σ (fun o σ' => if b = true then o = .inl none ∧ σ' = σ else ∃ q, o = .inr (xE 4, q) ∧ zX G S0 σ σ' 10) := by
  cases b with
  | true => exact ⟨_, σ, ⟨rfl, rfl⟩, c_requireAllowed1⟩
  | false => exact c_requireAllowed0 hd hG hw
set_option maxHeartbeats 4000000 in
theorem c_requireElement1 {G : zG} {σ : zT} {d : Nat} : zC G I_X1_requireElement d [.int 1] σ (.inl none) σ := by
  refine zCall.exact (zCall_of (ls := [(0, .int 1)]) (by decide) (Nat.le_of_ble_eq_true rfl) rfl ?_)
  refine zr_iload_n dX1_requireElement_0 rfl rfl ?_
  refine zr_if_ne (tgt := 12) dX1_requireElement_1 (by decide) (fun _ => ?_) (fun h9 => absurd h9 (by decide))
  exact zr_vret rfl dX1_requireElement_12 (⟨rfl, rfl⟩)
set_option maxHeartbeats 4000000 in
theorem c_requireElement0 {G : zG} {σ : zT} {d : Nat} (hd : 12 ≤ d) (hG : zOk G) (hw : zGd G σ) : zCall G I_X1_requireElement d [.int 0] σ (fun o σ' => ∃ q, o = .inr (xE 5, q) ∧ zX G S0 σ σ' 10) := by
  refine zCall_of (ls := [(0, .int 0)]) (by decide) (Nat.le_of_ble_eq_true rfl) rfl ?_
  refine zr_iload_n dX1_requireElement_0 rfl rfl ?_
  refine zr_if_ne (tgt := 12) dX1_requireElement_1 (by decide) (fun h9 => absurd (rfl) h9) (fun _ => ?_)
  refine zr_make0 (E := RJ27) (names := ["java/lang/RuntimeException", "java/lang/Exception"]) (ci := 28) 0 (by omega) hG.1 (by decide +kernel) (List.all_eq_true.mp (by decide +kernel)) (by decide) q1882 q89 zat_J27 (List.all_eq_true.mp (by decide +kernel)) dX1_requireElement_4 dX1_requireElement_7 dX1_requireElement_8 rfl (Nat.le_of_ble_eq_true rfl) ?_
  refine zr_athrow (.new (sF_newS _ _ _ _)) rfl dX1_requireElement_11 ?_
  exact zx_out (by decide) ⟨_, rfl, zX.new S0 hw 0 (by omega) _ _⟩
theorem c_requireElementB {G : zG} {σ : zT} {d : Nat} (b : Bool) (hd : 12 ≤ d) (hG : zOk G) (hw : zGd G σ) : zCall G I_X1_requireElement d [.int (bI b)] σ (fun o σ' => if b = true then o = .inl none ∧ σ' = σ else ∃ q, o = .inr (xE 5, q) ∧ zX G S0 σ σ' 10) := by
  cases b with
  | true => exact ⟨_, σ, ⟨rfl, rfl⟩, c_requireElement1⟩
  | false => exact c_requireElement0 hd hG hw
set_option maxHeartbeats 4000000 in
theorem c_X1_isBetween {G : zG} {σ : zT} {d : Nat} {v lo hi : Int32} : zC G I_X1_isBetween d [.int v, .int lo, .int hi] σ (.inl (some (.int (bI (btw v lo hi))))) σ := by
  refine zCall.exact (zCall_of (ls := [(0, .int v), (1, .int lo), (2, .int hi)]) (by decide) (Nat.le_of_ble_eq_true rfl) rfl ?_)
  refine zr_iload_n dX1_isBetween_0 rfl rfl ?_
  refine zr_iload_n dX1_isBetween_1 rfl rfl ?_
  refine zr_icmp_lt (tgt := 14) dX1_isBetween_2 (by decide) (fun h1 => ?_) (fun h1 => ?_)
  · refine zr_iconst (v := 0) dX1_isBetween_14 (by decide) ?_
    exact zr_iret rfl rfl dX1_isBetween_15 (⟨by rw [show btw v lo hi = false from by unfold btw; rw [decide_eq_false (Int32.not_le.mpr h1)]; rfl]; rfl, rfl⟩)
  · refine zr_iload_n dX1_isBetween_5 rfl rfl ?_
    refine zr_iload_n dX1_isBetween_6 rfl rfl ?_
    refine zr_icmp_gt (tgt := 14) dX1_isBetween_7 (by decide) (fun h2 => ?_) (fun h2 => ?_)
    · refine zr_iconst (v := 0) dX1_isBetween_14 (by decide) ?_
      exact zr_iret rfl rfl dX1_isBetween_15 (⟨by rw [show btw v lo hi = false from by unfold btw; rw [decide_eq_false (Int32.not_le.mpr h2), Bool.and_false]]; rfl, rfl⟩)
    · refine zr_iconst (v := 1) dX1_isBetween_10 (by decide) ?_
      refine zr_goto (tgt := 15) dX1_isBetween_11 (by decide) ?_
      exact zr_iret rfl rfl dX1_isBetween_15 (⟨by rw [show btw v lo hi = true from by unfold btw; rw [decide_eq_true (Int32.not_lt.mp h1), decide_eq_true (Int32.not_lt.mp h2)]; rfl]; rfl, rfl⟩)
set_option maxHeartbeats 4000000 in
theorem c_X1_isMargin {G : zG} {σ : zT} {d : Nat} {v lo : Int32} (hd : 1 ≤ d) : zC G I_X1_isMargin d [.int v, .int lo] σ (.inl (some (.int (bI (btw v lo 40))))) σ := by
  refine zCall.exact (zCall_of (ls := [(0, .int v), (1, .int lo)]) (by decide) (Nat.le_of_ble_eq_true rfl) rfl ?_)
  refine zr_iload_n dX1_isMargin_0 rfl rfl ?_
  refine zr_iload_n dX1_isMargin_1 rfl rfl ?_
  refine zr_bipush (v := 40) dX1_isMargin_2 (by decide) ?_
  refine zr_call1 (rest := []) (zs_S (As := [.int v, .int lo, .int 40]) (by omega) ok_X1_isBetween q1633 q1634 q53 q1635 rfl rfl (Nat.le_of_ble_eq_true rfl) dX1_isMargin_4) c_X1_isBetween ?_
  exact zr_iret rfl (nar_z _) dX1_isMargin_7 (⟨rfl, rfl⟩)
set_option maxHeartbeats 4000000 in
theorem c_X1_isOffset {G : zG} {σ : zT} {d : Nat} {v : Int32} (hd : 1 ≤ d) : zC G I_X1_isOffset d [.int v] σ (.inl (some (.int (bI (btw v (-100) 100))))) σ := by
  refine zCall.exact (zCall_of (ls := [(0, .int v)]) (by decide) (Nat.le_of_ble_eq_true rfl) rfl ?_)
  refine zr_iload_n dX1_isOffset_0 rfl rfl ?_
  refine zr_bipush (v := (-100)) dX1_isOffset_1 (by decide) ?_
  refine zr_bipush (v := 100) dX1_isOffset_3 (by decide) ?_
  refine zr_call1 (rest := []) (zs_S (As := [.int v, .int (-100), .int 100]) (by omega) ok_X1_isBetween q1633 q1634 q53 q1635 rfl rfl (Nat.le_of_ble_eq_true rfl) dX1_isOffset_5) c_X1_isBetween ?_
  exact zr_iret rfl (nar_z _) dX1_isOffset_8 (⟨rfl, rfl⟩)
def isIn (v f m : Int32) : Bool := decide (f ≤ v) && decide (v < f + m)
set_option maxHeartbeats 4000000 in
theorem c_X1_isIn {G : zG} {σ : zT} {d : Nat} {v f m : Int32} : zC G I_X1_isIn d [.int v, .int f, .int m] σ (.inl (some (.int (bI (isIn v f m))))) σ := by
  refine zCall.exact (zCall_of (ls := [(0, .int v), (1, .int f), (2, .int m)]) (by decide) (Nat.le_of_ble_eq_true rfl) rfl ?_)
  refine zr_iload_n dX1_isIn_0 rfl rfl ?_
  refine zr_iload_n dX1_isIn_1 rfl rfl ?_
  refine zr_icmp_lt (tgt := 16) dX1_isIn_2 (by decide) (fun h1 => ?_) (fun h1 => ?_)
  · refine zr_iconst (v := 0) dX1_isIn_16 (by decide) ?_
    exact zr_iret rfl rfl dX1_isIn_17 (⟨by rw [show isIn v f m = false from by unfold isIn; rw [decide_eq_false (Int32.not_le.mpr h1)]; rfl]; rfl, rfl⟩)
  · refine zr_iload_n dX1_isIn_5 rfl rfl ?_
    refine zr_iload_n dX1_isIn_6 rfl rfl ?_
    refine zr_iload_n dX1_isIn_7 rfl rfl ?_
    refine zr_iadd dX1_isIn_8 ?_
    refine zr_icmp_ge (tgt := 16) dX1_isIn_9 (by decide) (fun h2 => ?_) (fun h2 => ?_)
    · refine zr_iconst (v := 0) dX1_isIn_16 (by decide) ?_
      exact zr_iret rfl rfl dX1_isIn_17 (⟨by rw [show isIn v f m = false from by unfold isIn; rw [decide_eq_false (Int32.not_lt.mpr h2), Bool.and_false]]; rfl, rfl⟩)
    · refine zr_iconst (v := 1) dX1_isIn_12 (by decide) ?_
      refine zr_goto (tgt := 17) dX1_isIn_13 (by decide) ?_
      exact zr_iret rfl rfl dX1_isIn_17 (⟨by rw [show isIn v f m = true from by unfold isIn; rw [decide_eq_true (Int32.not_lt.mp h1), decide_eq_true (Int32.not_le.mp h2)]; rfl]; rfl, rfl⟩)
theorem CSys.one {G : zG} {σ : zT} {c : zCS} (h : CSys G σ c) : zAt G σ (kA c 1) (.inr (1, [.ref (kA c 2), .int (kLw c), .int (kCt c)])) := .new h.1.1
theorem CSys.bxL {G : zG} {σ : zT} {c : zCS} (h : CSys G σ c) : zL G σ 2 (kA c 2) (kM c 2) ((List.range (kN c)).map (fun j => kA c (rB j))) := h.2.1
theorem CSys.bxl (c : zCS) : ((List.range (kN c)).map (fun j => kA c (rB j))).length = kN c := by rw [List.length_map, List.length_range]
theorem CSys.bxa {c : zCS} {i : Nat} (hi : i < kN c) : ((List.range (kN c)).map (fun j => kA c (rB j)))[i]? = some (kA c (rB i)) := by rw [List.getElem?_map, List.getElem?_range hi]; rfl
set_option maxHeartbeats 4000000 in
theorem c_box1 {G : zG} {σ : zT} {d : Nat} {c : zCS} {i : Nat} (hd : 12 ≤ d) (hG : zOk G) (hw : zGd G σ) (hS : CSys G σ c) (hi : i < kN c) : zC G I_X1_box d [.ref (kA c 1), .int (nI i)] σ (.inl (some (.ref (kA c (rB i))))) σ := by
  refine zCall.exact (zCall_of (ls := [(0, .ref (kA c 1)), (1, .int (nI i))]) (by decide) (Nat.le_of_ble_eq_true rfl) rfl ?_)
  have hle := hS.le
  obtain ⟨fl_hfl, hfl⟩ := hS.bxL.A
  refine zr_iload_n dX1_box_0 rfl rfl ?_
  refine zr_iconst (v := 0) dX1_box_1 (by decide) ?_
  refine zr_aload_n dX1_box_2 rfl rfl ?_
  refine zr_get (k := 0) (v := .ref (kA c 2)) in_X1 hS.one rfl (Nat.le_of_ble_eq_true rfl) q806 (.inl rfl) rfl dX1_box_3 ?_
  refine zr_call51 (rest := [.int 0, .int (nI i)]) (zs_F (As := []) (by omega) okF_J2_size (by decide +kernel) q1178 q162 q164 q56 q166 hfl rfl rfl rfl (Nat.le_of_ble_eq_true rfl) dX1_box_6) (c_size (by omega) hS.bxL (CSys.bxl c)) ?_
  refine zr_iconst (v := 1) dX1_box_11 (by decide) ?_
  refine zr_isub dX1_box_12 ?_
  refine zr_call1 (rest := []) (zs_S (As := [.int (nI i), .int 0, .int ((nI (kN c)) - 1)]) (by omega) ok_X1_isBetween q1633 q1634 q53 q1635 rfl rfl (Nat.le_of_ble_eq_true rfl) dX1_box_13) c_X1_isBetween ?_
  refine zr_eqi (z := 1) (by rw [btw_nI (by omega) hi]; rfl) ?_
  refine zr_callv (rest := []) (zs_S (As := [.int 1]) (by omega) ok_X1_requireIndex q1636 q1637 q53 q1638 rfl rfl (Nat.le_of_ble_eq_true rfl) dX1_box_16) c_requireIndex1 ?_
  refine zr_aload_n dX1_box_19 rfl rfl ?_
  refine zr_get (k := 0) (v := .ref (kA c 2)) in_X1 hS.one rfl (Nat.le_of_ble_eq_true rfl) q806 (.inl rfl) rfl dX1_box_20 ?_
  refine zr_iload_n dX1_box_23 rfl rfl ?_
  refine zr_call51 (rest := []) (zs_F (As := [.int (nI i)]) (by omega) okF_J2_get (by decide +kernel) q1180 q1106 q959 q56 q960 hfl rfl rfl rfl (Nat.le_of_ble_eq_true rfl) dX1_box_24) (c_J2_get (by omega) hG hS.bxL (CSys.bxa hi)) ?_
  refine zr_castS (hS.bx hi) rfl q151 dX1_box_29 ?_
  exact zr_aret rfl (.inl ⟨_, rfl⟩) (.inr ⟨_, rfl⟩) dX1_box_32 (⟨rfl, rfl⟩)
set_option maxHeartbeats 4000000 in
theorem c_box0 {G : zG} {σ : zT} {d : Nat} {c : zCS} {n : Int32} (hd : 13 ≤ d) (hG : zOk G) (hw : zGd G σ) (hS : CSys G σ c) (hn : btw n 0 (nI (kN c) - 1) = false) : zCall G I_X1_box d [.ref (kA c 1), .int n] σ (fun o σ' => ∃ q, o = .inr (xE 1, q) ∧ zX G S0 σ σ' 10) := by
  refine zCall_of (ls := [(0, .ref (kA c 1)), (1, .int n)]) (by decide) (Nat.le_of_ble_eq_true rfl) rfl ?_
  obtain ⟨fl_hfl, hfl⟩ := hS.bxL.A
  refine zr_iload_n dX1_box_0 rfl rfl ?_
  refine zr_iconst (v := 0) dX1_box_1 (by decide) ?_
  refine zr_aload_n dX1_box_2 rfl rfl ?_
  refine zr_get (k := 0) (v := .ref (kA c 2)) in_X1 hS.one rfl (Nat.le_of_ble_eq_true rfl) q806 (.inl rfl) rfl dX1_box_3 ?_
  refine zr_call51 (rest := [.int 0, .int n]) (zs_F (As := []) (by omega) okF_J2_size (by decide +kernel) q1178 q162 q164 q56 q166 hfl rfl rfl rfl (Nat.le_of_ble_eq_true rfl) dX1_box_6) (c_size (by omega) hS.bxL (CSys.bxl c)) ?_
  refine zr_iconst (v := 1) dX1_box_11 (by decide) ?_
  refine zr_isub dX1_box_12 ?_
  refine zr_call1 (rest := []) (zs_S (As := [.int n, .int 0, .int ((nI (kN c)) - 1)]) (by omega) ok_X1_isBetween q1633 q1634 q53 q1635 rfl rfl (Nat.le_of_ble_eq_true rfl) dX1_box_13) c_X1_isBetween ?_
  refine zr_eqi (z := 0) (by rw [hn]; rfl) ?_
  obtain ⟨_, σ1, ⟨q, rfl, hX⟩, hC⟩ := c_requireIndex0 (d := d - 1) (by omega) hG hw
  refine zr_callX (rest := []) (zs_S (As := [.int 0]) (by omega) ok_X1_requireIndex q1636 q1637 q53 q1638 rfl rfl (Nat.le_of_ble_eq_true rfl) dX1_box_16) hC ?_
  exact zx_out (by decide) ⟨q, rfl, hX⟩
set_option maxHeartbeats 4000000 in
theorem c_X1_contexts {G : zG} {σ : zT} {d : Nat} {c : zCS} (hS : CSys G σ c) : zC G I_X1_contexts d [.ref (kA c 1)] σ (.inl (some (.int (kCt c)))) σ := by
  refine zCall.exact (zCall_of (ls := [(0, .ref (kA c 1))]) (by decide) (Nat.le_of_ble_eq_true rfl) rfl ?_)
  obtain ⟨fl_hfl, hfl⟩ := hS.bxL.A
  refine zr_aload_n dX1_contexts_0 rfl rfl ?_
  refine zr_get (k := 2) (v := .int (kCt c)) in_X1 hS.one rfl (Nat.le_of_ble_eq_true rfl) q812 (.inl rfl) rfl dX1_contexts_1 ?_
  exact zr_iret rfl rfl dX1_contexts_4 (⟨rfl, rfl⟩)
