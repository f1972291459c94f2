/-! ===== the reference: pushes, lines, points (rows printed by tools/p104.py) ===== -/
set_option maxHeartbeats 4000000 in
theorem c_X13_init {G : zG} {σ : zT} {d : Nat} {x : Nat} {v0 v1 v2 v3 v4 : Int32} (hc0 : v0 = 110 ∨ v0 = 108 ∨ v0 = 114) (hd : 3 ≤ d) (hx : sF σ x = some (.inr (13, d0_X13))) : zC G I_X13_init d [.ref x, .int v0, .int v1, .int v2, .int v3, .int v4] σ (.inl none) (sUp σ x (.inr (13, [.int v0, .int v1, .int v2, .int v3, .int v4]))) := by
  refine zCall.exact (zCall_of (ls := [(0, .ref x), (1, .int v0), (2, .int v1), (3, .int v2), (4, .int v3), (5, .int v4)]) (by decide) (Nat.le_of_ble_eq_true rfl) rfl ?_)
  refine zr_aload_n dX13_init_0 rfl rfl ?_
  refine zr_callv (rest := []) (zs_I (As := []) (by omega) ok_J29_init q2434 q1427 q93 q1428 rfl rfl rfl (Nat.le_of_ble_eq_true rfl) dX13_init_1) (c_J29_init (by omega)) ?_
  refine zr_aload_n dX13_init_4 rfl rfl ?_
  refine zr_iload_n dX13_init_5 rfl rfl ?_
  refine zr_putF rfl rfl (k := 0) (fs' := [.int v0, .int 0, .int 0, .int 0, .int 0]) zt_X13 hx rfl (Nat.le_of_ble_eq_true rfl) q2435 (.inl rfl) rfl (nar_sd hc0) (fit_sd hc0) (Nat.le_of_ble_eq_true rfl) rfl dX13_init_6 ?_
  show zR _ _ _ _ _ _ _ _ _ _ _ _
  refine zr_aload_n dX13_init_9 rfl rfl ?_
  refine zr_iload_n dX13_init_10 rfl rfl ?_
  refine zr_putF rfl rfl (k := 1) (fs' := [.int v0, .int v1, .int 0, .int 0, .int 0]) zt_X13 (sF_upS _ _ _) rfl (Nat.le_of_ble_eq_true rfl) q2436 (.inl rfl) rfl rfl rfl (Nat.le_of_ble_eq_true rfl) rfl dX13_init_11 ?_
  rw [sUp_sUp]
  refine zr_aload_n dX13_init_14 rfl rfl ?_
  refine zr_iload_n dX13_init_15 rfl rfl ?_
  refine zr_putF rfl rfl (k := 2) (fs' := [.int v0, .int v1, .int v2, .int 0, .int 0]) zt_X13 (sF_upS _ _ _) rfl (Nat.le_of_ble_eq_true rfl) q2437 (.inl rfl) rfl rfl rfl (Nat.le_of_ble_eq_true rfl) rfl dX13_init_16 ?_
  rw [sUp_sUp]
  refine zr_aload_n dX13_init_19 rfl rfl ?_
  refine zr_iload dX13_init_20 rfl ?_
  refine zr_putF rfl rfl (k := 3) (fs' := [.int v0, .int v1, .int v2, .int v3, .int 0]) zt_X13 (sF_upS _ _ _) rfl (Nat.le_of_ble_eq_true rfl) q2438 (.inl rfl) rfl rfl rfl (Nat.le_of_ble_eq_true rfl) rfl dX13_init_22 ?_
  rw [sUp_sUp]
  refine zr_aload_n dX13_init_25 rfl rfl ?_
  refine zr_iload dX13_init_26 rfl ?_
  refine zr_putF rfl rfl (k := 4) (fs' := [.int v0, .int v1, .int v2, .int v3, .int v4]) zt_X13 (sF_upS _ _ _) rfl (Nat.le_of_ble_eq_true rfl) q2439 (.inl rfl) rfl rfl rfl (Nat.le_of_ble_eq_true rfl) rfl dX13_init_28 ?_
  rw [sUp_sUp]
  exact zr_vret rfl dX13_init_31 (⟨rfl, rfl⟩)
set_option maxHeartbeats 4000000 in
theorem c_X13_side {G : zG} {σ : zT} {d : Nat} {x : Nat} {v0 v1 v2 v3 v4 : Int32} (hc : v0 = 110 ∨ v0 = 108 ∨ v0 = 114) (hx : zAt G σ x (.inr (13, [.int v0, .int v1, .int v2, .int v3, .int v4]))) : zC G I_X13_side d [.ref x] σ (.inl (some (.int v0))) σ := by
  refine zCall.exact (zCall_of (ls := [(0, .ref x)]) (by decide) (Nat.le_of_ble_eq_true rfl) rfl ?_)
  refine zr_aload_n dX13_side_0 rfl rfl ?_
  refine zr_get (k := 0) (v := .int v0) in_X13 hx rfl (Nat.le_of_ble_eq_true rfl) q2435 (.inl rfl) rfl dX13_side_1 ?_
  exact zr_iret rfl (nar_sd hc) dX13_side_4 (⟨rfl, rfl⟩)
set_option maxHeartbeats 4000000 in
theorem c_X13_left {G : zG} {σ : zT} {d : Nat} {x : Nat} {v0 v1 v2 v3 v4 : Int32} (hx : zAt G σ x (.inr (13, [.int v0, .int v1, .int v2, .int v3, .int v4]))) : zC G I_X13_left d [.ref x] σ (.inl (some (.int v1))) σ := by
  refine zCall.exact (zCall_of (ls := [(0, .ref x)]) (by decide) (Nat.le_of_ble_eq_true rfl) rfl ?_)
  refine zr_aload_n dX13_left_0 rfl rfl ?_
  refine zr_get (k := 1) (v := .int v1) in_X13 hx rfl (Nat.le_of_ble_eq_true rfl) q2436 (.inl rfl) rfl dX13_left_1 ?_
  exact zr_iret rfl rfl dX13_left_4 (⟨rfl, rfl⟩)
set_option maxHeartbeats 4000000 in
theorem c_X13_right {G : zG} {σ : zT} {d : Nat} {x : Nat} {v0 v1 v2 v3 v4 : Int32} (hx : zAt G σ x (.inr (13, [.int v0, .int v1, .int v2, .int v3, .int v4]))) : zC G I_X13_right d [.ref x] σ (.inl (some (.int v2))) σ := by
  refine zCall.exact (zCall_of (ls := [(0, .ref x)]) (by decide) (Nat.le_of_ble_eq_true rfl) rfl ?_)
  refine zr_aload_n dX13_right_0 rfl rfl ?_
  refine zr_get (k := 2) (v := .int v2) in_X13 hx rfl (Nat.le_of_ble_eq_true rfl) q2437 (.inl rfl) rfl dX13_right_1 ?_
  exact zr_iret rfl rfl dX13_right_4 (⟨rfl, rfl⟩)
set_option maxHeartbeats 4000000 in
theorem c_X13_top {G : zG} {σ : zT} {d : Nat} {x : Nat} {v0 v1 v2 v3 v4 : Int32} (hx : zAt G σ x (.inr (13, [.int v0, .int v1, .int v2, .int v3, .int v4]))) : zC G I_X13_top d [.ref x] σ (.inl (some (.int v3))) σ := by
  refine zCall.exact (zCall_of (ls := [(0, .ref x)]) (by decide) (Nat.le_of_ble_eq_true rfl) rfl ?_)
  refine zr_aload_n dX13_top_0 rfl rfl ?_
  refine zr_get (k := 3) (v := .int v3) in_X13 hx rfl (Nat.le_of_ble_eq_true rfl) q2438 (.inl rfl) rfl dX13_top_1 ?_
  exact zr_iret rfl rfl dX13_top_4 (⟨rfl, rfl⟩)
set_option maxHeartbeats 4000000 in
theorem c_X13_bottom {G : zG} {σ : zT} {d : Nat} {x : Nat} {v0 v1 v2 v3 v4 : Int32} (hx : zAt G σ x (.inr (13, [.int v0, .int v1, .int v2, .int v3, .int v4]))) : zC G I_X13_bottom d [.ref x] σ (.inl (some (.int v4))) σ := by
  refine zCall.exact (zCall_of (ls := [(0, .ref x)]) (by decide) (Nat.le_of_ble_eq_true rfl) rfl ?_)
  refine zr_aload_n dX13_bottom_0 rfl rfl ?_
  refine zr_get (k := 4) (v := .int v4) in_X13 hx rfl (Nat.le_of_ble_eq_true rfl) q2439 (.inl rfl) rfl dX13_bottom_1 ?_
  exact zr_iret rfl rfl dX13_bottom_4 (⟨rfl, rfl⟩)
set_option maxHeartbeats 4000000 in
theorem c_X14_init {G : zG} {σ : zT} {d : Nat} {x : Nat} {v0 v1 v2 : Int32} (hd : 3 ≤ d) (hx : sF σ x = some (.inr (14, d0_X14))) : zC G I_X14_init d [.ref x, .int v0, .int v1, .int v2] σ (.inl none) (sUp σ x (.inr (14, [.int v0, .int v1, .int v2]))) := by
  refine zCall.exact (zCall_of (ls := [(0, .ref x), (1, .int v0), (2, .int v1), (3, .int v2)]) (by decide) (Nat.le_of_ble_eq_true rfl) rfl ?_)
  refine zr_aload_n dX14_init_0 rfl rfl ?_
  refine zr_callv (rest := []) (zs_I (As := []) (by omega) ok_J29_init q2486 q1427 q93 q1428 rfl rfl rfl (Nat.le_of_ble_eq_true rfl) dX14_init_1) (c_J29_init (by omega)) ?_
  refine zr_aload_n dX14_init_4 rfl rfl ?_
  refine zr_iload_n dX14_init_5 rfl rfl ?_
  refine zr_putF rfl rfl (k := 0) (fs' := [.int v0, .int 0, .int 0]) zt_X14 hx rfl (Nat.le_of_ble_eq_true rfl) q2487 (.inl rfl) rfl rfl rfl (Nat.le_of_ble_eq_true rfl) rfl dX14_init_6 ?_
  show zR _ _ _ _ _ _ _ _ _ _ _ _
  refine zr_aload_n dX14_init_9 rfl rfl ?_
  refine zr_iload_n dX14_init_10 rfl rfl ?_
  refine zr_putF rfl rfl (k := 1) (fs' := [.int v0, .int v1, .int 0]) zt_X14 (sF_upS _ _ _) rfl (Nat.le_of_ble_eq_true rfl) q2488 (.inl rfl) rfl rfl rfl (Nat.le_of_ble_eq_true rfl) rfl dX14_init_11 ?_
  rw [sUp_sUp]
  refine zr_aload_n dX14_init_14 rfl rfl ?_
  refine zr_iload_n dX14_init_15 rfl rfl ?_
  refine zr_putF rfl rfl (k := 2) (fs' := [.int v0, .int v1, .int v2]) zt_X14 (sF_upS _ _ _) rfl (Nat.le_of_ble_eq_true rfl) q2489 (.inl rfl) rfl rfl rfl (Nat.le_of_ble_eq_true rfl) rfl dX14_init_16 ?_
  rw [sUp_sUp]
  exact zr_vret rfl dX14_init_19 (⟨rfl, rfl⟩)
set_option maxHeartbeats 4000000 in
theorem c_X14_words {G : zG} {σ : zT} {d : Nat} {x : Nat} {v0 v1 v2 : Int32} (hx : zAt G σ x (.inr (14, [.int v0, .int v1, .int v2]))) : zC G I_X14_words d [.ref x] σ (.inl (some (.int v0))) σ := by
  refine zCall.exact (zCall_of (ls := [(0, .ref x)]) (by decide) (Nat.le_of_ble_eq_true rfl) rfl ?_)
  refine zr_aload_n dX14_words_0 rfl rfl ?_
  refine zr_get (k := 0) (v := .int v0) in_X14 hx rfl (Nat.le_of_ble_eq_true rfl) q2487 (.inl rfl) rfl dX14_words_1 ?_
  exact zr_iret rfl rfl dX14_words_4 (⟨rfl, rfl⟩)
set_option maxHeartbeats 4000000 in
theorem c_X14_x {G : zG} {σ : zT} {d : Nat} {x : Nat} {v0 v1 v2 : Int32} (hx : zAt G σ x (.inr (14, [.int v0, .int v1, .int v2]))) : zC G I_X14_x d [.ref x] σ (.inl (some (.int v1))) σ := by
  refine zCall.exact (zCall_of (ls := [(0, .ref x)]) (by decide) (Nat.le_of_ble_eq_true rfl) rfl ?_)
  refine zr_aload_n dX14_x_0 rfl rfl ?_
  refine zr_get (k := 1) (v := .int v1) in_X14 hx rfl (Nat.le_of_ble_eq_true rfl) q2488 (.inl rfl) rfl dX14_x_1 ?_
  exact zr_iret rfl rfl dX14_x_4 (⟨rfl, rfl⟩)
set_option maxHeartbeats 4000000 in
theorem c_X14_y {G : zG} {σ : zT} {d : Nat} {x : Nat} {v0 v1 v2 : Int32} (hx : zAt G σ x (.inr (14, [.int v0, .int v1, .int v2]))) : zC G I_X14_y d [.ref x] σ (.inl (some (.int v2))) σ := by
  refine zCall.exact (zCall_of (ls := [(0, .ref x)]) (by decide) (Nat.le_of_ble_eq_true rfl) rfl ?_)
  refine zr_aload_n dX14_y_0 rfl rfl ?_
  refine zr_get (k := 2) (v := .int v2) in_X14 hx rfl (Nat.le_of_ble_eq_true rfl) q2489 (.inl rfl) rfl dX14_y_1 ?_
  exact zr_iret rfl rfl dX14_y_4 (⟨rfl, rfl⟩)
set_option maxHeartbeats 4000000 in
theorem c_X15_init {G : zG} {σ : zT} {d : Nat} {x : Nat} {v0 v1 : Int32} (hd : 3 ≤ d) (hx : sF σ x = some (.inr (15, d0_X15))) : zC G I_X15_init d [.ref x, .int v0, .int v1] σ (.inl none) (sUp σ x (.inr (15, [.int v0, .int v1]))) := by
  refine zCall.exact (zCall_of (ls := [(0, .ref x), (1, .int v0), (2, .int v1)]) (by decide) (Nat.le_of_ble_eq_true rfl) rfl ?_)
  refine zr_aload_n dX15_init_0 rfl rfl ?_
  refine zr_callv (rest := []) (zs_I (As := []) (by omega) ok_J29_init q2543 q1427 q93 q1428 rfl rfl rfl (Nat.le_of_ble_eq_true rfl) dX15_init_1) (c_J29_init (by omega)) ?_
  refine zr_aload_n dX15_init_4 rfl rfl ?_
  refine zr_iload_n dX15_init_5 rfl rfl ?_
  refine zr_putF rfl rfl (k := 0) (fs' := [.int v0, .int 0]) zt_X15 hx rfl (Nat.le_of_ble_eq_true rfl) q2544 (.inl rfl) rfl rfl rfl (Nat.le_of_ble_eq_true rfl) rfl dX15_init_6 ?_
  show zR _ _ _ _ _ _ _ _ _ _ _ _
  refine zr_aload_n dX15_init_9 rfl rfl ?_
  refine zr_iload_n dX15_init_10 rfl rfl ?_
  refine zr_putF rfl rfl (k := 1) (fs' := [.int v0, .int v1]) zt_X15 (sF_upS _ _ _) rfl (Nat.le_of_ble_eq_true rfl) q2545 (.inl rfl) rfl rfl rfl (Nat.le_of_ble_eq_true rfl) rfl dX15_init_11 ?_
  rw [sUp_sUp]
  exact zr_vret rfl dX15_init_14 (⟨rfl, rfl⟩)
set_option maxHeartbeats 4000000 in
theorem c_X15_x {G : zG} {σ : zT} {d : Nat} {x : Nat} {v0 v1 : Int32} (hx : zAt G σ x (.inr (15, [.int v0, .int v1]))) : zC G I_X15_x d [.ref x] σ (.inl (some (.int v0))) σ := by
  refine zCall.exact (zCall_of (ls := [(0, .ref x)]) (by decide) (Nat.le_of_ble_eq_true rfl) rfl ?_)
  refine zr_aload_n dX15_x_0 rfl rfl ?_
  refine zr_get (k := 0) (v := .int v0) in_X15 hx rfl (Nat.le_of_ble_eq_true rfl) q2544 (.inl rfl) rfl dX15_x_1 ?_
  exact zr_iret rfl rfl dX15_x_4 (⟨rfl, rfl⟩)
set_option maxHeartbeats 4000000 in
theorem c_X15_y {G : zG} {σ : zT} {d : Nat} {x : Nat} {v0 v1 : Int32} (hx : zAt G σ x (.inr (15, [.int v0, .int v1]))) : zC G I_X15_y d [.ref x] σ (.inl (some (.int v1))) σ := by
  refine zCall.exact (zCall_of (ls := [(0, .ref x)]) (by decide) (Nat.le_of_ble_eq_true rfl) rfl ?_)
  refine zr_aload_n dX15_y_0 rfl rfl ?_
  refine zr_get (k := 1) (v := .int v1) in_X15 hx rfl (Nat.le_of_ble_eq_true rfl) q2545 (.inl rfl) rfl dX15_y_1 ?_
  exact zr_iret rfl rfl dX15_y_4 (⟨rfl, rfl⟩)
theorem zr_ldcw {G : zG} {y : MethodName} {cc : ByteArray} {nL : Nat} {ret : Option FieldType} {hh : List (Nat × Nat × Nat × Nat)} {d pc : Nat} {ls : List (Nat × Value)} {st : List Value} {σ : zT} {Q : zO → zT → Prop} {idx : Nat} {v : Int32} (hw : Cond.constant y.cls idx v ∈ lw_all) (hd : decode cc pc = .ok (.ldc_w idx, 3)) (k : zR G y cc nL ret hh d (pc + 3) ls (.int v :: st) σ Q) : zR G y cc nL ret hh d pc ls st σ Q :=
  zR.lift (fun p l e R s m args below meth c H locs cells slots arr Q0 M hl9 hR k => lv_ldcw M.x M.b M.own (M.ws _ hw) hd k) k
abbrev P5 : Type := Int32 × Int32 × Int32 × Int32 × Int32
def pV (z : P5) : List Value := [.int z.1, .int z.2.1, .int z.2.2.1, .int z.2.2.2.1, .int z.2.2.2.2]
def mLo (t b : Int32) : Int32 := imax b (t + 1)
def mLies (t b y h : Int32) : Bool := decide (t < y + h) && decide (y < mLo t b)
set_option maxHeartbeats 4000000 in
theorem c_X13_low {G : zG} {σ : zT} {d : Nat} {x : Nat} {v0 v1 v2 v3 v4 : Int32} (hd : 2 ≤ d) (hx : zAt G σ x (.inr (13, [.int v0, .int v1, .int v2, .int v3, .int v4]))) : zC G I_X13_low d [.ref x] σ (.inl (some (.int (mLo v3 v4)))) σ := by
  refine zCall.exact (zCall_of (ls := [(0, .ref x)]) (by decide) (Nat.le_of_ble_eq_true rfl) rfl ?_)
  refine zr_aload_n dX13_low_0 rfl rfl ?_
  refine zr_get (k := 4) (v := .int v4) in_X13 hx rfl (Nat.le_of_ble_eq_true rfl) q2439 (.inl rfl) rfl dX13_low_1 ?_
  refine zr_aload_n dX13_low_4 rfl rfl ?_
  refine zr_get (k := 3) (v := .int v3) in_X13 hx rfl (Nat.le_of_ble_eq_true rfl) q2438 (.inl rfl) rfl dX13_low_5 ?_
  refine zr_iconst (v := 1) dX13_low_8 (by decide) ?_
  refine zr_iadd dX13_low_9 ?_
  refine zr_max (by omega) q2413 q376 q60 q377 (Nat.le_of_ble_eq_true rfl) dX13_low_10 ?_
  exact zr_iret rfl rfl dX13_low_13 (⟨rfl, rfl⟩)
set_option maxHeartbeats 4000000 in
theorem c_X13_lies {G : zG} {σ : zT} {d : Nat} {x : Nat} {v0 v1 v2 v3 v4 y h : Int32} (hd : 3 ≤ d) (hx : zAt G σ x (.inr (13, [.int v0, .int v1, .int v2, .int v3, .int v4]))) : zC G I_X13_lies d [.ref x, .int y, .int h] σ (.inl (some (.int (bI (mLies v3 v4 y h))))) σ := by
  refine zCall.exact (zCall_of (ls := [(0, .ref x), (1, .int y), (2, .int h)]) (by decide) (Nat.le_of_ble_eq_true rfl) rfl ?_)
  refine zr_aload_n dX13_lies_0 rfl rfl ?_
  refine zr_get (k := 3) (v := .int v3) in_X13 hx rfl (Nat.le_of_ble_eq_true rfl) q2438 (.inl rfl) rfl dX13_lies_1 ?_
  refine zr_iload_n dX13_lies_4 rfl rfl ?_
  refine zr_iload_n dX13_lies_5 rfl rfl ?_
  refine zr_iadd dX13_lies_6 ?_
  refine zr_icmp_ge (tgt := 22) dX13_lies_7 (by decide) (fun h1 => ?_) (fun h1 => ?_)
  · refine zr_iconst (v := 0) dX13_lies_22 (by decide) ?_
    exact zr_iret rfl rfl dX13_lies_23 (⟨by rw [show mLies v3 v4 y h = false from by unfold mLies; rw [decide_eq_false (Int32.not_lt.mpr h1)]; rfl]; rfl, rfl⟩)
  · refine zr_iload_n dX13_lies_10 rfl rfl ?_
    refine zr_aload_n dX13_lies_11 rfl rfl ?_
    refine zr_call1 (rest := [.int y]) (zs_V (As := []) (by omega) ok_X13_low q2409 q2410 q2411 q98 q2412 rfl hx rfl rfl rfl (Nat.le_of_ble_eq_true rfl) dX13_lies_12) (c_X13_low (by omega) hx) ?_
    refine zr_icmp_ge (tgt := 22) dX13_lies_15 (by decide) (fun h2 => ?_) (fun h2 => ?_)
    · refine zr_iconst (v := 0) dX13_lies_22 (by decide) ?_
      exact zr_iret rfl rfl dX13_lies_23 (⟨by rw [show mLies v3 v4 y h = false from by unfold mLies; rw [decide_eq_false (Int32.not_lt.mpr h2), Bool.and_false]]; rfl, rfl⟩)
    · refine zr_iconst (v := 1) dX13_lies_18 (by decide) ?_
      refine zr_goto (tgt := 23) dX13_lies_19 (by decide) ?_
      exact zr_iret rfl rfl dX13_lies_23 (⟨by rw [show mLies v3 v4 y h = true from by unfold mLies; rw [decide_eq_true (Int32.not_le.mp h1), decide_eq_true (Int32.not_le.mp h2)]; rfl]; rfl, rfl⟩)
abbrev Ps24 (G : zG) (σ : zT) (xs : List Nat) (fs : List P5) : Prop := ∀ (j q : Nat) (z : P5), xs[j]? = some q → fs[j]? = some z → sF σ q = some (.inr (13, pV z)) ∧ sT σ q = 0 ∧ (z.1 = 110 ∨ z.1 = 108 ∨ z.1 = 114)
/-- the pushes of a context of the reference's, at most 24 -/
def PsS (G : zG) (σ : zT) (fa : Nat) (fs : List P5) : Prop := ∃ (mod : Int32) (xs : List Nat), zL G σ (dT fa) fa mod xs ∧ xs.length = fs.length ∧ fs.length ≤ 24 ∧ Ps24 G σ xs fs
theorem PsS.keep {G : zG} {S : Nat → Prop} {σ σ1 : zT} {n fa : Nat} {fs : List P5} (h : PsS G σ fa fs) (hw : zGd G σ) (hX : zX G S σ σ1 n) (h1 : ¬ S (dT fa)) (h2 : ¬ S (dT fa + 1)) (h3 : ¬ S 0) : PsS G σ1 fa fs := by
  obtain ⟨mod, xs, a1, a2, a3, a4⟩ := h
  refine ⟨mod, xs, hX.L hw a1 h1 h2, a2, a3, fun j q z hq hz => ?_⟩
  obtain ⟨b1, b2, b3⟩ := a4 j q z hq hz
  exact ⟨hX.f hw b1 (by rw [b2]; exact h3), (hX.t hw b1).trans b2, b3⟩
theorem PsS.keepM {G : zG} {σ σ1 : zT} {n fa : Nat} {fs : List P5} (h : PsS G σ fa fs) (hw : zGd G σ) (hX : zX G SM σ σ1 n) : PsS G σ1 fa fs := h.keep hw hX (by unfold SM dT; omega) (by unfold SM dT; omega) (by unfold SM; omega)
theorem PsS.keep0 {G : zG} {σ σ1 : zT} {n fa : Nat} {fs : List P5} (h : PsS G σ fa fs) (hw : zGd G σ) (hX : zX G S0 σ σ1 n) : PsS G σ1 fa fs := h.keep hw hX (fun h => h) (fun h => h) (fun h => h)
def mLowest (fs : List P5) : Int32 := fs.foldl (fun a z => imax a z.2.2.2.2) (-2147483648)
def mLfS (y h : Int32) (a : Int32) (z : P5) : Int32 := if z.1 = 108 ∧ mLies z.2.2.2.1 z.2.2.2.2 y h = true then imax a z.2.2.1 else a
def mRtS (y h : Int32) (a : Int32) (z : P5) : Int32 := if z.1 = 114 ∧ mLies z.2.2.2.1 z.2.2.2.2 y h = true then imin a z.2.1 else a
def mBlS (y h : Int32) (a : Int32) (z : P5) : Int32 := if mLies z.2.2.2.1 z.2.2.2.2 y h = true then imin a (mLo z.2.2.2.1 z.2.2.2.2) else a
def mLeft (fs : List P5) (e y h : Int32) : Int32 := fs.foldl (mLfS y h) e
def mRight (fs : List P5) (e y h : Int32) : Int32 := fs.foldl (mRtS y h) e
def mBelow (fs : List P5) (y h : Int32) : Int32 := if fs.foldl (mBlS y h) 2147483647 = 2147483647 then y else fs.foldl (mBlS y h) 2147483647
theorem drop_zP {xs : List Nat} {fs : List P5} {k : Nat} {z : P5} {r : List P5} (hl : xs.length = fs.length) (h : fs.drop k = z :: r) : fs[k]? = some z ∧ fs.drop (k + 1) = r ∧ k < fs.length ∧ ∃ q, xs[k]? = some q := by
  obtain ⟨h1, h2, h3, -⟩ := drop_cons h
  exact ⟨h1, h2, h3, xs[k]'(by omega), List.getElem?_eq_getElem (by omega)⟩
set_option maxHeartbeats 4000000 in
theorem l_X4_lowest {G : zG} {σ : zT} {d fa it : Nat} {fs : List P5} {mod : Int32} {xs : List Nat}  {Q : zO → zT → Prop} (hd : 6 ≤ d) (hG : zOk G) (hw : zGd G σ) (hL : zL G σ (dT fa) fa mod xs) (hlen : xs.length = fs.length) (hfs : Ps24 G σ xs fs) (hit : sZ σ ≤ it) : ∀ (ys : List P5) (k : Nat) (lr p : Int32) (σ1 : zT), fs.drop k = ys → k ≤ fs.length → zX G S0 σ σ1 8 → sF σ1 it = some (.inr (21, [.int (nI k), .int lr, .int mod, .ref fa])) → (∀ σ2, zX G S0 σ σ2 8 → zR G yX4_lowest cX4_lowest 4 (Option.some Jvm.ClassFile.FieldType.int) [] d 41 [(0, .ref fa), (1, .int (ys.foldl (fun a z => imax a z.2.2.2.2) p)), (2, .ref it)] [] σ2 Q) → zR G yX4_lowest cX4_lowest 4 (Option.some Jvm.ClassFile.FieldType.int) [] d 10 [(0, .ref fa), (1, .int p), (2, .ref it)] [] σ1 Q := by
  intro ys
  induction ys with
  | nil =>
    intro k lr p σ1 hy hk hX hI kQ
    have hL1 := hX.L hw hL (fun h => h) (fun h => h)
    have hkl : k = xs.length := by rw [hlen]; exact drop_nil hy hk
    refine zr_aload_n dX4_lowest_10 rfl rfl ?_
    refine zr_call51 (rest := []) (zs_F (As := []) (by omega) okF_J23_hasNext (by decide +kernel) q2324 q927 q929 q84 q931 (.new hI) rfl rfl rfl (Nat.le_of_ble_eq_true rfl) dX4_lowest_11) (c_hasNext0 hL1 hI hkl) ?_
    refine zr_if_eq (tgt := 41) dX4_lowest_16 (by decide) (fun _ => ?_) (fun h9 => absurd (rfl) h9)
    exact kQ σ1 hX
  | cons z ys ih =>
    intro k lr p σ1 hy hk hX hI kQ
    have hL1 := hX.L hw hL (fun h => h) (fun h => h)
    obtain ⟨hz, hy2, hkl, q, hx⟩ := drop_zP hlen hy
    obtain ⟨hq0, hq1, hqs⟩ := hfs k q z hx hz
    have hX2 := hX.upN (gs := [.int (nI (k + 1)), .int (nI k), .int mod, .ref fa]) hI hit
    have hI2 : sF (sUp σ1 it (.inr (21, [.int (nI (k + 1)), .int (nI k), .int mod, .ref fa]))) it = _ := sF_upS _ _ _
    generalize hσ2 : sUp σ1 it (.inr (21, [.int (nI (k + 1)), .int (nI k), .int mod, .ref fa])) = σ2 at hX2 hI2
    have hq : zAt G σ2 q (.inr (13, pV z)) := .new (hX2.f hw hq0 (fun h => h))
    rw [List.foldl_cons] at kQ
    refine zr_aload_n dX4_lowest_10 rfl rfl ?_
    refine zr_call51 (rest := []) (zs_F (As := []) (by omega) okF_J23_hasNext (by decide +kernel) q2324 q927 q929 q84 q931 (.new hI) rfl rfl rfl (Nat.le_of_ble_eq_true rfl) dX4_lowest_11) (c_hasNext1 hL1 hI (by rw [hlen]; exact hkl)) ?_
    refine zr_if_eq (tgt := 41) dX4_lowest_16 (by decide) (fun h9 => absurd h9 (by decide)) (fun _ => ?_)
    refine zr_aload_n dX4_lowest_19 rfl rfl ?_
    refine zr_call51 (rest := []) (zs_F (As := []) (by omega) okF_J23_next (by decide +kernel) q2326 q1044 q1046 q84 q1048 (.new hI) rfl rfl rfl (Nat.le_of_ble_eq_true rfl) dX4_lowest_20) (c_J23_next (by omega) hG hL1 hI hx) ?_
    rw [hσ2]
    refine zr_castS hq rfl q2391 dX4_lowest_25 ?_
    refine zr_astore_n (ls2 := [(0, .ref fa), (1, .int p), (2, .ref it), (3, .ref q)]) dX4_lowest_28 rfl (Nat.le_of_ble_eq_true rfl) rfl ?_
    refine zr_iload_n dX4_lowest_29 rfl rfl ?_
    refine zr_aload_n dX4_lowest_30 rfl rfl ?_
    refine zr_call1 (rest := [.int p]) (zs_V (As := []) (by omega) ok_X13_bottom q2457 q2458 q2459 q98 q2460 rfl hq rfl rfl rfl (Nat.le_of_ble_eq_true rfl) dX4_lowest_31) (c_X13_bottom hq) ?_
    refine zr_max (by omega) q2329 q376 q60 q377 (Nat.le_of_ble_eq_true rfl) dX4_lowest_34 ?_
    refine zr_istore_n (ls2 := [(0, .ref fa), (1, .int (imax p z.2.2.2.2)), (2, .ref it), (3, .ref q)]) dX4_lowest_37 rfl (Nat.le_of_ble_eq_true rfl) rfl ?_
    refine zr_goto (tgt := 10) dX4_lowest_38 (by decide) ?_
    refine zr_sub (ls2 := [(0, .ref fa), (1, .int (imax p z.2.2.2.2)), (2, .ref it)]) [0, 1, 2] rfl ?_
    exact ih (k + 1) _ _ σ2 hy2 (by omega) hX2 hI2 kQ
set_option maxHeartbeats 4000000 in
theorem l_X4_leftEdge {G : zG} {σ : zT} {d fa it : Nat} {fs : List P5} {mod : Int32} {xs : List Nat} {e y h : Int32} {Q : zO → zT → Prop} (hd : 6 ≤ d) (hG : zOk G) (hw : zGd G σ) (hL : zL G σ (dT fa) fa mod xs) (hlen : xs.length = fs.length) (hfs : Ps24 G σ xs fs) (hit : sZ σ ≤ it) : ∀ (ys : List P5) (k : Nat) (lr p : Int32) (σ1 : zT), fs.drop k = ys → k ≤ fs.length → zX G S0 σ σ1 8 → sF σ1 it = some (.inr (21, [.int (nI k), .int lr, .int mod, .ref fa])) → (∀ σ2, zX G S0 σ σ2 8 → zR G yX4_leftEdge cX4_leftEdge 7 (Option.some Jvm.ClassFile.FieldType.int) [] d 68 [(0, .ref fa), (1, .int e), (2, .int y), (3, .int h), (4, .int (ys.foldl (mLfS y h) p)), (5, .ref it)] [] σ2 Q) → zR G yX4_leftEdge cX4_leftEdge 7 (Option.some Jvm.ClassFile.FieldType.int) [] d 11 [(0, .ref fa), (1, .int e), (2, .int y), (3, .int h), (4, .int p), (5, .ref it)] [] σ1 Q := by
  intro ys
  induction ys with
  | nil =>
    intro k lr p σ1 hy hk hX hI kQ
    have hL1 := hX.L hw hL (fun h => h) (fun h => h)
    have hkl : k = xs.length := by rw [hlen]; exact drop_nil hy hk
    refine zr_aload dX4_leftEdge_11 rfl ?_
    refine zr_call51 (rest := []) (zs_F (As := []) (by omega) okF_J23_hasNext (by decide +kernel) q2324 q927 q929 q84 q931 (.new hI) rfl rfl rfl (Nat.le_of_ble_eq_true rfl) dX4_leftEdge_13) (c_hasNext0 hL1 hI hkl) ?_
    refine zr_if_eq (tgt := 68) dX4_leftEdge_18 (by decide) (fun _ => ?_) (fun h9 => absurd (rfl) h9)
    exact kQ σ1 hX
  | cons z ys ih =>
    intro k lr p σ1 hy hk hX hI kQ
    have hL1 := hX.L hw hL (fun h => h) (fun h => h)
    obtain ⟨hz, hy2, hkl, q, hx⟩ := drop_zP hlen hy
    obtain ⟨hq0, hq1, hqs⟩ := hfs k q z hx hz
    have hX2 := hX.upN (gs := [.int (nI (k + 1)), .int (nI k), .int mod, .ref fa]) hI hit
    have hI2 : sF (sUp σ1 it (.inr (21, [.int (nI (k + 1)), .int (nI k), .int mod, .ref fa]))) it = _ := sF_upS _ _ _
    generalize hσ2 : sUp σ1 it (.inr (21, [.int (nI (k + 1)), .int (nI k), .int mod, .ref fa])) = σ2 at hX2 hI2
    have hq : zAt G σ2 q (.inr (13, pV z)) := .new (hX2.f hw hq0 (fun h => h))
    rw [List.foldl_cons] at kQ
    refine zr_aload dX4_leftEdge_11 rfl ?_
    refine zr_call51 (rest := []) (zs_F (As := []) (by omega) okF_J23_hasNext (by decide +kernel) q2324 q927 q929 q84 q931 (.new hI) rfl rfl rfl (Nat.le_of_ble_eq_true rfl) dX4_leftEdge_13) (c_hasNext1 hL1 hI (by rw [hlen]; exact hkl)) ?_
    refine zr_if_eq (tgt := 68) dX4_leftEdge_18 (by decide) (fun h9 => absurd h9 (by decide)) (fun _ => ?_)
    refine zr_aload dX4_leftEdge_21 rfl ?_
    refine zr_call51 (rest := []) (zs_F (As := []) (by omega) okF_J23_next (by decide +kernel) q2326 q1044 q1046 q84 q1048 (.new hI) rfl rfl rfl (Nat.le_of_ble_eq_true rfl) dX4_leftEdge_23) (c_J23_next (by omega) hG hL1 hI hx) ?_
    rw [hσ2]
    refine zr_castS hq rfl q2391 dX4_leftEdge_28 ?_
    refine zr_astore (ls2 := [(0, .ref fa), (1, .int e), (2, .int y), (3, .int h), (4, .int p), (5, .ref it), (6, .ref q)]) dX4_leftEdge_31 (Nat.le_of_ble_eq_true rfl) rfl ?_
    refine zr_aload dX4_leftEdge_33 rfl ?_
    refine zr_call1 (rest := []) (zs_V (As := []) (by omega) ok_X13_side q2401 q2402 q2403 q98 q2404 rfl hq rfl rfl rfl (Nat.le_of_ble_eq_true rfl) dX4_leftEdge_35) (c_X13_side hqs hq) ?_
    refine zr_bipush (v := 108) dX4_leftEdge_38 (by decide) ?_
    refine zr_icmp_ne (tgt := 65) dX4_leftEdge_40 (by decide) (fun h1 => ?_) (fun h1 => ?_)
    · refine zr_goto (tgt := 11) dX4_leftEdge_65 (by decide) ?_
      refine zr_sub (ls2 := [(0, .ref fa), (1, .int e), (2, .int y), (3, .int h), (4, .int p), (5, .ref it)]) [0, 1, 2, 3, 4, 5] rfl ?_
      have e9 : mLfS y h p z = p := if_neg (fun h => h1 h.1)
      rw [e9] at kQ
      exact ih (k + 1) _ _ σ2 hy2 (by omega) hX2 hI2 kQ
    · refine zr_aload dX4_leftEdge_43 rfl ?_
      refine zr_iload_n dX4_leftEdge_45 rfl rfl ?_
      refine zr_iload_n dX4_leftEdge_46 rfl rfl ?_
      refine zr_call1 (rest := []) (zs_V (As := [.int y, .int h]) (by omega) ok_X13_lies q2405 q2406 q2407 q98 q2408 rfl hq rfl rfl rfl (Nat.le_of_ble_eq_true rfl) dX4_leftEdge_47) (c_X13_lies (by omega) hq) ?_
      refine zr_ifeqB (tgt := 65) dX4_leftEdge_50 (by decide) (fun h2 => ?_) (fun h2 => ?_)
      · refine zr_goto (tgt := 11) dX4_leftEdge_65 (by decide) ?_
        refine zr_sub (ls2 := [(0, .ref fa), (1, .int e), (2, .int y), (3, .int h), (4, .int p), (5, .ref it)]) [0, 1, 2, 3, 4, 5] rfl ?_
        have e9 : mLfS y h p z = p := if_neg (fun h => by rw [h2] at h; exact absurd h.2 (by decide))
        rw [e9] at kQ
        exact ih (k + 1) _ _ σ2 hy2 (by omega) hX2 hI2 kQ
      · refine zr_iload dX4_leftEdge_53 rfl ?_
        refine zr_aload dX4_leftEdge_55 rfl ?_
        refine zr_call1 (rest := [.int p]) (zs_V (As := []) (by omega) ok_X13_right q2421 q2422 q2423 q98 q2424 rfl hq rfl rfl rfl (Nat.le_of_ble_eq_true rfl) dX4_leftEdge_57) (c_X13_right hq) ?_
        refine zr_max (by omega) q2329 q376 q60 q377 (Nat.le_of_ble_eq_true rfl) dX4_leftEdge_60 ?_
        refine zr_istore (ls2 := [(0, .ref fa), (1, .int e), (2, .int y), (3, .int h), (4, .int (imax p z.2.2.1)), (5, .ref it), (6, .ref q)]) dX4_leftEdge_63 (Nat.le_of_ble_eq_true rfl) rfl ?_
        refine zr_goto (tgt := 11) dX4_leftEdge_65 (by decide) ?_
        refine zr_sub (ls2 := [(0, .ref fa), (1, .int e), (2, .int y), (3, .int h), (4, .int (imax p z.2.2.1)), (5, .ref it)]) [0, 1, 2, 3, 4, 5] rfl ?_
        have e9 : mLfS y h p z = imax p z.2.2.1 := if_pos ⟨h1, h2⟩
        rw [e9] at kQ
        exact ih (k + 1) _ _ σ2 hy2 (by omega) hX2 hI2 kQ
set_option maxHeartbeats 4000000 in
theorem l_X4_rightEdge {G : zG} {σ : zT} {d fa it : Nat} {fs : List P5} {mod : Int32} {xs : List Nat} {e y h : Int32} {Q : zO → zT → Prop} (hd : 6 ≤ d) (hG : zOk G) (hw : zGd G σ) (hL : zL G σ (dT fa) fa mod xs) (hlen : xs.length = fs.length) (hfs : Ps24 G σ xs fs) (hit : sZ σ ≤ it) : ∀ (ys : List P5) (k : Nat) (lr p : Int32) (σ1 : zT), fs.drop k = ys → k ≤ fs.length → zX G S0 σ σ1 8 → sF σ1 it = some (.inr (21, [.int (nI k), .int lr, .int mod, .ref fa])) → (∀ σ2, zX G S0 σ σ2 8 → zR G yX4_rightEdge cX4_rightEdge 7 (Option.some Jvm.ClassFile.FieldType.int) [] d 68 [(0, .ref fa), (1, .int e), (2, .int y), (3, .int h), (4, .int (ys.foldl (mRtS y h) p)), (5, .ref it)] [] σ2 Q) → zR G yX4_rightEdge cX4_rightEdge 7 (Option.some Jvm.ClassFile.FieldType.int) [] d 11 [(0, .ref fa), (1, .int e), (2, .int y), (3, .int h), (4, .int p), (5, .ref it)] [] σ1 Q := by
  intro ys
  induction ys with
  | nil =>
    intro k lr p σ1 hy hk hX hI kQ
    have hL1 := hX.L hw hL (fun h => h) (fun h => h)
    have hkl : k = xs.length := by rw [hlen]; exact drop_nil hy hk
    refine zr_aload dX4_rightEdge_11 rfl ?_
    refine zr_call51 (rest := []) (zs_F (As := []) (by omega) okF_J23_hasNext (by decide +kernel) q2324 q927 q929 q84 q931 (.new hI) rfl rfl rfl (Nat.le_of_ble_eq_true rfl) dX4_rightEdge_13) (c_hasNext0 hL1 hI hkl) ?_
    refine zr_if_eq (tgt := 68) dX4_rightEdge_18 (by decide) (fun _ => ?_) (fun h9 => absurd (rfl) h9)
    exact kQ σ1 hX
  | cons z ys ih =>
    intro k lr p σ1 hy hk hX hI kQ
    have hL1 := hX.L hw hL (fun h => h) (fun h => h)
    obtain ⟨hz, hy2, hkl, q, hx⟩ := drop_zP hlen hy
    obtain ⟨hq0, hq1, hqs⟩ := hfs k q z hx hz
    have hX2 := hX.upN (gs := [.int (nI (k + 1)), .int (nI k), .int mod, .ref fa]) hI hit
    have hI2 : sF (sUp σ1 it (.inr (21, [.int (nI (k + 1)), .int (nI k), .int mod, .ref fa]))) it = _ := sF_upS _ _ _
    generalize hσ2 : sUp σ1 it (.inr (21, [.int (nI (k + 1)), .int (nI k), .int mod, .ref fa])) = σ2 at hX2 hI2
    have hq : zAt G σ2 q (.inr (13, pV z)) := .new (hX2.f hw hq0 (fun h => h))
    rw [List.foldl_cons] at kQ
    refine zr_aload dX4_rightEdge_11 rfl ?_
    refine zr_call51 (rest := []) (zs_F (As := []) (by omega) okF_J23_hasNext (by decide +kernel) q2324 q927 q929 q84 q931 (.new hI) rfl rfl rfl (Nat.le_of_ble_eq_true rfl) dX4_rightEdge_13) (c_hasNext1 hL1 hI (by rw [hlen]; exact hkl)) ?_
    refine zr_if_eq (tgt := 68) dX4_rightEdge_18 (by decide) (fun h9 => absurd h9 (by decide)) (fun _ => ?_)
    refine zr_aload dX4_rightEdge_21 rfl ?_
    refine zr_call51 (rest := []) (zs_F (As := []) (by omega) okF_J23_next (by decide +kernel) q2326 q1044 q1046 q84 q1048 (.new hI) rfl rfl rfl (Nat.le_of_ble_eq_true rfl) dX4_rightEdge_23) (c_J23_next (by omega) hG hL1 hI hx) ?_
    rw [hσ2]
    refine zr_castS hq rfl q2391 dX4_rightEdge_28 ?_
    refine zr_astore (ls2 := [(0, .ref fa), (1, .int e), (2, .int y), (3, .int h), (4, .int p), (5, .ref it), (6, .ref q)]) dX4_rightEdge_31 (Nat.le_of_ble_eq_true rfl) rfl ?_
    refine zr_aload dX4_rightEdge_33 rfl ?_
    refine zr_call1 (rest := []) (zs_V (As := []) (by omega) ok_X13_side q2401 q2402 q2403 q98 q2404 rfl hq rfl rfl rfl (Nat.le_of_ble_eq_true rfl) dX4_rightEdge_35) (c_X13_side hqs hq) ?_
    refine zr_bipush (v := 114) dX4_rightEdge_38 (by decide) ?_
    refine zr_icmp_ne (tgt := 65) dX4_rightEdge_40 (by decide) (fun h1 => ?_) (fun h1 => ?_)
    · refine zr_goto (tgt := 11) dX4_rightEdge_65 (by decide) ?_
      refine zr_sub (ls2 := [(0, .ref fa), (1, .int e), (2, .int y), (3, .int h), (4, .int p), (5, .ref it)]) [0, 1, 2, 3, 4, 5] rfl ?_
      have e9 : mRtS y h p z = p := if_neg (fun h => h1 h.1)
      rw [e9] at kQ
      exact ih (k + 1) _ _ σ2 hy2 (by omega) hX2 hI2 kQ
    · refine zr_aload dX4_rightEdge_43 rfl ?_
      refine zr_iload_n dX4_rightEdge_45 rfl rfl ?_
      refine zr_iload_n dX4_rightEdge_46 rfl rfl ?_
      refine zr_call1 (rest := []) (zs_V (As := [.int y, .int h]) (by omega) ok_X13_lies q2405 q2406 q2407 q98 q2408 rfl hq rfl rfl rfl (Nat.le_of_ble_eq_true rfl) dX4_rightEdge_47) (c_X13_lies (by omega) hq) ?_
      refine zr_ifeqB (tgt := 65) dX4_rightEdge_50 (by decide) (fun h2 => ?_) (fun h2 => ?_)
      · refine zr_goto (tgt := 11) dX4_rightEdge_65 (by decide) ?_
        refine zr_sub (ls2 := [(0, .ref fa), (1, .int e), (2, .int y), (3, .int h), (4, .int p), (5, .ref it)]) [0, 1, 2, 3, 4, 5] rfl ?_
        have e9 : mRtS y h p z = p := if_neg (fun h => by rw [h2] at h; exact absurd h.2 (by decide))
        rw [e9] at kQ
        exact ih (k + 1) _ _ σ2 hy2 (by omega) hX2 hI2 kQ
      · refine zr_iload dX4_rightEdge_53 rfl ?_
        refine zr_aload dX4_rightEdge_55 rfl ?_
        refine zr_call1 (rest := [.int p]) (zs_V (As := []) (by omega) ok_X13_left q2414 q2415 q2416 q98 q2417 rfl hq rfl rfl rfl (Nat.le_of_ble_eq_true rfl) dX4_rightEdge_57) (c_X13_left hq) ?_
        refine zr_min (by omega) q2376 q431 q60 q432 (Nat.le_of_ble_eq_true rfl) dX4_rightEdge_60 ?_
        refine zr_istore (ls2 := [(0, .ref fa), (1, .int e), (2, .int y), (3, .int h), (4, .int (imin p z.2.1)), (5, .ref it), (6, .ref q)]) dX4_rightEdge_63 (Nat.le_of_ble_eq_true rfl) rfl ?_
        refine zr_goto (tgt := 11) dX4_rightEdge_65 (by decide) ?_
        refine zr_sub (ls2 := [(0, .ref fa), (1, .int e), (2, .int y), (3, .int h), (4, .int (imin p z.2.1)), (5, .ref it)]) [0, 1, 2, 3, 4, 5] rfl ?_
        have e9 : mRtS y h p z = imin p z.2.1 := if_pos ⟨h1, h2⟩
        rw [e9] at kQ
        exact ih (k + 1) _ _ σ2 hy2 (by omega) hX2 hI2 kQ
set_option maxHeartbeats 4000000 in
theorem l_X4_below {G : zG} {σ : zT} {d fa it : Nat} {fs : List P5} {mod : Int32} {xs : List Nat} {y h : Int32} {Q : zO → zT → Prop} (hd : 6 ≤ d) (hG : zOk G) (hw : zGd G σ) (hL : zL G σ (dT fa) fa mod xs) (hlen : xs.length = fs.length) (hfs : Ps24 G σ xs fs) (hit : sZ σ ≤ it) : ∀ (ys : List P5) (k : Nat) (lr p : Int32) (σ1 : zT), fs.drop k = ys → k ≤ fs.length → zX G S0 σ σ1 8 → sF σ1 it = some (.inr (21, [.int (nI k), .int lr, .int mod, .ref fa])) → (∀ σ2, zX G S0 σ σ2 8 → zR G yX4_below cX4_below 6 (Option.some Jvm.ClassFile.FieldType.int) [] d 57 [(0, .ref fa), (1, .int y), (2, .int h), (3, .int (ys.foldl (mBlS y h) p)), (4, .ref it)] [] σ2 Q) → zR G yX4_below cX4_below 6 (Option.some Jvm.ClassFile.FieldType.int) [] d 12 [(0, .ref fa), (1, .int y), (2, .int h), (3, .int p), (4, .ref it)] [] σ1 Q := by
  intro ys
  induction ys with
  | nil =>
    intro k lr p σ1 hy hk hX hI kQ
    have hL1 := hX.L hw hL (fun h => h) (fun h => h)
    have hkl : k = xs.length := by rw [hlen]; exact drop_nil hy hk
    refine zr_aload dX4_below_12 rfl ?_
    refine zr_call51 (rest := []) (zs_F (As := []) (by omega) okF_J23_hasNext (by decide +kernel) q2324 q927 q929 q84 q931 (.new hI) rfl rfl rfl (Nat.le_of_ble_eq_true rfl) dX4_below_14) (c_hasNext0 hL1 hI hkl) ?_
    refine zr_if_eq (tgt := 57) dX4_below_19 (by decide) (fun _ => ?_) (fun h9 => absurd (rfl) h9)
    exact kQ σ1 hX
  | cons z ys ih =>
    intro k lr p σ1 hy hk hX hI kQ
    have hL1 := hX.L hw hL (fun h => h) (fun h => h)
    obtain ⟨hz, hy2, hkl, q, hx⟩ := drop_zP hlen hy
    obtain ⟨hq0, hq1, hqs⟩ := hfs k q z hx hz
    have hX2 := hX.upN (gs := [.int (nI (k + 1)), .int (nI k), .int mod, .ref fa]) hI hit
    have hI2 : sF (sUp σ1 it (.inr (21, [.int (nI (k + 1)), .int (nI k), .int mod, .ref fa]))) it = _ := sF_upS _ _ _
    generalize hσ2 : sUp σ1 it (.inr (21, [.int (nI (k + 1)), .int (nI k), .int mod, .ref fa])) = σ2 at hX2 hI2
    have hq : zAt G σ2 q (.inr (13, pV z)) := .new (hX2.f hw hq0 (fun h => h))
    rw [List.foldl_cons] at kQ
    refine zr_aload dX4_below_12 rfl ?_
    refine zr_call51 (rest := []) (zs_F (As := []) (by omega) okF_J23_hasNext (by decide +kernel) q2324 q927 q929 q84 q931 (.new hI) rfl rfl rfl (Nat.le_of_ble_eq_true rfl) dX4_below_14) (c_hasNext1 hL1 hI (by rw [hlen]; exact hkl)) ?_
    refine zr_if_eq (tgt := 57) dX4_below_19 (by decide) (fun h9 => absurd h9 (by decide)) (fun _ => ?_)
    refine zr_aload dX4_below_22 rfl ?_
    refine zr_call51 (rest := []) (zs_F (As := []) (by omega) okF_J23_next (by decide +kernel) q2326 q1044 q1046 q84 q1048 (.new hI) rfl rfl rfl (Nat.le_of_ble_eq_true rfl) dX4_below_24) (c_J23_next (by omega) hG hL1 hI hx) ?_
    rw [hσ2]
    refine zr_castS hq rfl q2391 dX4_below_29 ?_
    refine zr_astore (ls2 := [(0, .ref fa), (1, .int y), (2, .int h), (3, .int p), (4, .ref it), (5, .ref q)]) dX4_below_32 (Nat.le_of_ble_eq_true rfl) rfl ?_
    refine zr_aload dX4_below_34 rfl ?_
    refine zr_iload_n dX4_below_36 rfl rfl ?_
    refine zr_iload_n dX4_below_37 rfl rfl ?_
    refine zr_call1 (rest := []) (zs_V (As := [.int y, .int h]) (by omega) ok_X13_lies q2405 q2406 q2407 q98 q2408 rfl hq rfl rfl rfl (Nat.le_of_ble_eq_true rfl) dX4_below_38) (c_X13_lies (by omega) hq) ?_
    refine zr_ifeqB (tgt := 54) dX4_below_41 (by decide) (fun h2 => ?_) (fun h2 => ?_)
    · refine zr_goto (tgt := 12) dX4_below_54 (by decide) ?_
      refine zr_sub (ls2 := [(0, .ref fa), (1, .int y), (2, .int h), (3, .int p), (4, .ref it)]) [0, 1, 2, 3, 4] rfl ?_
      have e9 : mBlS y h p z = p := if_neg (by rw [h2]; decide)
      rw [e9] at kQ
      exact ih (k + 1) _ _ σ2 hy2 (by omega) hX2 hI2 kQ
    · refine zr_iload_n dX4_below_44 rfl rfl ?_
      refine zr_aload dX4_below_45 rfl ?_
      refine zr_call1 (rest := [.int p]) (zs_V (As := []) (by omega) ok_X13_low q2429 q2410 q2411 q98 q2412 rfl hq rfl rfl rfl (Nat.le_of_ble_eq_true rfl) dX4_below_47) (c_X13_low (by omega) hq) ?_
      refine zr_min (by omega) q2376 q431 q60 q432 (Nat.le_of_ble_eq_true rfl) dX4_below_50 ?_
      refine zr_istore_n (ls2 := [(0, .ref fa), (1, .int y), (2, .int h), (3, .int (imin p (mLo z.2.2.2.1 z.2.2.2.2))), (4, .ref it), (5, .ref q)]) dX4_below_53 rfl (Nat.le_of_ble_eq_true rfl) rfl ?_
      refine zr_goto (tgt := 12) dX4_below_54 (by decide) ?_
      refine zr_sub (ls2 := [(0, .ref fa), (1, .int y), (2, .int h), (3, .int (imin p (mLo z.2.2.2.1 z.2.2.2.2))), (4, .ref it)]) [0, 1, 2, 3, 4] rfl ?_
      have e9 : mBlS y h p z = imin p (mLo z.2.2.2.1 z.2.2.2.2) := if_pos h2
      rw [e9] at kQ
      exact ih (k + 1) _ _ σ2 hy2 (by omega) hX2 hI2 kQ
set_option maxHeartbeats 4000000 in
theorem c_X4_lowest {G : zG} {σ : zT} {d fa : Nat} {fs : List P5} (hd : 7 ≤ d) (hG : zOk G) (hw : zGd G σ) (hF : PsS G σ fa fs) : zCall G I_X4_lowest d [.ref fa] σ ((fun o σ' => o = .inl (some (.int (mLowest fs))) ∧ zX G S0 σ σ' 8)) := by
  refine zCall_of (ls := [(0, .ref fa)]) (by decide) (Nat.le_of_ble_eq_true rfl) rfl ?_
  obtain ⟨mod, xs, hL, hlen, hl24, hfs⟩ := hF
  obtain ⟨fl, hfl⟩ := hL.A
  refine zr_ldc (v := (-2147483648)) q2456 dX4_lowest_0 ?_
  refine zr_istore_n (ls2 := [(0, .ref fa), (1, .int (-2147483648))]) dX4_lowest_2 rfl (Nat.le_of_ble_eq_true rfl) rfl ?_
  refine zr_aload_n dX4_lowest_3 rfl rfl ?_
  refine zr_call51 (rest := []) (zs_F (As := []) (by omega) okF_J2_iterator (by decide +kernel) q2400 q832 q834 q56 q836 hfl rfl rfl rfl (Nat.le_of_ble_eq_true rfl) dX4_lowest_4) (c_J2_iterator (by omega) hw.1 hL) ?_
  refine zr_astore_n (ls2 := [(0, .ref fa), (1, .int (-2147483648)), (2, .ref (sZ σ))]) dX4_lowest_9 rfl (Nat.le_of_ble_eq_true rfl) rfl ?_
  refine l_X4_lowest (by omega) hG hw hL hlen hfs (Nat.le_refl _) fs 0 _ _ _ rfl (Nat.zero_le _) (zX.new _ hw _ (by omega) _ _) (sF_newS _ _ _ _) (fun σ1 hX1 => ?_)
  show zR G yX4_lowest cX4_lowest 4 (Option.some Jvm.ClassFile.FieldType.int) [] d 41 [(0, .ref fa), (1, .int (mLowest fs)), (2, .ref (sZ σ))] [] σ1 _
  refine zr_iload_n dX4_lowest_41 rfl rfl ?_
  exact zr_iret rfl rfl dX4_lowest_42 (⟨rfl, hX1⟩)
set_option maxHeartbeats 4000000 in
theorem c_X4_leftEdge {G : zG} {σ : zT} {d fa : Nat} {fs : List P5} {e y h : Int32} (hd : 7 ≤ d) (hG : zOk G) (hw : zGd G σ) (hF : PsS G σ fa fs) : zCall G I_X4_leftEdge d [.ref fa, .int e, .int y, .int h] σ ((fun o σ' => o = .inl (some (.int (mLeft fs e y h))) ∧ zX G S0 σ σ' 8)) := by
  refine zCall_of (ls := [(0, .ref fa), (1, .int e), (2, .int y), (3, .int h)]) (by decide) (Nat.le_of_ble_eq_true rfl) rfl ?_
  obtain ⟨mod, xs, hL, hlen, hl24, hfs⟩ := hF
  obtain ⟨fl, hfl⟩ := hL.A
  refine zr_iload_n dX4_leftEdge_0 rfl rfl ?_
  refine zr_istore (ls2 := [(0, .ref fa), (1, .int e), (2, .int y), (3, .int h), (4, .int e)]) dX4_leftEdge_1 (Nat.le_of_ble_eq_true rfl) rfl ?_
  refine zr_aload_n dX4_leftEdge_3 rfl rfl ?_
  refine zr_call51 (rest := []) (zs_F (As := []) (by omega) okF_J2_iterator (by decide +kernel) q2400 q832 q834 q56 q836 hfl rfl rfl rfl (Nat.le_of_ble_eq_true rfl) dX4_leftEdge_4) (c_J2_iterator (by omega) hw.1 hL) ?_
  refine zr_astore (ls2 := [(0, .ref fa), (1, .int e), (2, .int y), (3, .int h), (4, .int e), (5, .ref (sZ σ))]) dX4_leftEdge_9 (Nat.le_of_ble_eq_true rfl) rfl ?_
  refine l_X4_leftEdge (by omega) hG hw hL hlen hfs (Nat.le_refl _) fs 0 _ _ _ rfl (Nat.zero_le _) (zX.new _ hw _ (by omega) _ _) (sF_newS _ _ _ _) (fun σ1 hX1 => ?_)
  show zR G yX4_leftEdge cX4_leftEdge 7 (Option.some Jvm.ClassFile.FieldType.int) [] d 68 [(0, .ref fa), (1, .int e), (2, .int y), (3, .int h), (4, .int (mLeft fs e y h)), (5, .ref (sZ σ))] [] σ1 _
  refine zr_iload dX4_leftEdge_68 rfl ?_
  exact zr_iret rfl rfl dX4_leftEdge_70 (⟨rfl, hX1⟩)
set_option maxHeartbeats 4000000 in
theorem c_X4_rightEdge {G : zG} {σ : zT} {d fa : Nat} {fs : List P5} {e y h : Int32} (hd : 7 ≤ d) (hG : zOk G) (hw : zGd G σ) (hF : PsS G σ fa fs) : zCall G I_X4_rightEdge d [.ref fa, .int e, .int y, .int h] σ ((fun o σ' => o = .inl (some (.int (mRight fs e y h))) ∧ zX G S0 σ σ' 8)) := by
  refine zCall_of (ls := [(0, .ref fa), (1, .int e), (2, .int y), (3, .int h)]) (by decide) (Nat.le_of_ble_eq_true rfl) rfl ?_
  obtain ⟨mod, xs, hL, hlen, hl24, hfs⟩ := hF
  obtain ⟨fl, hfl⟩ := hL.A
  refine zr_iload_n dX4_rightEdge_0 rfl rfl ?_
  refine zr_istore (ls2 := [(0, .ref fa), (1, .int e), (2, .int y), (3, .int h), (4, .int e)]) dX4_rightEdge_1 (Nat.le_of_ble_eq_true rfl) rfl ?_
  refine zr_aload_n dX4_rightEdge_3 rfl rfl ?_
  refine zr_call51 (rest := []) (zs_F (As := []) (by omega) okF_J2_iterator (by decide +kernel) q2400 q832 q834 q56 q836 hfl rfl rfl rfl (Nat.le_of_ble_eq_true rfl) dX4_rightEdge_4) (c_J2_iterator (by omega) hw.1 hL) ?_
  refine zr_astore (ls2 := [(0, .ref fa), (1, .int e), (2, .int y), (3, .int h), (4, .int e), (5, .ref (sZ σ))]) dX4_rightEdge_9 (Nat.le_of_ble_eq_true rfl) rfl ?_
  refine l_X4_rightEdge (by omega) hG hw hL hlen hfs (Nat.le_refl _) fs 0 _ _ _ rfl (Nat.zero_le _) (zX.new _ hw _ (by omega) _ _) (sF_newS _ _ _ _) (fun σ1 hX1 => ?_)
  show zR G yX4_rightEdge cX4_rightEdge 7 (Option.some Jvm.ClassFile.FieldType.int) [] d 68 [(0, .ref fa), (1, .int e), (2, .int y), (3, .int h), (4, .int (mRight fs e y h)), (5, .ref (sZ σ))] [] σ1 _
  refine zr_iload dX4_rightEdge_68 rfl ?_
  exact zr_iret rfl rfl dX4_rightEdge_70 (⟨rfl, hX1⟩)
set_option maxHeartbeats 4000000 in
theorem c_X4_below {G : zG} {σ : zT} {d fa : Nat} {fs : List P5} {y h : Int32} (hd : 7 ≤ d) (hG : zOk G) (hw : zGd G σ) (hF : PsS G σ fa fs) : zCall G I_X4_below d [.ref fa, .int y, .int h] σ ((fun o σ' => o = .inl (some (.int (mBelow fs y h))) ∧ zX G S0 σ σ' 8)) := by
  refine zCall_of (ls := [(0, .ref fa), (1, .int y), (2, .int h)]) (by decide) (Nat.le_of_ble_eq_true rfl) rfl ?_
  obtain ⟨mod, xs, hL, hlen, hl24, hfs⟩ := hF
  obtain ⟨fl, hfl⟩ := hL.A
  refine zr_ldcw (v := 2147483647) q2428 dX4_below_0 ?_
  refine zr_istore_n (ls2 := [(0, .ref fa), (1, .int y), (2, .int h), (3, .int 2147483647)]) dX4_below_3 rfl (Nat.le_of_ble_eq_true rfl) rfl ?_
  refine zr_aload_n dX4_below_4 rfl rfl ?_
  refine zr_call51 (rest := []) (zs_F (As := []) (by omega) okF_J2_iterator (by decide +kernel) q2400 q832 q834 q56 q836 hfl rfl rfl rfl (Nat.le_of_ble_eq_true rfl) dX4_below_5) (c_J2_iterator (by omega) hw.1 hL) ?_
  refine zr_astore (ls2 := [(0, .ref fa), (1, .int y), (2, .int h), (3, .int 2147483647), (4, .ref (sZ σ))]) dX4_below_10 (Nat.le_of_ble_eq_true rfl) rfl ?_
  refine l_X4_below (by omega) hG hw hL hlen hfs (Nat.le_refl _) fs 0 _ _ _ rfl (Nat.zero_le _) (zX.new _ hw _ (by omega) _ _) (sF_newS _ _ _ _) (fun σ1 hX1 => ?_)
  show zR G yX4_below cX4_below 6 (Option.some Jvm.ClassFile.FieldType.int) [] d 57 [(0, .ref fa), (1, .int y), (2, .int h), (3, .int (fs.foldl (mBlS y h) 2147483647)), (4, .ref (sZ σ))] [] σ1 _
  refine zr_iload_n dX4_below_57 rfl rfl ?_
  refine zr_ldcw (v := 2147483647) q2428 dX4_below_58 ?_
  refine zr_icmp_ne (tgt := 68) dX4_below_61 (by decide) (fun h1 => ?_) (fun h1 => ?_)
  · refine zr_iload_n dX4_below_68 rfl rfl ?_
    exact zr_iret rfl rfl dX4_below_69 (⟨by rw [show mBelow fs y h = fs.foldl (mBlS y h) 2147483647 from if_neg h1], hX1⟩)
  · refine zr_iload_n dX4_below_64 rfl rfl ?_
    refine zr_goto (tgt := 69) dX4_below_65 (by decide) ?_
    exact zr_iret rfl rfl dX4_below_69 (⟨by rw [show mBelow fs y h = y from if_pos (by first | exact h1 | exact Decidable.not_not.mp h1)], hX1⟩)
