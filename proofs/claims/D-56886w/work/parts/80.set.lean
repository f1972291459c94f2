/-! ===== the component: its setters (rows printed by tools/p80.py) ===== -/
def pSt (c : zCS) (n : Int32) (ok : Bool) (k0 : Nat) (u : Nat → zCS) : (Nat × Value) × zCS :=
  if btw n 0 (nI (kN c) - 1) = true then (if ok = true then ((0, .int (kF c n.toNatClampNeg k0)), u n.toNatClampNeg) else ((2, .null), c)) else ((1, .null), c)
theorem pSt_0 {c : zCS} {n : Int32} {ok : Bool} {k0 : Nat} {u : Nat → zCS} (h : btw n 0 (nI (kN c) - 1) = false) : pSt c n ok k0 u = ((1, .null), c) := by unfold pSt; rw [if_neg (by rw [h]; decide)]
theorem pSt_1 {c : zCS} {i : Nat} {ok : Bool} {k0 : Nat} {u : Nat → zCS} (hN : kN c ≤ 24) (hi : i < kN c) (h : ok = true) : pSt c (nI i) ok k0 u = ((0, .int (kF c i k0)), u i) := by unfold pSt; rw [if_pos (btw_nI (by omega) hi), if_pos h, nI_clamp (by omega)]
theorem pSt_2 {c : zCS} {i : Nat} {ok : Bool} {k0 : Nat} {u : Nat → zCS} (hN : kN c ≤ 24) (hi : i < kN c) (h : ok = false) : pSt c (nI i) ok k0 u = ((2, .null), c) := by unfold pSt; rw [if_pos (btw_nI (by omega) hi), if_neg (by rw [h]; decide)]
theorem fit_z (b : Bool) : fits .boolean (.int (bI b)) = true := by cases b <;> rfl
theorem btw_col {v : Int32} (h : btw v 1 4 = true) : ∃ n, 1 ≤ n ∧ n ≤ 4 ∧ v = nI n := by
  unfold btw at h
  obtain ⟨h1, h2⟩ := (Bool.and_eq_true _ _).mp h
  have h1' : (1 : Int32) ≤ v := of_decide_eq_true h1
  have h2' : v ≤ nI 4 := of_decide_eq_true h2
  obtain ⟨j, hj, e⟩ := nI_of2 (nI_toInt (by omega)) (Int32.not_lt.mpr (Int32.le_trans (by decide) h1')) h2'
  subst e
  have h3 : nI 1 ≤ nI j := h1'
  have := (nI_leI (by omega) (by omega)).mp h3
  exact ⟨j, this, hj, rfl⟩
set_option maxHeartbeats 4000000 in
theorem c_X1_setSize {G : zG} {σ : zT} {d : Nat} {c : zCS} {n a b : Int32} (hd : 20 ≤ d) (hG : zOk G) (hw : zGd G σ) (hS : CSys G σ c) : zCall G I_X1_setSize d [.ref (kA c 1), .int n, .int a, .int b] σ ((fun o σ' => oR o (pSt c n (btw a (-1) 400 && btw b (-1) 400) 6 (fun i => (kTouch (kSetF (kSetF c i 6 a) i 7 b) i))).1 ∧ CSys G σ' (pSt c n (btw a (-1) 400 && btw b (-1) 400) 6 (fun i => (kTouch (kSetF (kSetF c i 6 a) i 7 b) i))).2 ∧ zX G SC σ σ' 10)) := by
  refine zCall_of (ls := [(0, .ref (kA c 1)), (1, .int n), (2, .int a), (3, .int b)]) (by decide) (Nat.le_of_ble_eq_true rfl) rfl ?_
  have hle := hS.le
  by_cases hb : btw n 0 (nI (kN c) - 1) = true
  · obtain ⟨i, hi, rfl⟩ := btw_idx (by omega) hb
    obtain ⟨fl_hfl, hfl⟩ := hS.bxL.A
    refine zr_aload_n dX1_setSize_0 rfl rfl ?_
    refine zr_iload_n dX1_setSize_1 rfl rfl ?_
    refine zr_call1 (rest := []) (zs_V (As := [.int (nI i)]) (by omega) ok_X1_box q1629 q1631 qs28 q53 q1632 rfl hS.one rfl rfl rfl (Nat.le_of_ble_eq_true rfl) dX1_setSize_2) (c_box1 (by omega) hG hw hS hi) ?_
    refine zr_astore (ls2 := [(0, .ref (kA c 1)), (1, .int (nI i)), (2, .int a), (3, .int b), (4, .ref (kA c (rB i)))]) dX1_setSize_5 (Nat.le_of_ble_eq_true rfl) rfl ?_
    have key1 : (btw a (-1) 400 && btw b (-1) 400) = true → zR G yX1_setSize cX1_setSize 6 (Option.some Jvm.ClassFile.FieldType.int) [] d 34 [(0, .ref (kA c 1)), (1, .int (nI i)), (2, .int a), (3, .int b), (4, .ref (kA c (rB i)))] [.int 1] σ (fun o σ' => oR o (pSt c (nI i) (btw a (-1) 400 && btw b (-1) 400) 6 (fun i => (kTouch (kSetF (kSetF c i 6 a) i 7 b) i))).1 ∧ CSys G σ' (pSt c (nI i) (btw a (-1) 400 && btw b (-1) 400) 6 (fun i => (kTouch (kSetF (kSetF c i 6 a) i 7 b) i))).2 ∧ zX G SC σ σ' 10) := by
      intro hok
      refine zr_callv (rest := []) (zs_S (As := [.int 1]) (by omega) ok_X1_requireArgument q1644 q1645 q53 q1646 rfl rfl (Nat.le_of_ble_eq_true rfl) dX1_setSize_34) c_requireArgument1 ?_
      rw [pSt_1 hle hi hok]
      simp only [Bool.and_eq_true] at hok
      refine zr_aload dX1_setSize_37 rfl ?_
      refine zr_getN (k := 6) (v := .int (kF c i 6)) in_X2 (hS.bx hi) rfl (Nat.le_of_ble_eq_true rfl) q243 (.inl rfl) rfl dX1_setSize_39 ?_
      refine zr_istore (ls2 := [(0, .ref (kA c 1)), (1, .int (nI i)), (2, .int a), (3, .int b), (4, .ref (kA c (rB i))), (5, .int (kF c i 6))]) dX1_setSize_42 (Nat.le_of_ble_eq_true rfl) rfl ?_
      refine zr_aload dX1_setSize_44 rfl ?_
      refine zr_iload_n dX1_setSize_46 rfl rfl ?_
      have hv0 : KVal 6 a := (hok.1)
      refine zr_putN (k := 6) (fs' := (kBx (kSetF c i 6 a) i)) zt_X2 (hS.bF hi) rfl (Nat.le_of_ble_eq_true rfl) q243 (.inl rfl) rfl rfl rfl (Nat.le_of_ble_eq_true rfl) (kBx_set6 _ _ _) dX1_setSize_47 ?_
      have hS1 : CSys G (sUp σ (kA c (rB i)) (.inr (2, kBx (kSetF c i 6 a) i))) (kSetF c i 6 a) := hS.setF (k := 6) hi a (hS.2.2.2.setF i hv0)
      have hX1 : zX G SC σ (sUp σ (kA c (rB i)) (.inr (2, kBx (kSetF c i 6 a) i))) 0 := hS.XF hw hi (kBx (kSetF c i 6 a) i)
      generalize hσ1 : sUp σ (kA c (rB i)) (.inr (2, kBx (kSetF c i 6 a) i)) = σ1 at hS1 hX1 ⊢
      have hb1 : zAt G σ1 (kA c (rB i)) (.inr (2, kBx (kSetF c i 6 a) i)) := hS1.bx hi
      refine zr_aload dX1_setSize_50 rfl ?_
      refine zr_iload_n dX1_setSize_52 rfl rfl ?_
      have hv1 : KVal 7 b := (hok.2)
      refine zr_putN (k := 7) (fs' := (kBx (kSetF (kSetF c i 6 a) i 7 b) i)) zt_X2 (hS1.bF hi) rfl (Nat.le_of_ble_eq_true rfl) q247 (.inl rfl) rfl rfl rfl (Nat.le_of_ble_eq_true rfl) (kBx_set7 _ _ _) dX1_setSize_53 ?_
      have hS2 : CSys G (sUp σ1 (kA c (rB i)) (.inr (2, kBx (kSetF (kSetF c i 6 a) i 7 b) i))) (kSetF (kSetF c i 6 a) i 7 b) := hS1.setF (k := 7) hi b (hS1.2.2.2.setF i hv1)
      have hX2 : zX G SC σ (sUp σ1 (kA c (rB i)) (.inr (2, kBx (kSetF (kSetF c i 6 a) i 7 b) i))) 0 := hX1.trans (hS1.XF hX1.gd hi (kBx (kSetF (kSetF c i 6 a) i 7 b) i))
      generalize hσ2 : sUp σ1 (kA c (rB i)) (.inr (2, kBx (kSetF (kSetF c i 6 a) i 7 b) i)) = σ2 at hS2 hX2 ⊢
      have hb2 : zAt G σ2 (kA c (rB i)) (.inr (2, kBx (kSetF (kSetF c i 6 a) i 7 b) i)) := hS2.bx hi
      refine zr_aload dX1_setSize_56 rfl ?_
      obtain ⟨_, σt, ⟨rfl, hSt, hXt⟩, hCt⟩ := c_X2_touch (d := d - 1) hX2.gd hS2 (i := i) hi
      have hCt : zC G I_X2_touch (d - 1) [.ref (kA c (rB i))] σ2 _ σt := hCt
      refine zr_callv (rest := []) (zs_V (As := []) (by omega) ok_X2_touch q1688 q1689 q1690 q57 q1691 rfl hb2 rfl rfl rfl (Nat.le_of_ble_eq_true rfl) dX1_setSize_58) hCt ?_
      refine zr_iload dX1_setSize_61 rfl ?_
      exact zr_iret rfl rfl dX1_setSize_63 (⟨oR_ok, hSt, (hX2.trans hXt).le (by omega)⟩)
    have key0 : (btw a (-1) 400 && btw b (-1) 400) = false → zR G yX1_setSize cX1_setSize 6 (Option.some Jvm.ClassFile.FieldType.int) [] d 34 [(0, .ref (kA c 1)), (1, .int (nI i)), (2, .int a), (3, .int b), (4, .ref (kA c (rB i)))] [.int 0] σ (fun o σ' => oR o (pSt c (nI i) (btw a (-1) 400 && btw b (-1) 400) 6 (fun i => (kTouch (kSetF (kSetF c i 6 a) i 7 b) i))).1 ∧ CSys G σ' (pSt c (nI i) (btw a (-1) 400 && btw b (-1) 400) 6 (fun i => (kTouch (kSetF (kSetF c i 6 a) i 7 b) i))).2 ∧ zX G SC σ σ' 10) := by
      intro hok0
      rw [pSt_2 hle hi hok0]
      obtain ⟨_, σ1, ⟨q, rfl, hX⟩, hC⟩ := c_requireArgument0 (d := d - 1) (by omega) hG hw
      refine zr_callX (rest := []) (zs_S (As := [.int 0]) (by omega) ok_X1_requireArgument q1644 q1645 q53 q1646 rfl rfl (Nat.le_of_ble_eq_true rfl) dX1_setSize_34) hC ?_
      exact zx_out (by decide) ⟨oR_x (by decide), hS.keep0 hw hX, hX.mono (fun _ h => absurd h (fun h => h))⟩
    refine zr_iload_n dX1_setSize_7 rfl rfl ?_
    refine zr_iconst (v := (-1)) dX1_setSize_8 (by decide) ?_
    refine zr_sipush (v := 400) dX1_setSize_9 (by decide) ?_
    refine zr_call1 (rest := []) (zs_S (As := [.int a, .int (-1), .int 400]) (by omega) ok_X1_isBetween q1633 q1634 q53 q1635 rfl rfl (Nat.le_of_ble_eq_true rfl) dX1_setSize_12) c_X1_isBetween ?_
    refine zr_ifeqB (tgt := 33) dX1_setSize_15 (by decide) (fun c_1 => ?_) (fun c_1 => ?_)
    · refine zr_iconst (v := 0) dX1_setSize_33 (by decide) ?_
      exact key0 (by simp [c_1])
    · refine zr_iload_n dX1_setSize_18 rfl rfl ?_
      refine zr_iconst (v := (-1)) dX1_setSize_19 (by decide) ?_
      refine zr_sipush (v := 400) dX1_setSize_20 (by decide) ?_
      refine zr_call1 (rest := []) (zs_S (As := [.int b, .int (-1), .int 400]) (by omega) ok_X1_isBetween q1633 q1634 q53 q1635 rfl rfl (Nat.le_of_ble_eq_true rfl) dX1_setSize_23) c_X1_isBetween ?_
      refine zr_ifeqB (tgt := 33) dX1_setSize_26 (by decide) (fun c_2 => ?_) (fun c_2 => ?_)
      · refine zr_iconst (v := 0) dX1_setSize_33 (by decide) ?_
        exact key0 (by simp [c_1, c_2])
      · refine zr_iconst (v := 1) dX1_setSize_29 (by decide) ?_
        refine zr_goto (tgt := 34) dX1_setSize_30 (by decide) ?_
        exact key1 (by simp [c_1, c_2])
  · have hb0 : btw n 0 (nI (kN c) - 1) = false := by simpa using hb
    rw [pSt_0 hb0]
    obtain ⟨_, σ1, ⟨q, rfl, hX⟩, hC⟩ := c_box0 (d := d - 1) (by omega) hG hw hS hb0
    obtain ⟨fl_hfl, hfl⟩ := hS.bxL.A
    refine zr_aload_n dX1_setSize_0 rfl rfl ?_
    refine zr_iload_n dX1_setSize_1 rfl rfl ?_
    refine zr_callX (rest := []) (zs_V (As := [.int n]) (by omega) ok_X1_box q1629 q1631 qs28 q53 q1632 rfl hS.one rfl rfl rfl (Nat.le_of_ble_eq_true rfl) dX1_setSize_2) hC ?_
    exact zx_out (by decide) ⟨oR_x (by decide), hS.keep0 hw hX, hX.mono (fun _ h => absurd h (fun h => h))⟩
set_option maxHeartbeats 4000000 in
theorem c_X1_setMargins {G : zG} {σ : zT} {d : Nat} {c : zCS} {n a b e f : Int32} (hd : 20 ≤ d) (hG : zOk G) (hw : zGd G σ) (hS : CSys G σ c) : zCall G I_X1_setMargins d [.ref (kA c 1), .int n, .int a, .int b, .int e, .int f] σ ((fun o σ' => oR o (pSt c n (btw a (-40) 40 && btw b (-40) 40 && btw e 0 40 && btw f 0 40) 8 (fun i => (kTouch (kSetF (kSetF (kSetF (kSetF c i 8 a) i 9 b) i 10 e) i 11 f) i))).1 ∧ CSys G σ' (pSt c n (btw a (-40) 40 && btw b (-40) 40 && btw e 0 40 && btw f 0 40) 8 (fun i => (kTouch (kSetF (kSetF (kSetF (kSetF c i 8 a) i 9 b) i 10 e) i 11 f) i))).2 ∧ zX G SC σ σ' 10)) := by
  refine zCall_of (ls := [(0, .ref (kA c 1)), (1, .int n), (2, .int a), (3, .int b), (4, .int e), (5, .int f)]) (by decide) (Nat.le_of_ble_eq_true rfl) rfl ?_
  have hle := hS.le
  by_cases hb : btw n 0 (nI (kN c) - 1) = true
  · obtain ⟨i, hi, rfl⟩ := btw_idx (by omega) hb
    obtain ⟨fl_hfl, hfl⟩ := hS.bxL.A
    refine zr_aload_n dX1_setMargins_0 rfl rfl ?_
    refine zr_iload_n dX1_setMargins_1 rfl rfl ?_
    refine zr_call1 (rest := []) (zs_V (As := [.int (nI i)]) (by omega) ok_X1_box q1629 q1631 qs28 q53 q1632 rfl hS.one rfl rfl rfl (Nat.le_of_ble_eq_true rfl) dX1_setMargins_2) (c_box1 (by omega) hG hw hS hi) ?_
    refine zr_astore (ls2 := [(0, .ref (kA c 1)), (1, .int (nI i)), (2, .int a), (3, .int b), (4, .int e), (5, .int f), (6, .ref (kA c (rB i)))]) dX1_setMargins_5 (Nat.le_of_ble_eq_true rfl) rfl ?_
    have key1 : (btw a (-40) 40 && btw b (-40) 40 && btw e 0 40 && btw f 0 40) = true → zR G yX1_setMargins cX1_setMargins 8 (Option.some Jvm.ClassFile.FieldType.int) [] d 48 [(0, .ref (kA c 1)), (1, .int (nI i)), (2, .int a), (3, .int b), (4, .int e), (5, .int f), (6, .ref (kA c (rB i)))] [.int 1] σ (fun o σ' => oR o (pSt c (nI i) (btw a (-40) 40 && btw b (-40) 40 && btw e 0 40 && btw f 0 40) 8 (fun i => (kTouch (kSetF (kSetF (kSetF (kSetF c i 8 a) i 9 b) i 10 e) i 11 f) i))).1 ∧ CSys G σ' (pSt c (nI i) (btw a (-40) 40 && btw b (-40) 40 && btw e 0 40 && btw f 0 40) 8 (fun i => (kTouch (kSetF (kSetF (kSetF (kSetF c i 8 a) i 9 b) i 10 e) i 11 f) i))).2 ∧ zX G SC σ σ' 10) := by
      intro hok
      refine zr_callv (rest := []) (zs_S (As := [.int 1]) (by omega) ok_X1_requireArgument q1644 q1645 q53 q1646 rfl rfl (Nat.le_of_ble_eq_true rfl) dX1_setMargins_48) c_requireArgument1 ?_
      rw [pSt_1 hle hi hok]
      simp only [Bool.and_eq_true] at hok
      refine zr_aload dX1_setMargins_51 rfl ?_
      refine zr_getN (k := 8) (v := .int (kF c i 8)) in_X2 (hS.bx hi) rfl (Nat.le_of_ble_eq_true rfl) q249 (.inl rfl) rfl dX1_setMargins_53 ?_
      refine zr_istore (ls2 := [(0, .ref (kA c 1)), (1, .int (nI i)), (2, .int a), (3, .int b), (4, .int e), (5, .int f), (6, .ref (kA c (rB i))), (7, .int (kF c i 8))]) dX1_setMargins_56 (Nat.le_of_ble_eq_true rfl) rfl ?_
      refine zr_aload dX1_setMargins_58 rfl ?_
      refine zr_iload_n dX1_setMargins_60 rfl rfl ?_
      have hv0 : KVal 8 a := (hok.1.1.1)
      refine zr_putN (k := 8) (fs' := (kBx (kSetF c i 8 a) i)) zt_X2 (hS.bF hi) rfl (Nat.le_of_ble_eq_true rfl) q249 (.inl rfl) rfl rfl rfl (Nat.le_of_ble_eq_true rfl) (kBx_set8 _ _ _) dX1_setMargins_61 ?_
      have hS1 : CSys G (sUp σ (kA c (rB i)) (.inr (2, kBx (kSetF c i 8 a) i))) (kSetF c i 8 a) := hS.setF (k := 8) hi a (hS.2.2.2.setF i hv0)
      have hX1 : zX G SC σ (sUp σ (kA c (rB i)) (.inr (2, kBx (kSetF c i 8 a) i))) 0 := hS.XF hw hi (kBx (kSetF c i 8 a) i)
      generalize hσ1 : sUp σ (kA c (rB i)) (.inr (2, kBx (kSetF c i 8 a) i)) = σ1 at hS1 hX1 ⊢
      have hb1 : zAt G σ1 (kA c (rB i)) (.inr (2, kBx (kSetF c i 8 a) i)) := hS1.bx hi
      refine zr_aload dX1_setMargins_64 rfl ?_
      refine zr_iload_n dX1_setMargins_66 rfl rfl ?_
      have hv1 : KVal 9 b := (hok.1.1.2)
      refine zr_putN (k := 9) (fs' := (kBx (kSetF (kSetF c i 8 a) i 9 b) i)) zt_X2 (hS1.bF hi) rfl (Nat.le_of_ble_eq_true rfl) q251 (.inl rfl) rfl rfl rfl (Nat.le_of_ble_eq_true rfl) (kBx_set9 _ _ _) dX1_setMargins_67 ?_
      have hS2 : CSys G (sUp σ1 (kA c (rB i)) (.inr (2, kBx (kSetF (kSetF c i 8 a) i 9 b) i))) (kSetF (kSetF c i 8 a) i 9 b) := hS1.setF (k := 9) hi b (hS1.2.2.2.setF i hv1)
      have hX2 : zX G SC σ (sUp σ1 (kA c (rB i)) (.inr (2, kBx (kSetF (kSetF c i 8 a) i 9 b) i))) 0 := hX1.trans (hS1.XF hX1.gd hi (kBx (kSetF (kSetF c i 8 a) i 9 b) i))
      generalize hσ2 : sUp σ1 (kA c (rB i)) (.inr (2, kBx (kSetF (kSetF c i 8 a) i 9 b) i)) = σ2 at hS2 hX2 ⊢
      have hb2 : zAt G σ2 (kA c (rB i)) (.inr (2, kBx (kSetF (kSetF c i 8 a) i 9 b) i)) := hS2.bx hi
      refine zr_aload dX1_setMargins_70 rfl ?_
      refine zr_iload dX1_setMargins_72 rfl ?_
      have hv2 : KVal 10 e := (hok.1.2)
      refine zr_putN (k := 10) (fs' := (kBx (kSetF (kSetF (kSetF c i 8 a) i 9 b) i 10 e) i)) zt_X2 (hS2.bF hi) rfl (Nat.le_of_ble_eq_true rfl) q254 (.inl rfl) rfl rfl rfl (Nat.le_of_ble_eq_true rfl) (kBx_set10 _ _ _) dX1_setMargins_74 ?_
      have hS3 : CSys G (sUp σ2 (kA c (rB i)) (.inr (2, kBx (kSetF (kSetF (kSetF c i 8 a) i 9 b) i 10 e) i))) (kSetF (kSetF (kSetF c i 8 a) i 9 b) i 10 e) := hS2.setF (k := 10) hi e (hS2.2.2.2.setF i hv2)
      have hX3 : zX G SC σ (sUp σ2 (kA c (rB i)) (.inr (2, kBx (kSetF (kSetF (kSetF c i 8 a) i 9 b) i 10 e) i))) 0 := hX2.trans (hS2.XF hX2.gd hi (kBx (kSetF (kSetF (kSetF c i 8 a) i 9 b) i 10 e) i))
      generalize hσ3 : sUp σ2 (kA c (rB i)) (.inr (2, kBx (kSetF (kSetF (kSetF c i 8 a) i 9 b) i 10 e) i)) = σ3 at hS3 hX3 ⊢
      have hb3 : zAt G σ3 (kA c (rB i)) (.inr (2, kBx (kSetF (kSetF (kSetF c i 8 a) i 9 b) i 10 e) i)) := hS3.bx hi
      refine zr_aload dX1_setMargins_77 rfl ?_
      refine zr_iload dX1_setMargins_79 rfl ?_
      have hv3 : KVal 11 f := (hok.2)
      refine zr_putN (k := 11) (fs' := (kBx (kSetF (kSetF (kSetF (kSetF c i 8 a) i 9 b) i 10 e) i 11 f) i)) zt_X2 (hS3.bF hi) rfl (Nat.le_of_ble_eq_true rfl) q256 (.inl rfl) rfl rfl rfl (Nat.le_of_ble_eq_true rfl) (kBx_set11 _ _ _) dX1_setMargins_81 ?_
      have hS4 : CSys G (sUp σ3 (kA c (rB i)) (.inr (2, kBx (kSetF (kSetF (kSetF (kSetF c i 8 a) i 9 b) i 10 e) i 11 f) i))) (kSetF (kSetF (kSetF (kSetF c i 8 a) i 9 b) i 10 e) i 11 f) := hS3.setF (k := 11) hi f (hS3.2.2.2.setF i hv3)
      have hX4 : zX G SC σ (sUp σ3 (kA c (rB i)) (.inr (2, kBx (kSetF (kSetF (kSetF (kSetF c i 8 a) i 9 b) i 10 e) i 11 f) i))) 0 := hX3.trans (hS3.XF hX3.gd hi (kBx (kSetF (kSetF (kSetF (kSetF c i 8 a) i 9 b) i 10 e) i 11 f) i))
      generalize hσ4 : sUp σ3 (kA c (rB i)) (.inr (2, kBx (kSetF (kSetF (kSetF (kSetF c i 8 a) i 9 b) i 10 e) i 11 f) i)) = σ4 at hS4 hX4 ⊢
      have hb4 : zAt G σ4 (kA c (rB i)) (.inr (2, kBx (kSetF (kSetF (kSetF (kSetF c i 8 a) i 9 b) i 10 e) i 11 f) i)) := hS4.bx hi
      refine zr_aload dX1_setMargins_84 rfl ?_
      obtain ⟨_, σt, ⟨rfl, hSt, hXt⟩, hCt⟩ := c_X2_touch (d := d - 1) hX4.gd hS4 (i := i) hi
      have hCt : zC G I_X2_touch (d - 1) [.ref (kA c (rB i))] σ4 _ σt := hCt
      refine zr_callv (rest := []) (zs_V (As := []) (by omega) ok_X2_touch q1688 q1689 q1690 q57 q1691 rfl hb4 rfl rfl rfl (Nat.le_of_ble_eq_true rfl) dX1_setMargins_86) hCt ?_
      refine zr_iload dX1_setMargins_89 rfl ?_
      exact zr_iret rfl rfl dX1_setMargins_91 (⟨oR_ok, hSt, (hX4.trans hXt).le (by omega)⟩)
    have key0 : (btw a (-40) 40 && btw b (-40) 40 && btw e 0 40 && btw f 0 40) = false → zR G yX1_setMargins cX1_setMargins 8 (Option.some Jvm.ClassFile.FieldType.int) [] d 48 [(0, .ref (kA c 1)), (1, .int (nI i)), (2, .int a), (3, .int b), (4, .int e), (5, .int f), (6, .ref (kA c (rB i)))] [.int 0] σ (fun o σ' => oR o (pSt c (nI i) (btw a (-40) 40 && btw b (-40) 40 && btw e 0 40 && btw f 0 40) 8 (fun i => (kTouch (kSetF (kSetF (kSetF (kSetF c i 8 a) i 9 b) i 10 e) i 11 f) i))).1 ∧ CSys G σ' (pSt c (nI i) (btw a (-40) 40 && btw b (-40) 40 && btw e 0 40 && btw f 0 40) 8 (fun i => (kTouch (kSetF (kSetF (kSetF (kSetF c i 8 a) i 9 b) i 10 e) i 11 f) i))).2 ∧ zX G SC σ σ' 10) := by
      intro hok0
      rw [pSt_2 hle hi hok0]
      obtain ⟨_, σ1, ⟨q, rfl, hX⟩, hC⟩ := c_requireArgument0 (d := d - 1) (by omega) hG hw
      refine zr_callX (rest := []) (zs_S (As := [.int 0]) (by omega) ok_X1_requireArgument q1644 q1645 q53 q1646 rfl rfl (Nat.le_of_ble_eq_true rfl) dX1_setMargins_48) hC ?_
      exact zx_out (by decide) ⟨oR_x (by decide), hS.keep0 hw hX, hX.mono (fun _ h => absurd h (fun h => h))⟩
    refine zr_iload_n dX1_setMargins_7 rfl rfl ?_
    refine zr_bipush (v := (-40)) dX1_setMargins_8 (by decide) ?_
    refine zr_call1 (rest := []) (zs_S (As := [.int a, .int (-40)]) (by omega) ok_X1_isMargin q1733 q1734 q53 q1735 rfl rfl (Nat.le_of_ble_eq_true rfl) dX1_setMargins_10) (c_X1_isMargin (by omega)) ?_
    refine zr_ifeqB (tgt := 47) dX1_setMargins_13 (by decide) (fun c_1 => ?_) (fun c_1 => ?_)
    · refine zr_iconst (v := 0) dX1_setMargins_47 (by decide) ?_
      exact key0 (by simp [c_1])
    · refine zr_iload_n dX1_setMargins_16 rfl rfl ?_
      refine zr_bipush (v := (-40)) dX1_setMargins_17 (by decide) ?_
      refine zr_call1 (rest := []) (zs_S (As := [.int b, .int (-40)]) (by omega) ok_X1_isMargin q1733 q1734 q53 q1735 rfl rfl (Nat.le_of_ble_eq_true rfl) dX1_setMargins_19) (c_X1_isMargin (by omega)) ?_
      refine zr_ifeqB (tgt := 47) dX1_setMargins_22 (by decide) (fun c_2 => ?_) (fun c_2 => ?_)
      · refine zr_iconst (v := 0) dX1_setMargins_47 (by decide) ?_
        exact key0 (by simp [c_1, c_2])
      · refine zr_iload dX1_setMargins_25 rfl ?_
        refine zr_iconst (v := 0) dX1_setMargins_27 (by decide) ?_
        refine zr_call1 (rest := []) (zs_S (As := [.int e, .int 0]) (by omega) ok_X1_isMargin q1733 q1734 q53 q1735 rfl rfl (Nat.le_of_ble_eq_true rfl) dX1_setMargins_28) (c_X1_isMargin (by omega)) ?_
        refine zr_ifeqB (tgt := 47) dX1_setMargins_31 (by decide) (fun c_3 => ?_) (fun c_3 => ?_)
        · refine zr_iconst (v := 0) dX1_setMargins_47 (by decide) ?_
          exact key0 (by simp [c_1, c_2, c_3])
        · refine zr_iload dX1_setMargins_34 rfl ?_
          refine zr_iconst (v := 0) dX1_setMargins_36 (by decide) ?_
          refine zr_call1 (rest := []) (zs_S (As := [.int f, .int 0]) (by omega) ok_X1_isMargin q1733 q1734 q53 q1735 rfl rfl (Nat.le_of_ble_eq_true rfl) dX1_setMargins_37) (c_X1_isMargin (by omega)) ?_
          refine zr_ifeqB (tgt := 47) dX1_setMargins_40 (by decide) (fun c_4 => ?_) (fun c_4 => ?_)
          · refine zr_iconst (v := 0) dX1_setMargins_47 (by decide) ?_
            exact key0 (by simp [c_1, c_2, c_3, c_4])
          · refine zr_iconst (v := 1) dX1_setMargins_43 (by decide) ?_
            refine zr_goto (tgt := 48) dX1_setMargins_44 (by decide) ?_
            exact key1 (by simp [c_1, c_2, c_3, c_4])
  · have hb0 : btw n 0 (nI (kN c) - 1) = false := by simpa using hb
    rw [pSt_0 hb0]
    obtain ⟨_, σ1, ⟨q, rfl, hX⟩, hC⟩ := c_box0 (d := d - 1) (by omega) hG hw hS hb0
    obtain ⟨fl_hfl, hfl⟩ := hS.bxL.A
    refine zr_aload_n dX1_setMargins_0 rfl rfl ?_
    refine zr_iload_n dX1_setMargins_1 rfl rfl ?_
    refine zr_callX (rest := []) (zs_V (As := [.int n]) (by omega) ok_X1_box q1629 q1631 qs28 q53 q1632 rfl hS.one rfl rfl rfl (Nat.le_of_ble_eq_true rfl) dX1_setMargins_2) hC ?_
    exact zx_out (by decide) ⟨oR_x (by decide), hS.keep0 hw hX, hX.mono (fun _ h => absurd h (fun h => h))⟩
set_option maxHeartbeats 4000000 in
theorem c_X1_setPadding {G : zG} {σ : zT} {d : Nat} {c : zCS} {n a : Int32} (hd : 20 ≤ d) (hG : zOk G) (hw : zGd G σ) (hS : CSys G σ c) : zCall G I_X1_setPadding d [.ref (kA c 1), .int n, .int a] σ ((fun o σ' => oR o (pSt c n (btw a 0 20) 12 (fun i => (kTouch (kSetF c i 12 a) i))).1 ∧ CSys G σ' (pSt c n (btw a 0 20) 12 (fun i => (kTouch (kSetF c i 12 a) i))).2 ∧ zX G SC σ σ' 10)) := by
  refine zCall_of (ls := [(0, .ref (kA c 1)), (1, .int n), (2, .int a)]) (by decide) (Nat.le_of_ble_eq_true rfl) rfl ?_
  have hle := hS.le
  by_cases hb : btw n 0 (nI (kN c) - 1) = true
  · obtain ⟨i, hi, rfl⟩ := btw_idx (by omega) hb
    obtain ⟨fl_hfl, hfl⟩ := hS.bxL.A
    refine zr_aload_n dX1_setPadding_0 rfl rfl ?_
    refine zr_iload_n dX1_setPadding_1 rfl rfl ?_
    refine zr_call1 (rest := []) (zs_V (As := [.int (nI i)]) (by omega) ok_X1_box q1629 q1631 qs28 q53 q1632 rfl hS.one rfl rfl rfl (Nat.le_of_ble_eq_true rfl) dX1_setPadding_2) (c_box1 (by omega) hG hw hS hi) ?_
    refine zr_astore_n (ls2 := [(0, .ref (kA c 1)), (1, .int (nI i)), (2, .int a), (3, .ref (kA c (rB i)))]) dX1_setPadding_5 rfl (Nat.le_of_ble_eq_true rfl) rfl ?_
    refine zr_iload_n dX1_setPadding_6 rfl rfl ?_
    refine zr_iconst (v := 0) dX1_setPadding_7 (by decide) ?_
    refine zr_bipush (v := 20) dX1_setPadding_8 (by decide) ?_
    refine zr_call1 (rest := []) (zs_S (As := [.int a, .int 0, .int 20]) (by omega) ok_X1_isBetween q1633 q1634 q53 q1635 rfl rfl (Nat.le_of_ble_eq_true rfl) dX1_setPadding_10) c_X1_isBetween ?_
    by_cases hok : (btw a 0 20) = true
    · refine zr_eqi (z := 1) (by rw [hok]; rfl) ?_
      refine zr_callv (rest := []) (zs_S (As := [.int 1]) (by omega) ok_X1_requireArgument q1644 q1645 q53 q1646 rfl rfl (Nat.le_of_ble_eq_true rfl) dX1_setPadding_13) c_requireArgument1 ?_
      rw [pSt_1 hle hi hok]
      refine zr_aload_n dX1_setPadding_16 rfl rfl ?_
      refine zr_getN (k := 12) (v := .int (kF c i 12)) in_X2 (hS.bx hi) rfl (Nat.le_of_ble_eq_true rfl) q260 (.inl rfl) rfl dX1_setPadding_17 ?_
      refine zr_istore (ls2 := [(0, .ref (kA c 1)), (1, .int (nI i)), (2, .int a), (3, .ref (kA c (rB i))), (4, .int (kF c i 12))]) dX1_setPadding_20 (Nat.le_of_ble_eq_true rfl) rfl ?_
      refine zr_aload_n dX1_setPadding_22 rfl rfl ?_
      refine zr_iload_n dX1_setPadding_23 rfl rfl ?_
      have hv0 : KVal 12 a := hok
      refine zr_putN (k := 12) (fs' := (kBx (kSetF c i 12 a) i)) zt_X2 (hS.bF hi) rfl (Nat.le_of_ble_eq_true rfl) q260 (.inl rfl) rfl rfl rfl (Nat.le_of_ble_eq_true rfl) (kBx_set12 _ _ _) dX1_setPadding_24 ?_
      have hS1 : CSys G (sUp σ (kA c (rB i)) (.inr (2, kBx (kSetF c i 12 a) i))) (kSetF c i 12 a) := hS.setF (k := 12) hi a (hS.2.2.2.setF i hv0)
      have hX1 : zX G SC σ (sUp σ (kA c (rB i)) (.inr (2, kBx (kSetF c i 12 a) i))) 0 := hS.XF hw hi (kBx (kSetF c i 12 a) i)
      generalize hσ1 : sUp σ (kA c (rB i)) (.inr (2, kBx (kSetF c i 12 a) i)) = σ1 at hS1 hX1 ⊢
      have hb1 : zAt G σ1 (kA c (rB i)) (.inr (2, kBx (kSetF c i 12 a) i)) := hS1.bx hi
      refine zr_aload_n dX1_setPadding_27 rfl rfl ?_
      obtain ⟨_, σt, ⟨rfl, hSt, hXt⟩, hCt⟩ := c_X2_touch (d := d - 1) hX1.gd hS1 (i := i) hi
      have hCt : zC G I_X2_touch (d - 1) [.ref (kA c (rB i))] σ1 _ σt := hCt
      refine zr_callv (rest := []) (zs_V (As := []) (by omega) ok_X2_touch q1688 q1689 q1690 q57 q1691 rfl hb1 rfl rfl rfl (Nat.le_of_ble_eq_true rfl) dX1_setPadding_28) hCt ?_
      refine zr_iload dX1_setPadding_31 rfl ?_
      exact zr_iret rfl rfl dX1_setPadding_33 (⟨oR_ok, hSt, (hX1.trans hXt).le (by omega)⟩)
    · have hok0 : (btw a 0 20) = false := by simpa using hok
      rw [pSt_2 hle hi hok0]
      obtain ⟨_, σ1, ⟨q, rfl, hX⟩, hC⟩ := c_requireArgument0 (d := d - 1) (by omega) hG hw
      refine zr_eqi (z := 0) (by rw [hok0]; rfl) ?_
      refine zr_callX (rest := []) (zs_S (As := [.int 0]) (by omega) ok_X1_requireArgument q1644 q1645 q53 q1646 rfl rfl (Nat.le_of_ble_eq_true rfl) dX1_setPadding_13) hC ?_
      exact zx_out (by decide) ⟨oR_x (by decide), hS.keep0 hw hX, hX.mono (fun _ h => absurd h (fun h => h))⟩
  · have hb0 : btw n 0 (nI (kN c) - 1) = false := by simpa using hb
    rw [pSt_0 hb0]
    obtain ⟨_, σ1, ⟨q, rfl, hX⟩, hC⟩ := c_box0 (d := d - 1) (by omega) hG hw hS hb0
    obtain ⟨fl_hfl, hfl⟩ := hS.bxL.A
    refine zr_aload_n dX1_setPadding_0 rfl rfl ?_
    refine zr_iload_n dX1_setPadding_1 rfl rfl ?_
    refine zr_callX (rest := []) (zs_V (As := [.int n]) (by omega) ok_X1_box q1629 q1631 qs28 q53 q1632 rfl hS.one rfl rfl rfl (Nat.le_of_ble_eq_true rfl) dX1_setPadding_2) hC ?_
    exact zx_out (by decide) ⟨oR_x (by decide), hS.keep0 hw hX, hX.mono (fun _ h => absurd h (fun h => h))⟩
set_option maxHeartbeats 4000000 in
theorem c_X1_setFactors {G : zG} {σ : zT} {d : Nat} {c : zCS} {n a b : Int32} (hd : 20 ≤ d) (hG : zOk G) (hw : zGd G σ) (hS : CSys G σ c) : zCall G I_X1_setFactors d [.ref (kA c 1), .int n, .int a, .int b] σ ((fun o σ' => oR o (pSt c n (btw a 0 9 && btw b 0 9) 13 (fun i => (kTouch (kSetF (kSetF c i 13 a) i 14 b) i))).1 ∧ CSys G σ' (pSt c n (btw a 0 9 && btw b 0 9) 13 (fun i => (kTouch (kSetF (kSetF c i 13 a) i 14 b) i))).2 ∧ zX G SC σ σ' 10)) := by
  refine zCall_of (ls := [(0, .ref (kA c 1)), (1, .int n), (2, .int a), (3, .int b)]) (by decide) (Nat.le_of_ble_eq_true rfl) rfl ?_
  have hle := hS.le
  by_cases hb : btw n 0 (nI (kN c) - 1) = true
  · obtain ⟨i, hi, rfl⟩ := btw_idx (by omega) hb
    obtain ⟨fl_hfl, hfl⟩ := hS.bxL.A
    refine zr_aload_n dX1_setFactors_0 rfl rfl ?_
    refine zr_iload_n dX1_setFactors_1 rfl rfl ?_
    refine zr_call1 (rest := []) (zs_V (As := [.int (nI i)]) (by omega) ok_X1_box q1629 q1631 qs28 q53 q1632 rfl hS.one rfl rfl rfl (Nat.le_of_ble_eq_true rfl) dX1_setFactors_2) (c_box1 (by omega) hG hw hS hi) ?_
    refine zr_astore (ls2 := [(0, .ref (kA c 1)), (1, .int (nI i)), (2, .int a), (3, .int b), (4, .ref (kA c (rB i)))]) dX1_setFactors_5 (Nat.le_of_ble_eq_true rfl) rfl ?_
    have key1 : (btw a 0 9 && btw b 0 9) = true → zR G yX1_setFactors cX1_setFactors 6 (Option.some Jvm.ClassFile.FieldType.int) [] d 32 [(0, .ref (kA c 1)), (1, .int (nI i)), (2, .int a), (3, .int b), (4, .ref (kA c (rB i)))] [.int 1] σ (fun o σ' => oR o (pSt c (nI i) (btw a 0 9 && btw b 0 9) 13 (fun i => (kTouch (kSetF (kSetF c i 13 a) i 14 b) i))).1 ∧ CSys G σ' (pSt c (nI i) (btw a 0 9 && btw b 0 9) 13 (fun i => (kTouch (kSetF (kSetF c i 13 a) i 14 b) i))).2 ∧ zX G SC σ σ' 10) := by
      intro hok
      refine zr_callv (rest := []) (zs_S (As := [.int 1]) (by omega) ok_X1_requireArgument q1644 q1645 q53 q1646 rfl rfl (Nat.le_of_ble_eq_true rfl) dX1_setFactors_32) c_requireArgument1 ?_
      rw [pSt_1 hle hi hok]
      simp only [Bool.and_eq_true] at hok
      refine zr_aload dX1_setFactors_35 rfl ?_
      refine zr_getN (k := 13) (v := .int (kF c i 13)) in_X2 (hS.bx hi) rfl (Nat.le_of_ble_eq_true rfl) q263 (.inl rfl) rfl dX1_setFactors_37 ?_
      refine zr_istore (ls2 := [(0, .ref (kA c 1)), (1, .int (nI i)), (2, .int a), (3, .int b), (4, .ref (kA c (rB i))), (5, .int (kF c i 13))]) dX1_setFactors_40 (Nat.le_of_ble_eq_true rfl) rfl ?_
      refine zr_aload dX1_setFactors_42 rfl ?_
      refine zr_iload_n dX1_setFactors_44 rfl rfl ?_
      have hv0 : KVal 13 a := (hok.1)
      refine zr_putN (k := 13) (fs' := (kBx (kSetF c i 13 a) i)) zt_X2 (hS.bF hi) rfl (Nat.le_of_ble_eq_true rfl) q263 (.inl rfl) rfl rfl rfl (Nat.le_of_ble_eq_true rfl) (kBx_set13 _ _ _) dX1_setFactors_45 ?_
      have hS1 : CSys G (sUp σ (kA c (rB i)) (.inr (2, kBx (kSetF c i 13 a) i))) (kSetF c i 13 a) := hS.setF (k := 13) hi a (hS.2.2.2.setF i hv0)
      have hX1 : zX G SC σ (sUp σ (kA c (rB i)) (.inr (2, kBx (kSetF c i 13 a) i))) 0 := hS.XF hw hi (kBx (kSetF c i 13 a) i)
      generalize hσ1 : sUp σ (kA c (rB i)) (.inr (2, kBx (kSetF c i 13 a) i)) = σ1 at hS1 hX1 ⊢
      have hb1 : zAt G σ1 (kA c (rB i)) (.inr (2, kBx (kSetF c i 13 a) i)) := hS1.bx hi
      refine zr_aload dX1_setFactors_48 rfl ?_
      refine zr_iload_n dX1_setFactors_50 rfl rfl ?_
      have hv1 : KVal 14 b := (hok.2)
      refine zr_putN (k := 14) (fs' := (kBx (kSetF (kSetF c i 13 a) i 14 b) i)) zt_X2 (hS1.bF hi) rfl (Nat.le_of_ble_eq_true rfl) q266 (.inl rfl) rfl rfl rfl (Nat.le_of_ble_eq_true rfl) (kBx_set14 _ _ _) dX1_setFactors_51 ?_
      have hS2 : CSys G (sUp σ1 (kA c (rB i)) (.inr (2, kBx (kSetF (kSetF c i 13 a) i 14 b) i))) (kSetF (kSetF c i 13 a) i 14 b) := hS1.setF (k := 14) hi b (hS1.2.2.2.setF i hv1)
      have hX2 : zX G SC σ (sUp σ1 (kA c (rB i)) (.inr (2, kBx (kSetF (kSetF c i 13 a) i 14 b) i))) 0 := hX1.trans (hS1.XF hX1.gd hi (kBx (kSetF (kSetF c i 13 a) i 14 b) i))
      generalize hσ2 : sUp σ1 (kA c (rB i)) (.inr (2, kBx (kSetF (kSetF c i 13 a) i 14 b) i)) = σ2 at hS2 hX2 ⊢
      have hb2 : zAt G σ2 (kA c (rB i)) (.inr (2, kBx (kSetF (kSetF c i 13 a) i 14 b) i)) := hS2.bx hi
      refine zr_aload dX1_setFactors_54 rfl ?_
      obtain ⟨_, σt, ⟨rfl, hSt, hXt⟩, hCt⟩ := c_X2_touch (d := d - 1) hX2.gd hS2 (i := i) hi
      have hCt : zC G I_X2_touch (d - 1) [.ref (kA c (rB i))] σ2 _ σt := hCt
      refine zr_callv (rest := []) (zs_V (As := []) (by omega) ok_X2_touch q1688 q1689 q1690 q57 q1691 rfl hb2 rfl rfl rfl (Nat.le_of_ble_eq_true rfl) dX1_setFactors_56) hCt ?_
      refine zr_iload dX1_setFactors_59 rfl ?_
      exact zr_iret rfl rfl dX1_setFactors_61 (⟨oR_ok, hSt, (hX2.trans hXt).le (by omega)⟩)
    have key0 : (btw a 0 9 && btw b 0 9) = false → zR G yX1_setFactors cX1_setFactors 6 (Option.some Jvm.ClassFile.FieldType.int) [] d 32 [(0, .ref (kA c 1)), (1, .int (nI i)), (2, .int a), (3, .int b), (4, .ref (kA c (rB i)))] [.int 0] σ (fun o σ' => oR o (pSt c (nI i) (btw a 0 9 && btw b 0 9) 13 (fun i => (kTouch (kSetF (kSetF c i 13 a) i 14 b) i))).1 ∧ CSys G σ' (pSt c (nI i) (btw a 0 9 && btw b 0 9) 13 (fun i => (kTouch (kSetF (kSetF c i 13 a) i 14 b) i))).2 ∧ zX G SC σ σ' 10) := by
      intro hok0
      rw [pSt_2 hle hi hok0]
      obtain ⟨_, σ1, ⟨q, rfl, hX⟩, hC⟩ := c_requireArgument0 (d := d - 1) (by omega) hG hw
      refine zr_callX (rest := []) (zs_S (As := [.int 0]) (by omega) ok_X1_requireArgument q1644 q1645 q53 q1646 rfl rfl (Nat.le_of_ble_eq_true rfl) dX1_setFactors_32) hC ?_
      exact zx_out (by decide) ⟨oR_x (by decide), hS.keep0 hw hX, hX.mono (fun _ h => absurd h (fun h => h))⟩
    refine zr_iload_n dX1_setFactors_7 rfl rfl ?_
    refine zr_iconst (v := 0) dX1_setFactors_8 (by decide) ?_
    refine zr_bipush (v := 9) dX1_setFactors_9 (by decide) ?_
    refine zr_call1 (rest := []) (zs_S (As := [.int a, .int 0, .int 9]) (by omega) ok_X1_isBetween q1633 q1634 q53 q1635 rfl rfl (Nat.le_of_ble_eq_true rfl) dX1_setFactors_11) c_X1_isBetween ?_
    refine zr_ifeqB (tgt := 31) dX1_setFactors_14 (by decide) (fun c_1 => ?_) (fun c_1 => ?_)
    · refine zr_iconst (v := 0) dX1_setFactors_31 (by decide) ?_
      exact key0 (by simp [c_1])
    · refine zr_iload_n dX1_setFactors_17 rfl rfl ?_
      refine zr_iconst (v := 0) dX1_setFactors_18 (by decide) ?_
      refine zr_bipush (v := 9) dX1_setFactors_19 (by decide) ?_
      refine zr_call1 (rest := []) (zs_S (As := [.int b, .int 0, .int 9]) (by omega) ok_X1_isBetween q1633 q1634 q53 q1635 rfl rfl (Nat.le_of_ble_eq_true rfl) dX1_setFactors_21) c_X1_isBetween ?_
      refine zr_ifeqB (tgt := 31) dX1_setFactors_24 (by decide) (fun c_2 => ?_) (fun c_2 => ?_)
      · refine zr_iconst (v := 0) dX1_setFactors_31 (by decide) ?_
        exact key0 (by simp [c_1, c_2])
      · refine zr_iconst (v := 1) dX1_setFactors_27 (by decide) ?_
        refine zr_goto (tgt := 32) dX1_setFactors_28 (by decide) ?_
        exact key1 (by simp [c_1, c_2])
  · have hb0 : btw n 0 (nI (kN c) - 1) = false := by simpa using hb
    rw [pSt_0 hb0]
    obtain ⟨_, σ1, ⟨q, rfl, hX⟩, hC⟩ := c_box0 (d := d - 1) (by omega) hG hw hS hb0
    obtain ⟨fl_hfl, hfl⟩ := hS.bxL.A
    refine zr_aload_n dX1_setFactors_0 rfl rfl ?_
    refine zr_iload_n dX1_setFactors_1 rfl rfl ?_
    refine zr_callX (rest := []) (zs_V (As := [.int n]) (by omega) ok_X1_box q1629 q1631 qs28 q53 q1632 rfl hS.one rfl rfl rfl (Nat.le_of_ble_eq_true rfl) dX1_setFactors_2) hC ?_
    exact zx_out (by decide) ⟨oR_x (by decide), hS.keep0 hw hX, hX.mono (fun _ h => absurd h (fun h => h))⟩
set_option maxHeartbeats 4000000 in
theorem c_X1_setColumns {G : zG} {σ : zT} {d : Nat} {c : zCS} {n a : Int32} (hd : 20 ≤ d) (hG : zOk G) (hw : zGd G σ) (hS : CSys G σ c) : zCall G I_X1_setColumns d [.ref (kA c 1), .int n, .int a] σ ((fun o σ' => oR o (pSt c n (btw a 1 4) 15 (fun i => (kTouch (kSetF c i 15 a) i))).1 ∧ CSys G σ' (pSt c n (btw a 1 4) 15 (fun i => (kTouch (kSetF c i 15 a) i))).2 ∧ zX G SC σ σ' 10)) := by
  refine zCall_of (ls := [(0, .ref (kA c 1)), (1, .int n), (2, .int a)]) (by decide) (Nat.le_of_ble_eq_true rfl) rfl ?_
  have hle := hS.le
  by_cases hb : btw n 0 (nI (kN c) - 1) = true
  · obtain ⟨i, hi, rfl⟩ := btw_idx (by omega) hb
    obtain ⟨fl_hfl, hfl⟩ := hS.bxL.A
    refine zr_aload_n dX1_setColumns_0 rfl rfl ?_
    refine zr_iload_n dX1_setColumns_1 rfl rfl ?_
    refine zr_call1 (rest := []) (zs_V (As := [.int (nI i)]) (by omega) ok_X1_box q1629 q1631 qs28 q53 q1632 rfl hS.one rfl rfl rfl (Nat.le_of_ble_eq_true rfl) dX1_setColumns_2) (c_box1 (by omega) hG hw hS hi) ?_
    refine zr_astore_n (ls2 := [(0, .ref (kA c 1)), (1, .int (nI i)), (2, .int a), (3, .ref (kA c (rB i)))]) dX1_setColumns_5 rfl (Nat.le_of_ble_eq_true rfl) rfl ?_
    refine zr_iload_n dX1_setColumns_6 rfl rfl ?_
    refine zr_iconst (v := 1) dX1_setColumns_7 (by decide) ?_
    refine zr_iconst (v := 4) dX1_setColumns_8 (by decide) ?_
    refine zr_call1 (rest := []) (zs_S (As := [.int a, .int 1, .int 4]) (by omega) ok_X1_isBetween q1633 q1634 q53 q1635 rfl rfl (Nat.le_of_ble_eq_true rfl) dX1_setColumns_9) c_X1_isBetween ?_
    by_cases hok : (btw a 1 4) = true
    · refine zr_eqi (z := 1) (by rw [hok]; rfl) ?_
      refine zr_callv (rest := []) (zs_S (As := [.int 1]) (by omega) ok_X1_requireArgument q1644 q1645 q53 q1646 rfl rfl (Nat.le_of_ble_eq_true rfl) dX1_setColumns_12) c_requireArgument1 ?_
      rw [pSt_1 hle hi hok]
      refine zr_aload_n dX1_setColumns_15 rfl rfl ?_
      refine zr_getN (k := 15) (v := .int (kF c i 15)) in_X2 (hS.bx hi) rfl (Nat.le_of_ble_eq_true rfl) q268 (.inl rfl) rfl dX1_setColumns_16 ?_
      refine zr_istore (ls2 := [(0, .ref (kA c 1)), (1, .int (nI i)), (2, .int a), (3, .ref (kA c (rB i))), (4, .int (kF c i 15))]) dX1_setColumns_19 (Nat.le_of_ble_eq_true rfl) rfl ?_
      refine zr_aload_n dX1_setColumns_21 rfl rfl ?_
      refine zr_iload_n dX1_setColumns_22 rfl rfl ?_
      have hv0 : KVal 15 a := (btw_col hok)
      refine zr_putN (k := 15) (fs' := (kBx (kSetF c i 15 a) i)) zt_X2 (hS.bF hi) rfl (Nat.le_of_ble_eq_true rfl) q268 (.inl rfl) rfl rfl rfl (Nat.le_of_ble_eq_true rfl) (kBx_set15 _ _ _) dX1_setColumns_23 ?_
      have hS1 : CSys G (sUp σ (kA c (rB i)) (.inr (2, kBx (kSetF c i 15 a) i))) (kSetF c i 15 a) := hS.setF (k := 15) hi a (hS.2.2.2.setF i hv0)
      have hX1 : zX G SC σ (sUp σ (kA c (rB i)) (.inr (2, kBx (kSetF c i 15 a) i))) 0 := hS.XF hw hi (kBx (kSetF c i 15 a) i)
      generalize hσ1 : sUp σ (kA c (rB i)) (.inr (2, kBx (kSetF c i 15 a) i)) = σ1 at hS1 hX1 ⊢
      have hb1 : zAt G σ1 (kA c (rB i)) (.inr (2, kBx (kSetF c i 15 a) i)) := hS1.bx hi
      refine zr_aload_n dX1_setColumns_26 rfl rfl ?_
      obtain ⟨_, σt, ⟨rfl, hSt, hXt⟩, hCt⟩ := c_X2_touch (d := d - 1) hX1.gd hS1 (i := i) hi
      have hCt : zC G I_X2_touch (d - 1) [.ref (kA c (rB i))] σ1 _ σt := hCt
      refine zr_callv (rest := []) (zs_V (As := []) (by omega) ok_X2_touch q1688 q1689 q1690 q57 q1691 rfl hb1 rfl rfl rfl (Nat.le_of_ble_eq_true rfl) dX1_setColumns_27) hCt ?_
      refine zr_iload dX1_setColumns_30 rfl ?_
      exact zr_iret rfl rfl dX1_setColumns_32 (⟨oR_ok, hSt, (hX1.trans hXt).le (by omega)⟩)
    · have hok0 : (btw a 1 4) = false := by simpa using hok
      rw [pSt_2 hle hi hok0]
      obtain ⟨_, σ1, ⟨q, rfl, hX⟩, hC⟩ := c_requireArgument0 (d := d - 1) (by omega) hG hw
      refine zr_eqi (z := 0) (by rw [hok0]; rfl) ?_
      refine zr_callX (rest := []) (zs_S (As := [.int 0]) (by omega) ok_X1_requireArgument q1644 q1645 q53 q1646 rfl rfl (Nat.le_of_ble_eq_true rfl) dX1_setColumns_12) hC ?_
      exact zx_out (by decide) ⟨oR_x (by decide), hS.keep0 hw hX, hX.mono (fun _ h => absurd h (fun h => h))⟩
  · have hb0 : btw n 0 (nI (kN c) - 1) = false := by simpa using hb
    rw [pSt_0 hb0]
    obtain ⟨_, σ1, ⟨q, rfl, hX⟩, hC⟩ := c_box0 (d := d - 1) (by omega) hG hw hS hb0
    obtain ⟨fl_hfl, hfl⟩ := hS.bxL.A
    refine zr_aload_n dX1_setColumns_0 rfl rfl ?_
    refine zr_iload_n dX1_setColumns_1 rfl rfl ?_
    refine zr_callX (rest := []) (zs_V (As := [.int n]) (by omega) ok_X1_box q1629 q1631 qs28 q53 q1632 rfl hS.one rfl rfl rfl (Nat.le_of_ble_eq_true rfl) dX1_setColumns_2) hC ?_
    exact zx_out (by decide) ⟨oR_x (by decide), hS.keep0 hw hX, hX.mono (fun _ h => absurd h (fun h => h))⟩
set_option maxHeartbeats 4000000 in
theorem c_X1_setFloat {G : zG} {σ : zT} {d : Nat} {c : zCS} {n a : Int32} (hd : 20 ≤ d) (hG : zOk G) (hw : zGd G σ) (hS : CSys G σ c) : zCall G I_X1_setFloat d [.ref (kA c 1), .int n, .int a] σ ((fun o σ' => oR o (pSt c n ((decide (a = 110) || decide (a = 108) || decide (a = 114))) 16 (fun i => (kTouch (kSetF c i 16 a) i))).1 ∧ CSys G σ' (pSt c n ((decide (a = 110) || decide (a = 108) || decide (a = 114))) 16 (fun i => (kTouch (kSetF c i 16 a) i))).2 ∧ zX G SC σ σ' 10)) := by
  refine zCall_of (ls := [(0, .ref (kA c 1)), (1, .int n), (2, .int a)]) (by decide) (Nat.le_of_ble_eq_true rfl) rfl ?_
  have hle := hS.le
  by_cases hb : btw n 0 (nI (kN c) - 1) = true
  · obtain ⟨i, hi, rfl⟩ := btw_idx (by omega) hb
    obtain ⟨fl_hfl, hfl⟩ := hS.bxL.A
    refine zr_aload_n dX1_setFloat_0 rfl rfl ?_
    refine zr_iload_n dX1_setFloat_1 rfl rfl ?_
    refine zr_call1 (rest := []) (zs_V (As := [.int (nI i)]) (by omega) ok_X1_box q1629 q1631 qs28 q53 q1632 rfl hS.one rfl rfl rfl (Nat.le_of_ble_eq_true rfl) dX1_setFloat_2) (c_box1 (by omega) hG hw hS hi) ?_
    refine zr_astore_n (ls2 := [(0, .ref (kA c 1)), (1, .int (nI i)), (2, .int a), (3, .ref (kA c (rB i)))]) dX1_setFloat_5 rfl (Nat.le_of_ble_eq_true rfl) rfl ?_
    have key1 : ((decide (a = 110) || decide (a = 108) || decide (a = 114))) = true → zR G yX1_setFloat cX1_setFloat 5 (Option.some Jvm.ClassFile.FieldType.char) [] d 29 [(0, .ref (kA c 1)), (1, .int (nI i)), (2, .int a), (3, .ref (kA c (rB i)))] [.int 1] σ (fun o σ' => oR o (pSt c (nI i) ((decide (a = 110) || decide (a = 108) || decide (a = 114))) 16 (fun i => (kTouch (kSetF c i 16 a) i))).1 ∧ CSys G σ' (pSt c (nI i) ((decide (a = 110) || decide (a = 108) || decide (a = 114))) 16 (fun i => (kTouch (kSetF c i 16 a) i))).2 ∧ zX G SC σ σ' 10) := by
      intro hok
      refine zr_callv (rest := []) (zs_S (As := [.int 1]) (by omega) ok_X1_requireArgument q1644 q1645 q53 q1646 rfl rfl (Nat.le_of_ble_eq_true rfl) dX1_setFloat_29) c_requireArgument1 ?_
      rw [pSt_1 hle hi hok]
      refine zr_aload_n dX1_setFloat_32 rfl rfl ?_
      refine zr_getN (k := 16) (v := .int (kF c i 16)) in_X2 (hS.bx hi) rfl (Nat.le_of_ble_eq_true rfl) q271 (.inl rfl) rfl dX1_setFloat_33 ?_
      refine zr_istore (ls2 := [(0, .ref (kA c 1)), (1, .int (nI i)), (2, .int a), (3, .ref (kA c (rB i))), (4, .int (kF c i 16))]) dX1_setFloat_36 (Nat.le_of_ble_eq_true rfl) rfl ?_
      refine zr_aload_n dX1_setFloat_38 rfl rfl ?_
      refine zr_iload_n dX1_setFloat_39 rfl rfl ?_
      have hv0 : KVal 16 a := (by simp only [Bool.or_eq_true, decide_eq_true_eq, or_assoc] at hok; exact hok)
      refine zr_putN (k := 16) (fs' := (kBx (kSetF c i 16 a) i)) zt_X2 (hS.bF hi) rfl (Nat.le_of_ble_eq_true rfl) q271 (.inl rfl) rfl (by rcases hv0 with h | h | h <;> rw [h] <;> rfl) (by rcases hv0 with h | h | h <;> rw [h] <;> rfl) (Nat.le_of_ble_eq_true rfl) (kBx_set16 _ _ _) dX1_setFloat_40 ?_
      have hS1 : CSys G (sUp σ (kA c (rB i)) (.inr (2, kBx (kSetF c i 16 a) i))) (kSetF c i 16 a) := hS.setF (k := 16) hi a (hS.2.2.2.setF i hv0)
      have hX1 : zX G SC σ (sUp σ (kA c (rB i)) (.inr (2, kBx (kSetF c i 16 a) i))) 0 := hS.XF hw hi (kBx (kSetF c i 16 a) i)
      generalize hσ1 : sUp σ (kA c (rB i)) (.inr (2, kBx (kSetF c i 16 a) i)) = σ1 at hS1 hX1 ⊢
      have hb1 : zAt G σ1 (kA c (rB i)) (.inr (2, kBx (kSetF c i 16 a) i)) := hS1.bx hi
      refine zr_aload_n dX1_setFloat_43 rfl rfl ?_
      obtain ⟨_, σt, ⟨rfl, hSt, hXt⟩, hCt⟩ := c_X2_touch (d := d - 1) hX1.gd hS1 (i := i) hi
      have hCt : zC G I_X2_touch (d - 1) [.ref (kA c (rB i))] σ1 _ σt := hCt
      refine zr_callv (rest := []) (zs_V (As := []) (by omega) ok_X2_touch q1688 q1689 q1690 q57 q1691 rfl hb1 rfl rfl rfl (Nat.le_of_ble_eq_true rfl) dX1_setFloat_44) hCt ?_
      refine zr_iload dX1_setFloat_47 rfl ?_
      exact zr_iret rfl (by rcases hS.val hi 16 with h | h | h <;> rw [h] <;> rfl) dX1_setFloat_49 (⟨oR_ok, hSt, (hX1.trans hXt).le (by omega)⟩)
    have key0 : ((decide (a = 110) || decide (a = 108) || decide (a = 114))) = false → zR G yX1_setFloat cX1_setFloat 5 (Option.some Jvm.ClassFile.FieldType.char) [] d 29 [(0, .ref (kA c 1)), (1, .int (nI i)), (2, .int a), (3, .ref (kA c (rB i)))] [.int 0] σ (fun o σ' => oR o (pSt c (nI i) ((decide (a = 110) || decide (a = 108) || decide (a = 114))) 16 (fun i => (kTouch (kSetF c i 16 a) i))).1 ∧ CSys G σ' (pSt c (nI i) ((decide (a = 110) || decide (a = 108) || decide (a = 114))) 16 (fun i => (kTouch (kSetF c i 16 a) i))).2 ∧ zX G SC σ σ' 10) := by
      intro hok0
      rw [pSt_2 hle hi hok0]
      obtain ⟨_, σ1, ⟨q, rfl, hX⟩, hC⟩ := c_requireArgument0 (d := d - 1) (by omega) hG hw
      refine zr_callX (rest := []) (zs_S (As := [.int 0]) (by omega) ok_X1_requireArgument q1644 q1645 q53 q1646 rfl rfl (Nat.le_of_ble_eq_true rfl) dX1_setFloat_29) hC ?_
      exact zx_out (by decide) ⟨oR_x (by decide), hS.keep0 hw hX, hX.mono (fun _ h => absurd h (fun h => h))⟩
    refine zr_iload_n dX1_setFloat_6 rfl rfl ?_
    refine zr_bipush (v := 110) dX1_setFloat_7 (by decide) ?_
    refine zr_icmp_eq (tgt := 24) dX1_setFloat_9 (by decide) (fun c_1 => ?_) (fun c_1 => ?_)
    · refine zr_iconst (v := 1) dX1_setFloat_24 (by decide) ?_
      refine zr_goto (tgt := 29) dX1_setFloat_25 (by decide) ?_
      exact key1 (by simp [c_1])
    · refine zr_iload_n dX1_setFloat_12 rfl rfl ?_
      refine zr_bipush (v := 108) dX1_setFloat_13 (by decide) ?_
      refine zr_icmp_eq (tgt := 24) dX1_setFloat_15 (by decide) (fun c_2 => ?_) (fun c_2 => ?_)
      · refine zr_iconst (v := 1) dX1_setFloat_24 (by decide) ?_
        refine zr_goto (tgt := 29) dX1_setFloat_25 (by decide) ?_
        exact key1 (by simp [c_1, c_2])
      · refine zr_iload_n dX1_setFloat_18 rfl rfl ?_
        refine zr_bipush (v := 114) dX1_setFloat_19 (by decide) ?_
        refine zr_icmp_ne (tgt := 28) dX1_setFloat_21 (by decide) (fun c_3 => ?_) (fun c_3 => ?_)
        · refine zr_iconst (v := 0) dX1_setFloat_28 (by decide) ?_
          exact key0 (by simp [c_1, c_2, c_3])
        · refine zr_iconst (v := 1) dX1_setFloat_24 (by decide) ?_
          refine zr_goto (tgt := 29) dX1_setFloat_25 (by decide) ?_
          exact key1 (by simp [c_1, c_2, c_3])
  · have hb0 : btw n 0 (nI (kN c) - 1) = false := by simpa using hb
    rw [pSt_0 hb0]
    obtain ⟨_, σ1, ⟨q, rfl, hX⟩, hC⟩ := c_box0 (d := d - 1) (by omega) hG hw hS hb0
    obtain ⟨fl_hfl, hfl⟩ := hS.bxL.A
    refine zr_aload_n dX1_setFloat_0 rfl rfl ?_
    refine zr_iload_n dX1_setFloat_1 rfl rfl ?_
    refine zr_callX (rest := []) (zs_V (As := [.int n]) (by omega) ok_X1_box q1629 q1631 qs28 q53 q1632 rfl hS.one rfl rfl rfl (Nat.le_of_ble_eq_true rfl) dX1_setFloat_2) hC ?_
    exact zx_out (by decide) ⟨oR_x (by decide), hS.keep0 hw hX, hX.mono (fun _ h => absurd h (fun h => h))⟩
set_option maxHeartbeats 4000000 in
theorem c_X1_setPlace {G : zG} {σ : zT} {d : Nat} {c : zCS} {n a b e : Int32} (hd : 20 ≤ d) (hG : zOk G) (hw : zGd G σ) (hS : CSys G σ c) : zCall G I_X1_setPlace d [.ref (kA c 1), .int n, .int a, .int b, .int e] σ ((fun o σ' => oR o (pSt c n ((decide (a = 115) || decide (a = 114) || decide (a = 97)) && btw b (-100) 100 && btw e (-100) 100) 17 (fun i => (kTouch (kSetF (kSetF (kSetF c i 17 a) i 18 b) i 19 e) i))).1 ∧ CSys G σ' (pSt c n ((decide (a = 115) || decide (a = 114) || decide (a = 97)) && btw b (-100) 100 && btw e (-100) 100) 17 (fun i => (kTouch (kSetF (kSetF (kSetF c i 17 a) i 18 b) i 19 e) i))).2 ∧ zX G SC σ σ' 10)) := by
  refine zCall_of (ls := [(0, .ref (kA c 1)), (1, .int n), (2, .int a), (3, .int b), (4, .int e)]) (by decide) (Nat.le_of_ble_eq_true rfl) rfl ?_
  have hle := hS.le
  by_cases hb : btw n 0 (nI (kN c) - 1) = true
  · obtain ⟨i, hi, rfl⟩ := btw_idx (by omega) hb
    obtain ⟨fl_hfl, hfl⟩ := hS.bxL.A
    refine zr_aload_n dX1_setPlace_0 rfl rfl ?_
    refine zr_iload_n dX1_setPlace_1 rfl rfl ?_
    refine zr_call1 (rest := []) (zs_V (As := [.int (nI i)]) (by omega) ok_X1_box q1629 q1631 qs28 q53 q1632 rfl hS.one rfl rfl rfl (Nat.le_of_ble_eq_true rfl) dX1_setPlace_2) (c_box1 (by omega) hG hw hS hi) ?_
    refine zr_astore (ls2 := [(0, .ref (kA c 1)), (1, .int (nI i)), (2, .int a), (3, .int b), (4, .int e), (5, .ref (kA c (rB i)))]) dX1_setPlace_5 (Nat.le_of_ble_eq_true rfl) rfl ?_
    have key1 : ((decide (a = 115) || decide (a = 114) || decide (a = 97)) && btw b (-100) 100 && btw e (-100) 100) = true → zR G yX1_setPlace cX1_setPlace 7 (Option.some Jvm.ClassFile.FieldType.char) [] d 45 [(0, .ref (kA c 1)), (1, .int (nI i)), (2, .int a), (3, .int b), (4, .int e), (5, .ref (kA c (rB i)))] [.int 1] σ (fun o σ' => oR o (pSt c (nI i) ((decide (a = 115) || decide (a = 114) || decide (a = 97)) && btw b (-100) 100 && btw e (-100) 100) 17 (fun i => (kTouch (kSetF (kSetF (kSetF c i 17 a) i 18 b) i 19 e) i))).1 ∧ CSys G σ' (pSt c (nI i) ((decide (a = 115) || decide (a = 114) || decide (a = 97)) && btw b (-100) 100 && btw e (-100) 100) 17 (fun i => (kTouch (kSetF (kSetF (kSetF c i 17 a) i 18 b) i 19 e) i))).2 ∧ zX G SC σ σ' 10) := by
      intro hok
      refine zr_callv (rest := []) (zs_S (As := [.int 1]) (by omega) ok_X1_requireArgument q1644 q1645 q53 q1646 rfl rfl (Nat.le_of_ble_eq_true rfl) dX1_setPlace_45) c_requireArgument1 ?_
      rw [pSt_1 hle hi hok]
      simp only [Bool.and_eq_true] at hok
      refine zr_aload dX1_setPlace_48 rfl ?_
      refine zr_getN (k := 17) (v := .int (kF c i 17)) in_X2 (hS.bx hi) rfl (Nat.le_of_ble_eq_true rfl) q273 (.inl rfl) rfl dX1_setPlace_50 ?_
      refine zr_istore (ls2 := [(0, .ref (kA c 1)), (1, .int (nI i)), (2, .int a), (3, .int b), (4, .int e), (5, .ref (kA c (rB i))), (6, .int (kF c i 17))]) dX1_setPlace_53 (Nat.le_of_ble_eq_true rfl) rfl ?_
      refine zr_aload dX1_setPlace_55 rfl ?_
      refine zr_iload_n dX1_setPlace_57 rfl rfl ?_
      have hv0 : KVal 17 a := (by have h9 := hok.1.1; simp only [Bool.or_eq_true, decide_eq_true_eq, or_assoc] at h9; exact h9)
      refine zr_putN (k := 17) (fs' := (kBx (kSetF c i 17 a) i)) zt_X2 (hS.bF hi) rfl (Nat.le_of_ble_eq_true rfl) q273 (.inl rfl) rfl (by rcases hv0 with h | h | h <;> rw [h] <;> rfl) (by rcases hv0 with h | h | h <;> rw [h] <;> rfl) (Nat.le_of_ble_eq_true rfl) (kBx_set17 _ _ _) dX1_setPlace_58 ?_
      have hS1 : CSys G (sUp σ (kA c (rB i)) (.inr (2, kBx (kSetF c i 17 a) i))) (kSetF c i 17 a) := hS.setF (k := 17) hi a (hS.2.2.2.setF i hv0)
      have hX1 : zX G SC σ (sUp σ (kA c (rB i)) (.inr (2, kBx (kSetF c i 17 a) i))) 0 := hS.XF hw hi (kBx (kSetF c i 17 a) i)
      generalize hσ1 : sUp σ (kA c (rB i)) (.inr (2, kBx (kSetF c i 17 a) i)) = σ1 at hS1 hX1 ⊢
      have hb1 : zAt G σ1 (kA c (rB i)) (.inr (2, kBx (kSetF c i 17 a) i)) := hS1.bx hi
      refine zr_aload dX1_setPlace_61 rfl ?_
      refine zr_iload_n dX1_setPlace_63 rfl rfl ?_
      have hv1 : KVal 18 b := hok.1.2
      refine zr_putN (k := 18) (fs' := (kBx (kSetF (kSetF c i 17 a) i 18 b) i)) zt_X2 (hS1.bF hi) rfl (Nat.le_of_ble_eq_true rfl) q275 (.inl rfl) rfl rfl rfl (Nat.le_of_ble_eq_true rfl) (kBx_set18 _ _ _) dX1_setPlace_64 ?_
      have hS2 : CSys G (sUp σ1 (kA c (rB i)) (.inr (2, kBx (kSetF (kSetF c i 17 a) i 18 b) i))) (kSetF (kSetF c i 17 a) i 18 b) := hS1.setF (k := 18) hi b (hS1.2.2.2.setF i hv1)
      have hX2 : zX G SC σ (sUp σ1 (kA c (rB i)) (.inr (2, kBx (kSetF (kSetF c i 17 a) i 18 b) i))) 0 := hX1.trans (hS1.XF hX1.gd hi (kBx (kSetF (kSetF c i 17 a) i 18 b) i))
      generalize hσ2 : sUp σ1 (kA c (rB i)) (.inr (2, kBx (kSetF (kSetF c i 17 a) i 18 b) i)) = σ2 at hS2 hX2 ⊢
      have hb2 : zAt G σ2 (kA c (rB i)) (.inr (2, kBx (kSetF (kSetF c i 17 a) i 18 b) i)) := hS2.bx hi
      refine zr_aload dX1_setPlace_67 rfl ?_
      refine zr_iload dX1_setPlace_69 rfl ?_
      have hv2 : KVal 19 e := hok.2
      refine zr_putN (k := 19) (fs' := (kBx (kSetF (kSetF (kSetF c i 17 a) i 18 b) i 19 e) i)) zt_X2 (hS2.bF hi) rfl (Nat.le_of_ble_eq_true rfl) q277 (.inl rfl) rfl rfl rfl (Nat.le_of_ble_eq_true rfl) (kBx_set19 _ _ _) dX1_setPlace_71 ?_
      have hS3 : CSys G (sUp σ2 (kA c (rB i)) (.inr (2, kBx (kSetF (kSetF (kSetF c i 17 a) i 18 b) i 19 e) i))) (kSetF (kSetF (kSetF c i 17 a) i 18 b) i 19 e) := hS2.setF (k := 19) hi e (hS2.2.2.2.setF i hv2)
      have hX3 : zX G SC σ (sUp σ2 (kA c (rB i)) (.inr (2, kBx (kSetF (kSetF (kSetF c i 17 a) i 18 b) i 19 e) i))) 0 := hX2.trans (hS2.XF hX2.gd hi (kBx (kSetF (kSetF (kSetF c i 17 a) i 18 b) i 19 e) i))
      generalize hσ3 : sUp σ2 (kA c (rB i)) (.inr (2, kBx (kSetF (kSetF (kSetF c i 17 a) i 18 b) i 19 e) i)) = σ3 at hS3 hX3 ⊢
      have hb3 : zAt G σ3 (kA c (rB i)) (.inr (2, kBx (kSetF (kSetF (kSetF c i 17 a) i 18 b) i 19 e) i)) := hS3.bx hi
      refine zr_aload dX1_setPlace_74 rfl ?_
      obtain ⟨_, σt, ⟨rfl, hSt, hXt⟩, hCt⟩ := c_X2_touch (d := d - 1) hX3.gd hS3 (i := i) hi
      have hCt : zC G I_X2_touch (d - 1) [.ref (kA c (rB i))] σ3 _ σt := hCt
      refine zr_callv (rest := []) (zs_V (As := []) (by omega) ok_X2_touch q1688 q1689 q1690 q57 q1691 rfl hb3 rfl rfl rfl (Nat.le_of_ble_eq_true rfl) dX1_setPlace_76) hCt ?_
      refine zr_iload dX1_setPlace_79 rfl ?_
      exact zr_iret rfl (by rcases hS.val hi 17 with h | h | h <;> rw [h] <;> rfl) dX1_setPlace_81 (⟨oR_ok, hSt, (hX3.trans hXt).le (by omega)⟩)
    have key0 : ((decide (a = 115) || decide (a = 114) || decide (a = 97)) && btw b (-100) 100 && btw e (-100) 100) = false → zR G yX1_setPlace cX1_setPlace 7 (Option.some Jvm.ClassFile.FieldType.char) [] d 45 [(0, .ref (kA c 1)), (1, .int (nI i)), (2, .int a), (3, .int b), (4, .int e), (5, .ref (kA c (rB i)))] [.int 0] σ (fun o σ' => oR o (pSt c (nI i) ((decide (a = 115) || decide (a = 114) || decide (a = 97)) && btw b (-100) 100 && btw e (-100) 100) 17 (fun i => (kTouch (kSetF (kSetF (kSetF c i 17 a) i 18 b) i 19 e) i))).1 ∧ CSys G σ' (pSt c (nI i) ((decide (a = 115) || decide (a = 114) || decide (a = 97)) && btw b (-100) 100 && btw e (-100) 100) 17 (fun i => (kTouch (kSetF (kSetF (kSetF c i 17 a) i 18 b) i 19 e) i))).2 ∧ zX G SC σ σ' 10) := by
      intro hok0
      rw [pSt_2 hle hi hok0]
      obtain ⟨_, σ1, ⟨q, rfl, hX⟩, hC⟩ := c_requireArgument0 (d := d - 1) (by omega) hG hw
      refine zr_callX (rest := []) (zs_S (As := [.int 0]) (by omega) ok_X1_requireArgument q1644 q1645 q53 q1646 rfl rfl (Nat.le_of_ble_eq_true rfl) dX1_setPlace_45) hC ?_
      exact zx_out (by decide) ⟨oR_x (by decide), hS.keep0 hw hX, hX.mono (fun _ h => absurd h (fun h => h))⟩
    refine zr_iload_n dX1_setPlace_7 rfl rfl ?_
    refine zr_bipush (v := 115) dX1_setPlace_8 (by decide) ?_
    refine zr_icmp_eq (tgt := 25) dX1_setPlace_10 (by decide) (fun c_1 => ?_) (fun c_1 => ?_)
    · refine zr_iload_n dX1_setPlace_25 rfl rfl ?_
      refine zr_call1 (rest := []) (zs_S (As := [.int b]) (by omega) ok_X1_isOffset q1771 q1772 q53 q1773 rfl rfl (Nat.le_of_ble_eq_true rfl) dX1_setPlace_26) (c_X1_isOffset (by omega)) ?_
      refine zr_ifeqB (tgt := 44) dX1_setPlace_29 (by decide) (fun c_2 => ?_) (fun c_2 => ?_)
      · refine zr_iconst (v := 0) dX1_setPlace_44 (by decide) ?_
        exact key0 (by simp [c_1, c_2])
      · refine zr_iload dX1_setPlace_32 rfl ?_
        refine zr_call1 (rest := []) (zs_S (As := [.int e]) (by omega) ok_X1_isOffset q1771 q1772 q53 q1773 rfl rfl (Nat.le_of_ble_eq_true rfl) dX1_setPlace_34) (c_X1_isOffset (by omega)) ?_
        refine zr_ifeqB (tgt := 44) dX1_setPlace_37 (by decide) (fun c_3 => ?_) (fun c_3 => ?_)
        · refine zr_iconst (v := 0) dX1_setPlace_44 (by decide) ?_
          exact key0 (by simp [c_1, c_2, c_3])
        · refine zr_iconst (v := 1) dX1_setPlace_40 (by decide) ?_
          refine zr_goto (tgt := 45) dX1_setPlace_41 (by decide) ?_
          exact key1 (by simp [c_1, c_2, c_3])
    · refine zr_iload_n dX1_setPlace_13 rfl rfl ?_
      refine zr_bipush (v := 114) dX1_setPlace_14 (by decide) ?_
      refine zr_icmp_eq (tgt := 25) dX1_setPlace_16 (by decide) (fun c_4 => ?_) (fun c_4 => ?_)
      · refine zr_iload_n dX1_setPlace_25 rfl rfl ?_
        refine zr_call1 (rest := []) (zs_S (As := [.int b]) (by omega) ok_X1_isOffset q1771 q1772 q53 q1773 rfl rfl (Nat.le_of_ble_eq_true rfl) dX1_setPlace_26) (c_X1_isOffset (by omega)) ?_
        refine zr_ifeqB (tgt := 44) dX1_setPlace_29 (by decide) (fun c_5 => ?_) (fun c_5 => ?_)
        · refine zr_iconst (v := 0) dX1_setPlace_44 (by decide) ?_
          exact key0 (by simp [c_1, c_4, c_5])
        · refine zr_iload dX1_setPlace_32 rfl ?_
          refine zr_call1 (rest := []) (zs_S (As := [.int e]) (by omega) ok_X1_isOffset q1771 q1772 q53 q1773 rfl rfl (Nat.le_of_ble_eq_true rfl) dX1_setPlace_34) (c_X1_isOffset (by omega)) ?_
          refine zr_ifeqB (tgt := 44) dX1_setPlace_37 (by decide) (fun c_6 => ?_) (fun c_6 => ?_)
          · refine zr_iconst (v := 0) dX1_setPlace_44 (by decide) ?_
            exact key0 (by simp [c_1, c_4, c_5, c_6])
          · refine zr_iconst (v := 1) dX1_setPlace_40 (by decide) ?_
            refine zr_goto (tgt := 45) dX1_setPlace_41 (by decide) ?_
            exact key1 (by simp [c_1, c_4, c_5, c_6])
      · refine zr_iload_n dX1_setPlace_19 rfl rfl ?_
        refine zr_bipush (v := 97) dX1_setPlace_20 (by decide) ?_
        refine zr_icmp_ne (tgt := 44) dX1_setPlace_22 (by decide) (fun c_7 => ?_) (fun c_7 => ?_)
        · refine zr_iconst (v := 0) dX1_setPlace_44 (by decide) ?_
          exact key0 (by simp [c_1, c_4, c_7])
        · refine zr_iload_n dX1_setPlace_25 rfl rfl ?_
          refine zr_call1 (rest := []) (zs_S (As := [.int b]) (by omega) ok_X1_isOffset q1771 q1772 q53 q1773 rfl rfl (Nat.le_of_ble_eq_true rfl) dX1_setPlace_26) (c_X1_isOffset (by omega)) ?_
          refine zr_ifeqB (tgt := 44) dX1_setPlace_29 (by decide) (fun c_8 => ?_) (fun c_8 => ?_)
          · refine zr_iconst (v := 0) dX1_setPlace_44 (by decide) ?_
            exact key0 (by simp [c_1, c_4, c_7, c_8])
          · refine zr_iload dX1_setPlace_32 rfl ?_
            refine zr_call1 (rest := []) (zs_S (As := [.int e]) (by omega) ok_X1_isOffset q1771 q1772 q53 q1773 rfl rfl (Nat.le_of_ble_eq_true rfl) dX1_setPlace_34) (c_X1_isOffset (by omega)) ?_
            refine zr_ifeqB (tgt := 44) dX1_setPlace_37 (by decide) (fun c_9 => ?_) (fun c_9 => ?_)
            · refine zr_iconst (v := 0) dX1_setPlace_44 (by decide) ?_
              exact key0 (by simp [c_1, c_4, c_7, c_8, c_9])
            · refine zr_iconst (v := 1) dX1_setPlace_40 (by decide) ?_
              refine zr_goto (tgt := 45) dX1_setPlace_41 (by decide) ?_
              exact key1 (by simp [c_1, c_4, c_7, c_8, c_9])
  · have hb0 : btw n 0 (nI (kN c) - 1) = false := by simpa using hb
    rw [pSt_0 hb0]
    obtain ⟨_, σ1, ⟨q, rfl, hX⟩, hC⟩ := c_box0 (d := d - 1) (by omega) hG hw hS hb0
    obtain ⟨fl_hfl, hfl⟩ := hS.bxL.A
    refine zr_aload_n dX1_setPlace_0 rfl rfl ?_
    refine zr_iload_n dX1_setPlace_1 rfl rfl ?_
    refine zr_callX (rest := []) (zs_V (As := [.int n]) (by omega) ok_X1_box q1629 q1631 qs28 q53 q1632 rfl hS.one rfl rfl rfl (Nat.le_of_ble_eq_true rfl) dX1_setPlace_2) hC ?_
    exact zx_out (by decide) ⟨oR_x (by decide), hS.keep0 hw hX, hX.mono (fun _ h => absurd h (fun h => h))⟩
set_option maxHeartbeats 4000000 in
theorem c_X1_setDepth {G : zG} {σ : zT} {d : Nat} {c : zCS} {n a : Int32} (hd : 20 ≤ d) (hG : zOk G) (hw : zGd G σ) (hS : CSys G σ c) : zCall G I_X1_setDepth d [.ref (kA c 1), .int n, .int a] σ ((fun o σ' => oR o (pSt c n (btw a (-5) 5) 20 (fun i => (kSetF c i 20 a))).1 ∧ CSys G σ' (pSt c n (btw a (-5) 5) 20 (fun i => (kSetF c i 20 a))).2 ∧ zX G SC σ σ' 10)) := by
  refine zCall_of (ls := [(0, .ref (kA c 1)), (1, .int n), (2, .int a)]) (by decide) (Nat.le_of_ble_eq_true rfl) rfl ?_
  have hle := hS.le
  by_cases hb : btw n 0 (nI (kN c) - 1) = true
  · obtain ⟨i, hi, rfl⟩ := btw_idx (by omega) hb
    obtain ⟨fl_hfl, hfl⟩ := hS.bxL.A
    refine zr_aload_n dX1_setDepth_0 rfl rfl ?_
    refine zr_iload_n dX1_setDepth_1 rfl rfl ?_
    refine zr_call1 (rest := []) (zs_V (As := [.int (nI i)]) (by omega) ok_X1_box q1629 q1631 qs28 q53 q1632 rfl hS.one rfl rfl rfl (Nat.le_of_ble_eq_true rfl) dX1_setDepth_2) (c_box1 (by omega) hG hw hS hi) ?_
    refine zr_astore_n (ls2 := [(0, .ref (kA c 1)), (1, .int (nI i)), (2, .int a), (3, .ref (kA c (rB i)))]) dX1_setDepth_5 rfl (Nat.le_of_ble_eq_true rfl) rfl ?_
    refine zr_iload_n dX1_setDepth_6 rfl rfl ?_
    refine zr_bipush (v := (-5)) dX1_setDepth_7 (by decide) ?_
    refine zr_iconst (v := 5) dX1_setDepth_9 (by decide) ?_
    refine zr_call1 (rest := []) (zs_S (As := [.int a, .int (-5), .int 5]) (by omega) ok_X1_isBetween q1633 q1634 q53 q1635 rfl rfl (Nat.le_of_ble_eq_true rfl) dX1_setDepth_10) c_X1_isBetween ?_
    by_cases hok : (btw a (-5) 5) = true
    · refine zr_eqi (z := 1) (by rw [hok]; rfl) ?_
      refine zr_callv (rest := []) (zs_S (As := [.int 1]) (by omega) ok_X1_requireArgument q1644 q1645 q53 q1646 rfl rfl (Nat.le_of_ble_eq_true rfl) dX1_setDepth_13) c_requireArgument1 ?_
      rw [pSt_1 hle hi hok]
      refine zr_aload_n dX1_setDepth_16 rfl rfl ?_
      refine zr_getN (k := 20) (v := .int (kF c i 20)) in_X2 (hS.bx hi) rfl (Nat.le_of_ble_eq_true rfl) q279 (.inl rfl) rfl dX1_setDepth_17 ?_
      refine zr_istore (ls2 := [(0, .ref (kA c 1)), (1, .int (nI i)), (2, .int a), (3, .ref (kA c (rB i))), (4, .int (kF c i 20))]) dX1_setDepth_20 (Nat.le_of_ble_eq_true rfl) rfl ?_
      refine zr_aload_n dX1_setDepth_22 rfl rfl ?_
      refine zr_iload_n dX1_setDepth_23 rfl rfl ?_
      have hv0 : KVal 20 a := hok
      refine zr_putN (k := 20) (fs' := (kBx (kSetF c i 20 a) i)) zt_X2 (hS.bF hi) rfl (Nat.le_of_ble_eq_true rfl) q279 (.inl rfl) rfl rfl rfl (Nat.le_of_ble_eq_true rfl) (kBx_set20 _ _ _) dX1_setDepth_24 ?_
      have hS1 : CSys G (sUp σ (kA c (rB i)) (.inr (2, kBx (kSetF c i 20 a) i))) (kSetF c i 20 a) := hS.setF (k := 20) hi a (hS.2.2.2.setF i hv0)
      have hX1 : zX G SC σ (sUp σ (kA c (rB i)) (.inr (2, kBx (kSetF c i 20 a) i))) 0 := hS.XF hw hi (kBx (kSetF c i 20 a) i)
      generalize hσ1 : sUp σ (kA c (rB i)) (.inr (2, kBx (kSetF c i 20 a) i)) = σ1 at hS1 hX1 ⊢
      have hb1 : zAt G σ1 (kA c (rB i)) (.inr (2, kBx (kSetF c i 20 a) i)) := hS1.bx hi
      refine zr_iload dX1_setDepth_27 rfl ?_
      exact zr_iret rfl rfl dX1_setDepth_29 (⟨oR_ok, hS1, hX1.le (by omega)⟩)
    · have hok0 : (btw a (-5) 5) = false := by simpa using hok
      rw [pSt_2 hle hi hok0]
      obtain ⟨_, σ1, ⟨q, rfl, hX⟩, hC⟩ := c_requireArgument0 (d := d - 1) (by omega) hG hw
      refine zr_eqi (z := 0) (by rw [hok0]; rfl) ?_
      refine zr_callX (rest := []) (zs_S (As := [.int 0]) (by omega) ok_X1_requireArgument q1644 q1645 q53 q1646 rfl rfl (Nat.le_of_ble_eq_true rfl) dX1_setDepth_13) hC ?_
      exact zx_out (by decide) ⟨oR_x (by decide), hS.keep0 hw hX, hX.mono (fun _ h => absurd h (fun h => h))⟩
  · have hb0 : btw n 0 (nI (kN c) - 1) = false := by simpa using hb
    rw [pSt_0 hb0]
    obtain ⟨_, σ1, ⟨q, rfl, hX⟩, hC⟩ := c_box0 (d := d - 1) (by omega) hG hw hS hb0
    obtain ⟨fl_hfl, hfl⟩ := hS.bxL.A
    refine zr_aload_n dX1_setDepth_0 rfl rfl ?_
    refine zr_iload_n dX1_setDepth_1 rfl rfl ?_
    refine zr_callX (rest := []) (zs_V (As := [.int n]) (by omega) ok_X1_box q1629 q1631 qs28 q53 q1632 rfl hS.one rfl rfl rfl (Nat.le_of_ble_eq_true rfl) dX1_setDepth_2) hC ?_
    exact zx_out (by decide) ⟨oR_x (by decide), hS.keep0 hw hX, hX.mono (fun _ h => absurd h (fun h => h))⟩
set_option maxHeartbeats 4000000 in
theorem c_X1_setClear {G : zG} {σ : zT} {d : Nat} {c : zCS} {n : Int32} {a : Bool} (hd : 20 ≤ d) (hG : zOk G) (hw : zGd G σ) (hS : CSys G σ c) : zCall G I_X1_setClear d [.ref (kA c 1), .int n, .int (bI a)] σ ((fun o σ' => oR o (pSt c n (true) 21 (fun i => (kTouch (kSetF c i 21 (bI a)) i))).1 ∧ CSys G σ' (pSt c n (true) 21 (fun i => (kTouch (kSetF c i 21 (bI a)) i))).2 ∧ zX G SC σ σ' 10)) := by
  refine zCall_of (ls := [(0, .ref (kA c 1)), (1, .int n), (2, .int (bI a))]) (by decide) (Nat.le_of_ble_eq_true rfl) rfl ?_
  have hle := hS.le
  by_cases hb : btw n 0 (nI (kN c) - 1) = true
  · obtain ⟨i, hi, rfl⟩ := btw_idx (by omega) hb
    obtain ⟨fl_hfl, hfl⟩ := hS.bxL.A
    refine zr_aload_n dX1_setClear_0 rfl rfl ?_
    refine zr_iload_n dX1_setClear_1 rfl rfl ?_
    refine zr_call1 (rest := []) (zs_V (As := [.int (nI i)]) (by omega) ok_X1_box q1629 q1631 qs28 q53 q1632 rfl hS.one rfl rfl rfl (Nat.le_of_ble_eq_true rfl) dX1_setClear_2) (c_box1 (by omega) hG hw hS hi) ?_
    refine zr_astore_n (ls2 := [(0, .ref (kA c 1)), (1, .int (nI i)), (2, .int (bI a)), (3, .ref (kA c (rB i)))]) dX1_setClear_5 rfl (Nat.le_of_ble_eq_true rfl) rfl ?_
    have hok : true = true := rfl
    rw [pSt_1 hle hi hok]
    refine zr_aload_n dX1_setClear_6 rfl rfl ?_
    refine zr_getN (k := 21) (v := .int (kF c i 21)) in_X2 (hS.bx hi) rfl (Nat.le_of_ble_eq_true rfl) q281 (.inl rfl) rfl dX1_setClear_7 ?_
    refine zr_istore (ls2 := [(0, .ref (kA c 1)), (1, .int (nI i)), (2, .int (bI a)), (3, .ref (kA c (rB i))), (4, .int (kF c i 21))]) dX1_setClear_10 (Nat.le_of_ble_eq_true rfl) rfl ?_
    refine zr_aload_n dX1_setClear_12 rfl rfl ?_
    refine zr_iload_n dX1_setClear_13 rfl rfl ?_
    have hv0 : KVal 21 (bI a) := (by cases a; exact Or.inl rfl; exact Or.inr rfl)
    refine zr_putN (k := 21) (fs' := (kBx (kSetF c i 21 (bI a)) i)) zt_X2 (hS.bF hi) rfl (Nat.le_of_ble_eq_true rfl) q281 (.inl rfl) rfl (nar_z _) (fit_z _) (Nat.le_of_ble_eq_true rfl) (kBx_set21 _ _ _) dX1_setClear_14 ?_
    have hS1 : CSys G (sUp σ (kA c (rB i)) (.inr (2, kBx (kSetF c i 21 (bI a)) i))) (kSetF c i 21 (bI a)) := hS.setF (k := 21) hi (bI a) (hS.2.2.2.setF i hv0)
    have hX1 : zX G SC σ (sUp σ (kA c (rB i)) (.inr (2, kBx (kSetF c i 21 (bI a)) i))) 0 := hS.XF hw hi (kBx (kSetF c i 21 (bI a)) i)
    generalize hσ1 : sUp σ (kA c (rB i)) (.inr (2, kBx (kSetF c i 21 (bI a)) i)) = σ1 at hS1 hX1 ⊢
    have hb1 : zAt G σ1 (kA c (rB i)) (.inr (2, kBx (kSetF c i 21 (bI a)) i)) := hS1.bx hi
    refine zr_aload_n dX1_setClear_17 rfl rfl ?_
    obtain ⟨_, σt, ⟨rfl, hSt, hXt⟩, hCt⟩ := c_X2_touch (d := d - 1) hX1.gd hS1 (i := i) hi
    have hCt : zC G I_X2_touch (d - 1) [.ref (kA c (rB i))] σ1 _ σt := hCt
    refine zr_callv (rest := []) (zs_V (As := []) (by omega) ok_X2_touch q1688 q1689 q1690 q57 q1691 rfl hb1 rfl rfl rfl (Nat.le_of_ble_eq_true rfl) dX1_setClear_18) hCt ?_
    refine zr_iload dX1_setClear_21 rfl ?_
    exact zr_iret rfl (by rcases hS.val hi 21 with h | h <;> rw [h] <;> rfl) dX1_setClear_23 (⟨oR_ok, hSt, (hX1.trans hXt).le (by omega)⟩)
  · have hb0 : btw n 0 (nI (kN c) - 1) = false := by simpa using hb
    rw [pSt_0 hb0]
    obtain ⟨_, σ1, ⟨q, rfl, hX⟩, hC⟩ := c_box0 (d := d - 1) (by omega) hG hw hS hb0
    obtain ⟨fl_hfl, hfl⟩ := hS.bxL.A
    refine zr_aload_n dX1_setClear_0 rfl rfl ?_
    refine zr_iload_n dX1_setClear_1 rfl rfl ?_
    refine zr_callX (rest := []) (zs_V (As := [.int n]) (by omega) ok_X1_box q1629 q1631 qs28 q53 q1632 rfl hS.one rfl rfl rfl (Nat.le_of_ble_eq_true rfl) dX1_setClear_2) hC ?_
    exact zx_out (by decide) ⟨oR_x (by decide), hS.keep0 hw hX, hX.mono (fun _ h => absurd h (fun h => h))⟩
set_option maxHeartbeats 4000000 in
theorem c_X1_setBreak {G : zG} {σ : zT} {d : Nat} {c : zCS} {n a : Int32} (hd : 20 ≤ d) (hG : zOk G) (hw : zGd G σ) (hS : CSys G σ c) : zCall G I_X1_setBreak d [.ref (kA c 1), .int n, .int a] σ ((fun o σ' => oR o (pSt c n ((decide (a = 97) || decide (a = 102) || decide (a = 118))) 22 (fun i => (kSetF c i 22 a))).1 ∧ CSys G σ' (pSt c n ((decide (a = 97) || decide (a = 102) || decide (a = 118))) 22 (fun i => (kSetF c i 22 a))).2 ∧ zX G SC σ σ' 10)) := by
  refine zCall_of (ls := [(0, .ref (kA c 1)), (1, .int n), (2, .int a)]) (by decide) (Nat.le_of_ble_eq_true rfl) rfl ?_
  have hle := hS.le
  by_cases hb : btw n 0 (nI (kN c) - 1) = true
  · obtain ⟨i, hi, rfl⟩ := btw_idx (by omega) hb
    obtain ⟨fl_hfl, hfl⟩ := hS.bxL.A
    refine zr_aload_n dX1_setBreak_0 rfl rfl ?_
    refine zr_iload_n dX1_setBreak_1 rfl rfl ?_
    refine zr_call1 (rest := []) (zs_V (As := [.int (nI i)]) (by omega) ok_X1_box q1629 q1631 qs28 q53 q1632 rfl hS.one rfl rfl rfl (Nat.le_of_ble_eq_true rfl) dX1_setBreak_2) (c_box1 (by omega) hG hw hS hi) ?_
    refine zr_astore_n (ls2 := [(0, .ref (kA c 1)), (1, .int (nI i)), (2, .int a), (3, .ref (kA c (rB i)))]) dX1_setBreak_5 rfl (Nat.le_of_ble_eq_true rfl) rfl ?_
    have key1 : ((decide (a = 97) || decide (a = 102) || decide (a = 118))) = true → zR G yX1_setBreak cX1_setBreak 5 (Option.some Jvm.ClassFile.FieldType.char) [] d 29 [(0, .ref (kA c 1)), (1, .int (nI i)), (2, .int a), (3, .ref (kA c (rB i)))] [.int 1] σ (fun o σ' => oR o (pSt c (nI i) ((decide (a = 97) || decide (a = 102) || decide (a = 118))) 22 (fun i => (kSetF c i 22 a))).1 ∧ CSys G σ' (pSt c (nI i) ((decide (a = 97) || decide (a = 102) || decide (a = 118))) 22 (fun i => (kSetF c i 22 a))).2 ∧ zX G SC σ σ' 10) := by
      intro hok
      refine zr_callv (rest := []) (zs_S (As := [.int 1]) (by omega) ok_X1_requireArgument q1644 q1645 q53 q1646 rfl rfl (Nat.le_of_ble_eq_true rfl) dX1_setBreak_29) c_requireArgument1 ?_
      rw [pSt_1 hle hi hok]
      refine zr_aload_n dX1_setBreak_32 rfl rfl ?_
      refine zr_getN (k := 22) (v := .int (kF c i 22)) in_X2 (hS.bx hi) rfl (Nat.le_of_ble_eq_true rfl) q284 (.inl rfl) rfl dX1_setBreak_33 ?_
      refine zr_istore (ls2 := [(0, .ref (kA c 1)), (1, .int (nI i)), (2, .int a), (3, .ref (kA c (rB i))), (4, .int (kF c i 22))]) dX1_setBreak_36 (Nat.le_of_ble_eq_true rfl) rfl ?_
      refine zr_aload_n dX1_setBreak_38 rfl rfl ?_
      refine zr_iload_n dX1_setBreak_39 rfl rfl ?_
      have hv0 : KVal 22 a := (by simp only [Bool.or_eq_true, decide_eq_true_eq, or_assoc] at hok; exact hok)
      refine zr_putN (k := 22) (fs' := (kBx (kSetF c i 22 a) i)) zt_X2 (hS.bF hi) rfl (Nat.le_of_ble_eq_true rfl) q284 (.inl rfl) rfl (by rcases hv0 with h | h | h <;> rw [h] <;> rfl) (by rcases hv0 with h | h | h <;> rw [h] <;> rfl) (Nat.le_of_ble_eq_true rfl) (kBx_set22 _ _ _) dX1_setBreak_40 ?_
      have hS1 : CSys G (sUp σ (kA c (rB i)) (.inr (2, kBx (kSetF c i 22 a) i))) (kSetF c i 22 a) := hS.setF (k := 22) hi a (hS.2.2.2.setF i hv0)
      have hX1 : zX G SC σ (sUp σ (kA c (rB i)) (.inr (2, kBx (kSetF c i 22 a) i))) 0 := hS.XF hw hi (kBx (kSetF c i 22 a) i)
      generalize hσ1 : sUp σ (kA c (rB i)) (.inr (2, kBx (kSetF c i 22 a) i)) = σ1 at hS1 hX1 ⊢
      have hb1 : zAt G σ1 (kA c (rB i)) (.inr (2, kBx (kSetF c i 22 a) i)) := hS1.bx hi
      refine zr_iload dX1_setBreak_43 rfl ?_
      exact zr_iret rfl (by rcases hS.val hi 22 with h | h | h <;> rw [h] <;> rfl) dX1_setBreak_45 (⟨oR_ok, hS1, hX1.le (by omega)⟩)
    have key0 : ((decide (a = 97) || decide (a = 102) || decide (a = 118))) = false → zR G yX1_setBreak cX1_setBreak 5 (Option.some Jvm.ClassFile.FieldType.char) [] d 29 [(0, .ref (kA c 1)), (1, .int (nI i)), (2, .int a), (3, .ref (kA c (rB i)))] [.int 0] σ (fun o σ' => oR o (pSt c (nI i) ((decide (a = 97) || decide (a = 102) || decide (a = 118))) 22 (fun i => (kSetF c i 22 a))).1 ∧ CSys G σ' (pSt c (nI i) ((decide (a = 97) || decide (a = 102) || decide (a = 118))) 22 (fun i => (kSetF c i 22 a))).2 ∧ zX G SC σ σ' 10) := by
      intro hok0
      rw [pSt_2 hle hi hok0]
      obtain ⟨_, σ1, ⟨q, rfl, hX⟩, hC⟩ := c_requireArgument0 (d := d - 1) (by omega) hG hw
      refine zr_callX (rest := []) (zs_S (As := [.int 0]) (by omega) ok_X1_requireArgument q1644 q1645 q53 q1646 rfl rfl (Nat.le_of_ble_eq_true rfl) dX1_setBreak_29) hC ?_
      exact zx_out (by decide) ⟨oR_x (by decide), hS.keep0 hw hX, hX.mono (fun _ h => absurd h (fun h => h))⟩
    refine zr_iload_n dX1_setBreak_6 rfl rfl ?_
    refine zr_bipush (v := 97) dX1_setBreak_7 (by decide) ?_
    refine zr_icmp_eq (tgt := 24) dX1_setBreak_9 (by decide) (fun c_1 => ?_) (fun c_1 => ?_)
    · refine zr_iconst (v := 1) dX1_setBreak_24 (by decide) ?_
      refine zr_goto (tgt := 29) dX1_setBreak_25 (by decide) ?_
      exact key1 (by simp [c_1])
    · refine zr_iload_n dX1_setBreak_12 rfl rfl ?_
      refine zr_bipush (v := 102) dX1_setBreak_13 (by decide) ?_
      refine zr_icmp_eq (tgt := 24) dX1_setBreak_15 (by decide) (fun c_2 => ?_) (fun c_2 => ?_)
      · refine zr_iconst (v := 1) dX1_setBreak_24 (by decide) ?_
        refine zr_goto (tgt := 29) dX1_setBreak_25 (by decide) ?_
        exact key1 (by simp [c_1, c_2])
      · refine zr_iload_n dX1_setBreak_18 rfl rfl ?_
        refine zr_bipush (v := 118) dX1_setBreak_19 (by decide) ?_
        refine zr_icmp_ne (tgt := 28) dX1_setBreak_21 (by decide) (fun c_3 => ?_) (fun c_3 => ?_)
        · refine zr_iconst (v := 0) dX1_setBreak_28 (by decide) ?_
          exact key0 (by simp [c_1, c_2, c_3])
        · refine zr_iconst (v := 1) dX1_setBreak_24 (by decide) ?_
          refine zr_goto (tgt := 29) dX1_setBreak_25 (by decide) ?_
          exact key1 (by simp [c_1, c_2, c_3])
  · have hb0 : btw n 0 (nI (kN c) - 1) = false := by simpa using hb
    rw [pSt_0 hb0]
    obtain ⟨_, σ1, ⟨q, rfl, hX⟩, hC⟩ := c_box0 (d := d - 1) (by omega) hG hw hS hb0
    obtain ⟨fl_hfl, hfl⟩ := hS.bxL.A
    refine zr_aload_n dX1_setBreak_0 rfl rfl ?_
    refine zr_iload_n dX1_setBreak_1 rfl rfl ?_
    refine zr_callX (rest := []) (zs_V (As := [.int n]) (by omega) ok_X1_box q1629 q1631 qs28 q53 q1632 rfl hS.one rfl rfl rfl (Nat.le_of_ble_eq_true rfl) dX1_setBreak_2) hC ?_
    exact zx_out (by decide) ⟨oR_x (by decide), hS.keep0 hw hX, hX.mono (fun _ h => absurd h (fun h => h))⟩
set_option maxHeartbeats 4000000 in
theorem c_X1_setAlignment {G : zG} {σ : zT} {d : Nat} {c : zCS} {n a : Int32} (hd : 20 ≤ d) (hG : zOk G) (hw : zGd G σ) (hS : CSys G σ c) : zCall G I_X1_setAlignment d [.ref (kA c 1), .int n, .int a] σ ((fun o σ' => oR o (pSt c n ((decide (a = 108) || decide (a = 99) || decide (a = 114))) 23 (fun i => (kTouch (kSetF c i 23 a) i))).1 ∧ CSys G σ' (pSt c n ((decide (a = 108) || decide (a = 99) || decide (a = 114))) 23 (fun i => (kTouch (kSetF c i 23 a) i))).2 ∧ zX G SC σ σ' 10)) := by
  refine zCall_of (ls := [(0, .ref (kA c 1)), (1, .int n), (2, .int a)]) (by decide) (Nat.le_of_ble_eq_true rfl) rfl ?_
  have hle := hS.le
  by_cases hb : btw n 0 (nI (kN c) - 1) = true
  · obtain ⟨i, hi, rfl⟩ := btw_idx (by omega) hb
    obtain ⟨fl_hfl, hfl⟩ := hS.bxL.A
    refine zr_aload_n dX1_setAlignment_0 rfl rfl ?_
    refine zr_iload_n dX1_setAlignment_1 rfl rfl ?_
    refine zr_call1 (rest := []) (zs_V (As := [.int (nI i)]) (by omega) ok_X1_box q1629 q1631 qs28 q53 q1632 rfl hS.one rfl rfl rfl (Nat.le_of_ble_eq_true rfl) dX1_setAlignment_2) (c_box1 (by omega) hG hw hS hi) ?_
    refine zr_astore_n (ls2 := [(0, .ref (kA c 1)), (1, .int (nI i)), (2, .int a), (3, .ref (kA c (rB i)))]) dX1_setAlignment_5 rfl (Nat.le_of_ble_eq_true rfl) rfl ?_
    have key1 : ((decide (a = 108) || decide (a = 99) || decide (a = 114))) = true → zR G yX1_setAlignment cX1_setAlignment 5 (Option.some Jvm.ClassFile.FieldType.char) [] d 29 [(0, .ref (kA c 1)), (1, .int (nI i)), (2, .int a), (3, .ref (kA c (rB i)))] [.int 1] σ (fun o σ' => oR o (pSt c (nI i) ((decide (a = 108) || decide (a = 99) || decide (a = 114))) 23 (fun i => (kTouch (kSetF c i 23 a) i))).1 ∧ CSys G σ' (pSt c (nI i) ((decide (a = 108) || decide (a = 99) || decide (a = 114))) 23 (fun i => (kTouch (kSetF c i 23 a) i))).2 ∧ zX G SC σ σ' 10) := by
      intro hok
      refine zr_callv (rest := []) (zs_S (As := [.int 1]) (by omega) ok_X1_requireArgument q1644 q1645 q53 q1646 rfl rfl (Nat.le_of_ble_eq_true rfl) dX1_setAlignment_29) c_requireArgument1 ?_
      rw [pSt_1 hle hi hok]
      refine zr_aload_n dX1_setAlignment_32 rfl rfl ?_
      refine zr_getN (k := 23) (v := .int (kF c i 23)) in_X2 (hS.bx hi) rfl (Nat.le_of_ble_eq_true rfl) q287 (.inl rfl) rfl dX1_setAlignment_33 ?_
      refine zr_istore (ls2 := [(0, .ref (kA c 1)), (1, .int (nI i)), (2, .int a), (3, .ref (kA c (rB i))), (4, .int (kF c i 23))]) dX1_setAlignment_36 (Nat.le_of_ble_eq_true rfl) rfl ?_
      refine zr_aload_n dX1_setAlignment_38 rfl rfl ?_
      refine zr_iload_n dX1_setAlignment_39 rfl rfl ?_
      have hv0 : KVal 23 a := (by simp only [Bool.or_eq_true, decide_eq_true_eq, or_assoc] at hok; exact hok)
      refine zr_putN (k := 23) (fs' := (kBx (kSetF c i 23 a) i)) zt_X2 (hS.bF hi) rfl (Nat.le_of_ble_eq_true rfl) q287 (.inl rfl) rfl (by rcases hv0 with h | h | h <;> rw [h] <;> rfl) (by rcases hv0 with h | h | h <;> rw [h] <;> rfl) (Nat.le_of_ble_eq_true rfl) (kBx_set23 _ _ _) dX1_setAlignment_40 ?_
      have hS1 : CSys G (sUp σ (kA c (rB i)) (.inr (2, kBx (kSetF c i 23 a) i))) (kSetF c i 23 a) := hS.setF (k := 23) hi a (hS.2.2.2.setF i hv0)
      have hX1 : zX G SC σ (sUp σ (kA c (rB i)) (.inr (2, kBx (kSetF c i 23 a) i))) 0 := hS.XF hw hi (kBx (kSetF c i 23 a) i)
      generalize hσ1 : sUp σ (kA c (rB i)) (.inr (2, kBx (kSetF c i 23 a) i)) = σ1 at hS1 hX1 ⊢
      have hb1 : zAt G σ1 (kA c (rB i)) (.inr (2, kBx (kSetF c i 23 a) i)) := hS1.bx hi
      refine zr_aload_n dX1_setAlignment_43 rfl rfl ?_
      obtain ⟨_, σt, ⟨rfl, hSt, hXt⟩, hCt⟩ := c_X2_touch (d := d - 1) hX1.gd hS1 (i := i) hi
      have hCt : zC G I_X2_touch (d - 1) [.ref (kA c (rB i))] σ1 _ σt := hCt
      refine zr_callv (rest := []) (zs_V (As := []) (by omega) ok_X2_touch q1688 q1689 q1690 q57 q1691 rfl hb1 rfl rfl rfl (Nat.le_of_ble_eq_true rfl) dX1_setAlignment_44) hCt ?_
      refine zr_iload dX1_setAlignment_47 rfl ?_
      exact zr_iret rfl (by rcases hS.val hi 23 with h | h | h <;> rw [h] <;> rfl) dX1_setAlignment_49 (⟨oR_ok, hSt, (hX1.trans hXt).le (by omega)⟩)
    have key0 : ((decide (a = 108) || decide (a = 99) || decide (a = 114))) = false → zR G yX1_setAlignment cX1_setAlignment 5 (Option.some Jvm.ClassFile.FieldType.char) [] d 29 [(0, .ref (kA c 1)), (1, .int (nI i)), (2, .int a), (3, .ref (kA c (rB i)))] [.int 0] σ (fun o σ' => oR o (pSt c (nI i) ((decide (a = 108) || decide (a = 99) || decide (a = 114))) 23 (fun i => (kTouch (kSetF c i 23 a) i))).1 ∧ CSys G σ' (pSt c (nI i) ((decide (a = 108) || decide (a = 99) || decide (a = 114))) 23 (fun i => (kTouch (kSetF c i 23 a) i))).2 ∧ zX G SC σ σ' 10) := by
      intro hok0
      rw [pSt_2 hle hi hok0]
      obtain ⟨_, σ1, ⟨q, rfl, hX⟩, hC⟩ := c_requireArgument0 (d := d - 1) (by omega) hG hw
      refine zr_callX (rest := []) (zs_S (As := [.int 0]) (by omega) ok_X1_requireArgument q1644 q1645 q53 q1646 rfl rfl (Nat.le_of_ble_eq_true rfl) dX1_setAlignment_29) hC ?_
      exact zx_out (by decide) ⟨oR_x (by decide), hS.keep0 hw hX, hX.mono (fun _ h => absurd h (fun h => h))⟩
    refine zr_iload_n dX1_setAlignment_6 rfl rfl ?_
    refine zr_bipush (v := 108) dX1_setAlignment_7 (by decide) ?_
    refine zr_icmp_eq (tgt := 24) dX1_setAlignment_9 (by decide) (fun c_1 => ?_) (fun c_1 => ?_)
    · refine zr_iconst (v := 1) dX1_setAlignment_24 (by decide) ?_
      refine zr_goto (tgt := 29) dX1_setAlignment_25 (by decide) ?_
      exact key1 (by simp [c_1])
    · refine zr_iload_n dX1_setAlignment_12 rfl rfl ?_
      refine zr_bipush (v := 99) dX1_setAlignment_13 (by decide) ?_
      refine zr_icmp_eq (tgt := 24) dX1_setAlignment_15 (by decide) (fun c_2 => ?_) (fun c_2 => ?_)
      · refine zr_iconst (v := 1) dX1_setAlignment_24 (by decide) ?_
        refine zr_goto (tgt := 29) dX1_setAlignment_25 (by decide) ?_
        exact key1 (by simp [c_1, c_2])
      · refine zr_iload_n dX1_setAlignment_18 rfl rfl ?_
        refine zr_bipush (v := 114) dX1_setAlignment_19 (by decide) ?_
        refine zr_icmp_ne (tgt := 28) dX1_setAlignment_21 (by decide) (fun c_3 => ?_) (fun c_3 => ?_)
        · refine zr_iconst (v := 0) dX1_setAlignment_28 (by decide) ?_
          exact key0 (by simp [c_1, c_2, c_3])
        · refine zr_iconst (v := 1) dX1_setAlignment_24 (by decide) ?_
          refine zr_goto (tgt := 29) dX1_setAlignment_25 (by decide) ?_
          exact key1 (by simp [c_1, c_2, c_3])
  · have hb0 : btw n 0 (nI (kN c) - 1) = false := by simpa using hb
    rw [pSt_0 hb0]
    obtain ⟨_, σ1, ⟨q, rfl, hX⟩, hC⟩ := c_box0 (d := d - 1) (by omega) hG hw hS hb0
    obtain ⟨fl_hfl, hfl⟩ := hS.bxL.A
    refine zr_aload_n dX1_setAlignment_0 rfl rfl ?_
    refine zr_iload_n dX1_setAlignment_1 rfl rfl ?_
    refine zr_callX (rest := []) (zs_V (As := [.int n]) (by omega) ok_X1_box q1629 q1631 qs28 q53 q1632 rfl hS.one rfl rfl rfl (Nat.le_of_ble_eq_true rfl) dX1_setAlignment_2) hC ?_
    exact zx_out (by decide) ⟨oR_x (by decide), hS.keep0 hw hX, hX.mono (fun _ h => absurd h (fun h => h))⟩
