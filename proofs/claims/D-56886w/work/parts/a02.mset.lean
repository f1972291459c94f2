/-! ===== the reference: wrong, mark, setters (rows printed by tools/p102.py) ===== -/
/-- the answer of one of the reference's methods, by the code and the value that the component has -/
def oM (o : zO) (r : Nat × Value) : Prop := ∃ v, o = .inl (some v) ∧ (r.1 = 0 → v = r.2)
def mrkF : Nat → zCS → Nat → zCS
  | 0, c, _ => c
  | f + 1, c, i => match kPar c i with
    | none => kSetF c i 25 1
    | some p => mrkF f (kSetF c i 25 1) p
def mMark (c : zCS) (i : Nat) : zCS := kULw (mrkF 24 c i) 0
def mWr (c : zCS) (n : Int32) (b : Bool) : Nat := if btw n 0 (nI (kN c) - 1) = true then (if b = true then 0 else 2) else 1
theorem mO_self (c : zCS) (th ct : Int32) : mO (kUCt (kULw c (kLw c)) (kCt c)) th ct = mO c th ct := rfl
theorem MSys.setT {G : zG} {σ : zT} {c : zCS} {th ct : Int32} (hS : MSys G σ c th ct) (th' : Int32) : MSys G (sUp σ (kA c 1) (.inr (4, mO c th' ct))) c th' ct := hS.setO th' ct (kCt c) (kLw c) hS.2.2.2.2.1
theorem MSys.bxl (c : zCS) : ((List.range (kN c)).map (fun j => kA c (rB j))).length = kN c := by rw [List.length_map, List.length_range]
theorem MSys.bxa {c : zCS} {i : Nat} (hi : i < kN c) : ((List.range (kN c)).map (fun j => kA c (rB j)))[i]? = some (kA c (rB i)) := by rw [List.getElem?_map, List.getElem?_range hi]; rfl
set_option maxHeartbeats 4000000 in
theorem c_X4_thrown {G : zG} {σ : zT} {d : Nat} {c : zCS} {th ct : Int32} (hS : MSys G σ c th ct) : zC G I_X4_thrown d [.ref (kA c 1)] σ (.inl (some (.int th))) σ := by
  refine zCall.exact (zCall_of (ls := [(0, .ref (kA c 1))]) (by decide) (Nat.le_of_ble_eq_true rfl) rfl ?_)
  refine zr_aload_n dX4_thrown_0 rfl rfl ?_
  refine zr_get (k := 1) (v := .int th) in_X4 hS.one rfl (Nat.le_of_ble_eq_true rfl) q2219 (.inl rfl) rfl dX4_thrown_1 ?_
  exact zr_iret rfl rfl dX4_thrown_4 (⟨rfl, rfl⟩)
set_option maxHeartbeats 4000000 in
theorem c_X4_in {G : zG} {σ : zT} {d : Nat} {v lo hi : Int32} : zC G I_X4_in d [.int v, .int lo, .int hi] σ (.inl (some (.int (bI (btw v lo hi))))) σ := by
  refine zCall.exact (zCall_of (ls := [(0, .int v), (1, .int lo), (2, .int hi)]) (by decide) (Nat.le_of_ble_eq_true rfl) rfl ?_)
  refine zr_iload_n dX4_in_0 rfl rfl ?_
  refine zr_iload_n dX4_in_1 rfl rfl ?_
  refine zr_icmp_lt (tgt := 14) dX4_in_2 (by decide) (fun h1 => ?_) (fun h1 => ?_)
  · refine zr_iconst (v := 0) dX4_in_14 (by decide) ?_
    exact zr_iret rfl rfl dX4_in_15 (⟨by rw [show btw v lo hi = false from by unfold btw; rw [decide_eq_false (Int32.not_le.mpr h1)]; rfl]; rfl, rfl⟩)
  · refine zr_iload_n dX4_in_5 rfl rfl ?_
    refine zr_iload_n dX4_in_6 rfl rfl ?_
    refine zr_icmp_gt (tgt := 14) dX4_in_7 (by decide) (fun h2 => ?_) (fun h2 => ?_)
    · refine zr_iconst (v := 0) dX4_in_14 (by decide) ?_
      exact zr_iret rfl rfl dX4_in_15 (⟨by rw [show btw v lo hi = false from by unfold btw; rw [decide_eq_false (Int32.not_le.mpr h2), Bool.and_false]]; rfl, rfl⟩)
    · refine zr_iconst (v := 1) dX4_in_10 (by decide) ?_
      refine zr_goto (tgt := 15) dX4_in_11 (by decide) ?_
      exact zr_iret rfl rfl dX4_in_15 (⟨by rw [show btw v lo hi = true from by unfold btw; rw [decide_eq_true (Int32.not_lt.mp h1), decide_eq_true (Int32.not_lt.mp h2)]; rfl]; rfl, rfl⟩)
set_option maxHeartbeats 4000000 in
theorem c_X4_isBox {G : zG} {σ : zT} {d : Nat} {c : zCS} {th ct : Int32} {n : Int32} (hd : 3 ≤ d) (hS : MSys G σ c th ct) : zC G I_X4_isBox d [.ref (kA c 1), .int n] σ (.inl (some (.int (bI (btw n 0 (nI (kN c) - 1)))))) σ := by
  refine zCall.exact (zCall_of (ls := [(0, .ref (kA c 1)), (1, .int n)]) (by decide) (Nat.le_of_ble_eq_true rfl) rfl ?_)
  obtain ⟨fl_hfl, hfl⟩ := hS.bxL.A
  refine zr_iload_n dX4_isBox_0 rfl rfl ?_
  refine zr_iconst (v := 0) dX4_isBox_1 (by decide) ?_
  refine zr_aload_n dX4_isBox_2 rfl rfl ?_
  refine zr_get (k := 0) (v := .ref (kA c 2)) in_X4 hS.one rfl (Nat.le_of_ble_eq_true rfl) q2218 (.inl rfl) rfl dX4_isBox_3 ?_
  refine zr_call1 (rest := [.int 0, .int n]) (zs_V (As := []) (by omega) ok_J2_size q2246 q164 q2839 q56 q166 rfl hfl rfl rfl rfl (Nat.le_of_ble_eq_true rfl) dX4_isBox_6) (c_size (by omega) hS.bxL (MSys.bxl c)) ?_
  refine zr_iconst (v := 1) dX4_isBox_9 (by decide) ?_
  refine zr_isub dX4_isBox_10 ?_
  refine zr_call1 (rest := []) (zs_S (As := [.int n, .int 0, .int ((nI (kN c)) - 1)]) (by omega) ok_X4_in q2247 q2248 q77 q2249 rfl rfl (Nat.le_of_ble_eq_true rfl) dX4_isBox_11) c_X4_in ?_
  exact zr_iret rfl (nar_z _) dX4_isBox_14 (⟨rfl, rfl⟩)
set_option maxHeartbeats 4000000 in
theorem c_X4_wrong {G : zG} {σ : zT} {d : Nat} {c : zCS} {th ct : Int32} {n : Int32} {b : Bool} (hd : 5 ≤ d) (hS : MSys G σ c th ct) : zC G I_X4_wrong d [.ref (kA c 1), .int n, .int (bI b)] σ (.inl (some (.int (nI (mWr c n b))))) (sUp σ (kA c 1) (.inr (4, mO c (nI (mWr c n b)) ct))) := by
  refine zCall.exact (zCall_of (ls := [(0, .ref (kA c 1)), (1, .int n), (2, .int (bI b))]) (by decide) (Nat.le_of_ble_eq_true rfl) rfl ?_)
  refine zr_aload_n dX4_wrong_0 rfl rfl ?_
  refine zr_aload_n dX4_wrong_1 rfl rfl ?_
  refine zr_iload_n dX4_wrong_2 rfl rfl ?_
  refine zr_call1 (rest := [.ref (kA c 1)]) (zs_V (As := [.int n]) (by omega) ok_X4_isBox q2242 q2244 qs36 q77 q2245 rfl hS.one rfl rfl rfl (Nat.le_of_ble_eq_true rfl) dX4_wrong_3) (c_X4_isBox (by omega) hS) ?_
  refine zr_ifneB (tgt := 13) dX4_wrong_6 (by decide) (fun h1 => ?_) (fun h1 => ?_)
  · refine zr_iload_n dX4_wrong_13 rfl rfl ?_
    refine zr_ifeqB (tgt := 21) dX4_wrong_14 (by decide) (fun h2 => ?_) (fun h2 => ?_)
    · refine zr_iconst (v := 2) dX4_wrong_21 (by decide) ?_
      rw [show mWr c n b = 2 from by unfold mWr; rw [if_pos h1, h2]; try rfl]
      refine zr_put (k := 1) (fs' := (mO c (nI 2) ct)) zt_X4 hS.1.1 rfl (Nat.le_of_ble_eq_true rfl) q2219 (.inl rfl) rfl rfl rfl (Nat.le_of_ble_eq_true rfl) rfl dX4_wrong_22 ?_
      refine zr_aload_n dX4_wrong_25 rfl rfl ?_
      refine zr_get (k := 1) (v := .int (nI 2)) in_X4 (.new (sF_upS _ _ _)) rfl (Nat.le_of_ble_eq_true rfl) q2219 (.inl rfl) rfl dX4_wrong_26 ?_
      exact zr_iret rfl rfl dX4_wrong_29 (⟨rfl, rfl⟩)
    · refine zr_iconst (v := 0) dX4_wrong_17 (by decide) ?_
      refine zr_goto (tgt := 22) dX4_wrong_18 (by decide) ?_
      rw [show mWr c n b = 0 from by unfold mWr; rw [if_pos h1, h2]; try rfl]
      refine zr_put (k := 1) (fs' := (mO c (nI 0) ct)) zt_X4 hS.1.1 rfl (Nat.le_of_ble_eq_true rfl) q2219 (.inl rfl) rfl rfl rfl (Nat.le_of_ble_eq_true rfl) rfl dX4_wrong_22 ?_
      refine zr_aload_n dX4_wrong_25 rfl rfl ?_
      refine zr_get (k := 1) (v := .int (nI 0)) in_X4 (.new (sF_upS _ _ _)) rfl (Nat.le_of_ble_eq_true rfl) q2219 (.inl rfl) rfl dX4_wrong_26 ?_
      exact zr_iret rfl rfl dX4_wrong_29 (⟨rfl, rfl⟩)
  · refine zr_iconst (v := 1) dX4_wrong_9 (by decide) ?_
    refine zr_goto (tgt := 22) dX4_wrong_10 (by decide) ?_
    rw [show mWr c n b = 1 from by unfold mWr; rw [if_neg (by rw [h1]; decide)]; try rfl]
    refine zr_put (k := 1) (fs' := (mO c (nI 1) ct)) zt_X4 hS.1.1 rfl (Nat.le_of_ble_eq_true rfl) q2219 (.inl rfl) rfl rfl rfl (Nat.le_of_ble_eq_true rfl) rfl dX4_wrong_22 ?_
    refine zr_aload_n dX4_wrong_25 rfl rfl ?_
    refine zr_get (k := 1) (v := .int (nI 1)) in_X4 (.new (sF_upS _ _ _)) rfl (Nat.le_of_ble_eq_true rfl) q2219 (.inl rfl) rfl dX4_wrong_26 ?_
    exact zr_iret rfl rfl dX4_wrong_29 (⟨rfl, rfl⟩)
theorem mrkF_0 {c : zCS} {f i : Nat} (h : kPar c i = none) : mrkF (f + 1) c i = kSetF c i 25 1 := by
  show (match kPar c i with | none => kSetF c i 25 1 | some p => mrkF f (kSetF c i 25 1) p) = _
  rw [h]
theorem mrkF_1 {c : zCS} {f i p : Nat} (h : kPar c i = some p) : mrkF (f + 1) c i = mrkF f (kSetF c i 25 1) p := by
  show (match kPar c i with | none => kSetF c i 25 1 | some p => mrkF f (kSetF c i 25 1) p) = _
  rw [h]
theorem mrk_NA (c : zCS) (i : Nat) : kN (mMark c i) = kN c ∧ kA (mMark c i) = kA c ∧ kWd (mMark c i) = kWd c := by
  have h : ∀ f c i, kN (mrkF f c i) = kN c ∧ kA (mrkF f c i) = kA c ∧ kWd (mrkF f c i) = kWd c := by
    intro f
    induction f with
    | zero => intro c i; exact ⟨rfl, rfl, rfl⟩
    | succ f ih =>
      intro c i
      cases hp : kPar c i with
      | none => rw [mrkF_0 hp]; exact ⟨rfl, rfl, rfl⟩
      | some p => rw [mrkF_1 hp]; exact ih _ p
  exact h 24 c i
set_option maxHeartbeats 4000000 in
theorem l_X4_mark {G : zG} {d : Nat} {th ct : Int32} {a1 : Nat} {Q : zO → zT → Prop} : ∀ (f i : Nat) (c : zCS) (σ1 : zT), i < f → i < kN c → zGd G σ1 → MSys G σ1 c th ct → (∀ σ2, MSys G σ2 (kULw (mrkF f c i) 0) th ct → zX G SM σ1 σ2 0 → Q (.inl none) σ2) → zR G yX4_mark cX4_mark 3 (Option.none : Option Jvm.ClassFile.FieldType) [] d 2 [(0, .ref (kA c 1)), (1, .ref a1), (2, .ref (kA c (rB i)))] [] σ1 Q := by
  intro f
  induction f with
  | zero => intro i c σ1 h; omega
  | succ f ih =>
    intro i c σ1 hf hi hw hS kQ
    have hS2 := hS.setF (k := 25) hi 1 (hS.2.2.2.setF i (k := 25) trivial (by decide) (fun _ => Or.inr rfl))
    have hX2 := hS.XB hw hi (mBx (kSetF c i 25 1) i)
    refine zr_aload_n dX4_mark_2 rfl rfl ?_
    refine zr_ifnull dX4_mark_3 ?_
    refine zr_aload_n dX4_mark_6 rfl rfl ?_
    refine zr_iconst (v := 1) dX4_mark_7 (by decide) ?_
    refine zr_put (k := 25) (fs' := (mBx (kSetF c i 25 1) i)) zt_X5 (hS.bF hi) rfl (Nat.le_of_ble_eq_true rfl) q2143 (.inl rfl) rfl rfl rfl (Nat.le_of_ble_eq_true rfl) (mBx_F25 _ _ _) dX4_mark_8 ?_
    generalize hσ2 : sUp σ1 (kA c (rB i)) (.inr (5, mBx (kSetF c i 25 1) i)) = σ2 at hS2 hX2 ⊢
    have hi2 : i < kN (kSetF c i 25 1) := hi
    have hbi2 : zAt G σ2 (kA c (rB i)) (.inr (5, mBx (kSetF c i 25 1) i)) := hS2.bx hi2
    refine zr_aload_n dX4_mark_11 rfl rfl ?_
    refine zr_get (k := 2) (v := va_rf (kPr c i)) in_X5 hbi2 rfl (Nat.le_of_ble_eq_true rfl) q2097 (.inl rfl) rfl dX4_mark_12 ?_
    cases hp : kPar c i with
    | none =>
      rw [show kPr c i = none from by unfold kPr; rw [hp]; rfl]
      show zR _ _ _ _ _ _ _ _ _ [.null] _ _
      refine zr_astore_nR (x := none) (ls2 := [(0, .ref (kA c 1)), (1, .ref a1), (2, .null)]) dX4_mark_15 rfl (Nat.le_of_ble_eq_true rfl) rfl ?_
      refine zr_goto (tgt := 2) dX4_mark_16 (by decide) ?_
      refine zr_aload_nR (x := none) dX4_mark_2 rfl rfl ?_
      refine zr_ifnullN (tgt := 19) dX4_mark_3 (by decide) ?_
      refine zr_aload_n dX4_mark_19 rfl rfl ?_
      refine zr_iconst (v := 0) dX4_mark_20 (by decide) ?_
      refine zr_put (k := 4) (fs' := (mO (kULw (kSetF c i 25 1) 0) th ct)) zt_X4 hS2.1.1 rfl (Nat.le_of_ble_eq_true rfl) q2222 (.inl rfl) rfl rfl rfl (Nat.le_of_ble_eq_true rfl) rfl dX4_mark_21 ?_
      have hS3 := hS2.setO th ct (kCt c) 0 (Or.inl rfl)
      have hX3 := hX2.trans (hS2.XO hX2.gd (mO (kULw (kSetF c i 25 1) 0) th ct))
      exact zr_vret rfl dX4_mark_24 (kQ _ (by rw [mrkF_0 hp]; exact hS3) hX3)
    | some p =>
      rw [show kPr c i = some (kA c (rB p)) from by unfold kPr; rw [hp]; rfl]
      show zR _ _ _ _ _ _ _ _ _ [.ref (kA c (rB p))] _ _
      have hpi := hS.parlt hi hp
      refine zr_astore_n (ls2 := [(0, .ref (kA c 1)), (1, .ref a1), (2, .ref (kA c (rB p)))]) dX4_mark_15 rfl (Nat.le_of_ble_eq_true rfl) rfl ?_
      refine zr_goto (tgt := 2) dX4_mark_16 (by decide) ?_
      refine ih p (kSetF c i 25 1) σ2 (by omega) (by show p < kN c; omega) hX2.gd hS2 (fun σ3 h3 x3 => kQ σ3 (by rw [mrkF_1 hp]; exact h3) (hX2.trans x3))
set_option maxHeartbeats 4000000 in
theorem c_X4_mark {G : zG} {σ : zT} {d : Nat} {c : zCS} {th ct : Int32} {i : Nat} (hw : zGd G σ) (hS : MSys G σ c th ct) (hi : i < kN c) : zCall G I_X4_mark d [.ref (kA c 1), .ref (kA c (rB i))] σ ((fun o σ' => o = .inl none ∧ MSys G σ' (mMark c i) th ct ∧ zX G SM σ σ' 0)) := by
  refine zCall_of (ls := [(0, .ref (kA c 1)), (1, .ref (kA c (rB i)))]) (by decide) (Nat.le_of_ble_eq_true rfl) rfl ?_
  have hle := hS.le
  refine zr_aload_n dX4_mark_0 rfl rfl ?_
  refine zr_astore_n (ls2 := [(0, .ref (kA c 1)), (1, .ref (kA c (rB i))), (2, .ref (kA c (rB i)))]) dX4_mark_1 rfl (Nat.le_of_ble_eq_true rfl) rfl ?_
  exact l_X4_mark 24 i c σ (by omega) hi hw hS (fun σ3 h3 x3 => ⟨rfl, h3, x3⟩)
set_option maxHeartbeats 4000000 in
theorem c_X4_contexts {G : zG} {σ : zT} {d : Nat} {c : zCS} {th ct : Int32} (hw : zGd G σ) (hS : MSys G σ c th ct) : zCall G I_X4_contexts d [.ref (kA c 1)] σ ((fun o σ' => o = .inl (some (.int (kCt c))) ∧ MSys G σ' c 0 ct ∧ zX G SM σ σ' 0)) := by
  refine zCall_of (ls := [(0, .ref (kA c 1))]) (by decide) (Nat.le_of_ble_eq_true rfl) rfl ?_
  refine zr_aload_n dX4_contexts_0 rfl rfl ?_
  refine zr_iconst (v := 0) dX4_contexts_1 (by decide) ?_
  refine zr_put (k := 1) (fs' := (mO c 0 ct)) zt_X4 hS.1.1 rfl (Nat.le_of_ble_eq_true rfl) q2219 (.inl rfl) rfl rfl rfl (Nat.le_of_ble_eq_true rfl) rfl dX4_contexts_2 ?_
  refine zr_aload_n dX4_contexts_5 rfl rfl ?_
  refine zr_get (k := 2) (v := .int (kCt c)) in_X4 (.new (sF_upS _ _ _)) rfl (Nat.le_of_ble_eq_true rfl) q2220 (.inl rfl) rfl dX4_contexts_6 ?_
  exact zr_iret rfl rfl dX4_contexts_9 (⟨rfl, hS.setT 0, hS.XO hw _⟩)
set_option maxHeartbeats 4000000 in
theorem c_X4_isConsistent {G : zG} {σ : zT} {d : Nat} {c : zCS} {th ct : Int32} (hw : zGd G σ) (hS : MSys G σ c th ct) : zCall G I_X4_isConsistent d [.ref (kA c 1)] σ ((fun o σ' => o = .inl (some (.int 1)) ∧ MSys G σ' c 0 ct ∧ zX G SM σ σ' 0)) := by
  refine zCall_of (ls := [(0, .ref (kA c 1))]) (by decide) (Nat.le_of_ble_eq_true rfl) rfl ?_
  refine zr_aload_n dX4_isConsistent_0 rfl rfl ?_
  refine zr_iconst (v := 0) dX4_isConsistent_1 (by decide) ?_
  refine zr_put (k := 1) (fs' := (mO c 0 ct)) zt_X4 hS.1.1 rfl (Nat.le_of_ble_eq_true rfl) q2219 (.inl rfl) rfl rfl rfl (Nat.le_of_ble_eq_true rfl) rfl dX4_isConsistent_2 ?_
  refine zr_iconst (v := 1) dX4_isConsistent_5 (by decide) ?_
  exact zr_iret rfl rfl dX4_isConsistent_6 (⟨rfl, hS.setT 0, hS.XO hw _⟩)
set_option maxHeartbeats 4000000 in
theorem c_X4_setSize {G : zG} {σ : zT} {d : Nat} {c : zCS} {th ct : Int32} {n a b : Int32} (hd : 20 ≤ d) (hG : zOk G) (hw : zGd G σ) (hS : MSys G σ c th ct) : zCall G I_X4_setSize d [.ref (kA c 1), .int n, .int a, .int b] σ ((fun o σ' => oM o (pSt c n (btw a (-1) 400 && btw b (-1) 400) 6 (fun i => (mMark (kSetF (kSetF c i 6 a) i 7 b) i))).1 ∧ MSys G σ' (pSt c n (btw a (-1) 400 && btw b (-1) 400) 6 (fun i => (mMark (kSetF (kSetF c i 6 a) i 7 b) i))).2 (nI (pSt c n (btw a (-1) 400 && btw b (-1) 400) 6 (fun i => (mMark (kSetF (kSetF c i 6 a) i 7 b) i))).1.1) ct ∧ zX G SM σ σ' 10)) := by
  refine zCall_of (ls := [(0, .ref (kA c 1)), (1, .int n), (2, .int a), (3, .int b)]) (by decide) (Nat.le_of_ble_eq_true rfl) rfl ?_
  have hle := hS.le
  have key : ∀ z : Int32, z = bI (btw a (-1) 400 && btw b (-1) 400) → zR G yX4_setSize cX4_setSize 6 (Option.some Jvm.ClassFile.FieldType.int) [] d 29 [(0, .ref (kA c 1)), (1, .int n), (2, .int a), (3, .int b)] [.int z, .int n, .ref (kA c 1)] σ (fun o σ' => oM o (pSt c n (btw a (-1) 400 && btw b (-1) 400) 6 (fun i => (mMark (kSetF (kSetF c i 6 a) i 7 b) i))).1 ∧ MSys G σ' (pSt c n (btw a (-1) 400 && btw b (-1) 400) 6 (fun i => (mMark (kSetF (kSetF c i 6 a) i 7 b) i))).2 (nI (pSt c n (btw a (-1) 400 && btw b (-1) 400) 6 (fun i => (mMark (kSetF (kSetF c i 6 a) i 7 b) i))).1.1) ct ∧ zX G SM σ σ' 10) := by
    intro z hz
    subst hz
    refine zr_call1 (rest := []) (zs_V (As := [.int n, .int (bI (btw a (-1) 400 && btw b (-1) 400))]) (by omega) ok_X4_wrong q2259 q2261 qs38 q77 q2262 rfl hS.one rfl rfl rfl (Nat.le_of_ble_eq_true rfl) dX4_setSize_29) (c_X4_wrong (n := n) (b := btw a (-1) 400 && btw b (-1) 400) (by omega) hS) ?_
    have hX1 := hS.XO hw (mO c (nI (mWr c n (btw a (-1) 400 && btw b (-1) 400))) ct)
    have hS1 := hS.setT (nI (mWr c n (btw a (-1) 400 && btw b (-1) 400)))
    generalize hσ1 : sUp σ (kA c 1) (.inr (4, mO c (nI (mWr c n (btw a (-1) 400 && btw b (-1) 400))) ct)) = σ1 at hX1 hS1 ⊢
    have hw1 := hX1.gd
    by_cases hb : btw n 0 (nI (kN c) - 1) = true
    · obtain ⟨i, hi, rfl⟩ := btw_idx (by omega) hb
      by_cases hok : (btw a (-1) 400 && btw b (-1) 400) = true
      · rw [show mWr c (nI i) (btw a (-1) 400 && btw b (-1) 400) = 0 from by unfold mWr; rw [if_pos hb, if_pos hok]] at hS1 ⊢
        rw [pSt_1 hle hi hok]
        show zR G yX4_setSize cX4_setSize 6 (Option.some Jvm.ClassFile.FieldType.int) [] d 32 [(0, .ref (kA c 1)), (1, .int (nI i)), (2, .int a), (3, .int b)] [.int 0] σ1 _
        simp only [Bool.and_eq_true] at hok
        refine zr_if_le (tgt := 37) dX4_setSize_32 (by decide) (fun _ => ?_) (fun h9 => absurd (by decide) h9)
        obtain ⟨fl_hfl, hfl⟩ := hS1.bxL.A
        refine zr_aload_n dX4_setSize_37 rfl rfl ?_
        refine zr_get (k := 0) (v := .ref (kA c 2)) in_X4 hS1.one rfl (Nat.le_of_ble_eq_true rfl) q2218 (.inl rfl) rfl dX4_setSize_38 ?_
        refine zr_iload_n dX4_setSize_41 rfl rfl ?_
        refine zr_call1 (rest := []) (zs_V (As := [.int (nI i)]) (by omega) ok_J2_get q2250 q959 q2840 q56 q960 rfl hfl rfl rfl rfl (Nat.le_of_ble_eq_true rfl) dX4_setSize_42) (c_J2_get (by omega) hG hS1.bxL (MSys.bxa hi)) ?_
        refine zr_castS (hS1.bx hi) rfl q2084 dX4_setSize_45 ?_
        refine zr_astore (ls2 := [(0, .ref (kA c 1)), (1, .int (nI i)), (2, .int a), (3, .int b), (4, .ref (kA c (rB i)))]) dX4_setSize_48 (Nat.le_of_ble_eq_true rfl) rfl ?_
        refine zr_aload dX4_setSize_50 rfl ?_
        refine zr_get (k := 7) (v := .int (kF c i 6)) in_X5 (hS1.bx hi) rfl (Nat.le_of_ble_eq_true rfl) q2107 (.inl rfl) rfl dX4_setSize_52 ?_
        refine zr_istore (ls2 := [(0, .ref (kA c 1)), (1, .int (nI i)), (2, .int a), (3, .int b), (4, .ref (kA c (rB i))), (5, .int (kF c i 6))]) dX4_setSize_55 (Nat.le_of_ble_eq_true rfl) rfl ?_
        refine zr_aload dX4_setSize_57 rfl ?_
        refine zr_iload_n dX4_setSize_59 rfl rfl ?_
        have hv0 : KVal 6 a := (hok.1)
        refine zr_put (k := 7) (fs' := (mBx (kSetF c i 6 a) i)) zt_X5 (hS1.bF hi) rfl (Nat.le_of_ble_eq_true rfl) q2107 (.inl rfl) rfl rfl rfl (Nat.le_of_ble_eq_true rfl) (mBx_F6 _ _ _) dX4_setSize_60 ?_
        have hS2 : MSys G (sUp σ1 (kA c (rB i)) (.inr (5, mBx (kSetF c i 6 a) i))) (kSetF c i 6 a) (nI 0) ct := hS1.setF (k := 6) hi a (hS1.2.2.2.setF i hv0 (by decide) (fun h => by cases h))
        have hX2 : zX G SM σ (sUp σ1 (kA c (rB i)) (.inr (5, mBx (kSetF c i 6 a) i))) 0 := hX1.trans (hS1.XB hX1.gd hi (mBx (kSetF c i 6 a) i))
        generalize hσ2 : sUp σ1 (kA c (rB i)) (.inr (5, mBx (kSetF c i 6 a) i)) = σ2 at hS2 hX2 ⊢
        have hb2 : zAt G σ2 (kA c (rB i)) (.inr (5, mBx (kSetF c i 6 a) i)) := hS2.bx hi
        refine zr_aload dX4_setSize_63 rfl ?_
        refine zr_iload_n dX4_setSize_65 rfl rfl ?_
        have hv1 : KVal 7 b := (hok.2)
        refine zr_put (k := 8) (fs' := (mBx (kSetF (kSetF c i 6 a) i 7 b) i)) zt_X5 (hS2.bF hi) rfl (Nat.le_of_ble_eq_true rfl) q2109 (.inl rfl) rfl rfl rfl (Nat.le_of_ble_eq_true rfl) (mBx_F7 _ _ _) dX4_setSize_66 ?_
        have hS3 : MSys G (sUp σ2 (kA c (rB i)) (.inr (5, mBx (kSetF (kSetF c i 6 a) i 7 b) i))) (kSetF (kSetF c i 6 a) i 7 b) (nI 0) ct := hS2.setF (k := 7) hi b (hS2.2.2.2.setF i hv1 (by decide) (fun h => by cases h))
        have hX3 : zX G SM σ (sUp σ2 (kA c (rB i)) (.inr (5, mBx (kSetF (kSetF c i 6 a) i 7 b) i))) 0 := hX2.trans (hS2.XB hX2.gd hi (mBx (kSetF (kSetF c i 6 a) i 7 b) i))
        generalize hσ3 : sUp σ2 (kA c (rB i)) (.inr (5, mBx (kSetF (kSetF c i 6 a) i 7 b) i)) = σ3 at hS3 hX3 ⊢
        have hb3 : zAt G σ3 (kA c (rB i)) (.inr (5, mBx (kSetF (kSetF c i 6 a) i 7 b) i)) := hS3.bx hi
        refine zr_aload_n dX4_setSize_69 rfl rfl ?_
        refine zr_aload dX4_setSize_70 rfl ?_
        obtain ⟨_, σt, ⟨rfl, hSt, hXt⟩, hCt⟩ := c_X4_mark (d := d - 1) hX3.gd hS3 (i := i) hi
        have hCt : zC G I_X4_mark (d - 1) [.ref (kA c 1), .ref (kA c (rB i))] σ3 _ σt := hCt
        have h1t : zAt G σ3 (kA c 1) (.inr (4, mO (kSetF (kSetF c i 6 a) i 7 b) (nI 0) ct)) := hS3.one
        refine zr_callv (rest := []) (zs_V (As := [.ref (kA c (rB i))]) (by omega) ok_X4_mark q2251 q2253 qs37 q77 q2254 rfl h1t rfl rfl rfl (Nat.le_of_ble_eq_true rfl) dX4_setSize_72) hCt ?_
        refine zr_iload dX4_setSize_75 rfl ?_
        exact zr_iret rfl rfl dX4_setSize_77 (⟨⟨_, rfl, fun _ => rfl⟩, hSt, (hX3.trans hXt).le (by omega)⟩)
      · have hok0 : (btw a (-1) 400 && btw b (-1) 400) = false := by simpa using hok
        rw [show mWr c (nI i) (btw a (-1) 400 && btw b (-1) 400) = 2 from by unfold mWr; rw [if_pos hb, if_neg hok]] at hS1 ⊢
        rw [pSt_2 hle hi hok0]
        show zR G yX4_setSize cX4_setSize 6 (Option.some Jvm.ClassFile.FieldType.int) [] d 32 [(0, .ref (kA c 1)), (1, .int (nI i)), (2, .int a), (3, .int b)] [.int 2] σ1 _
        refine zr_if_le (tgt := 37) dX4_setSize_32 (by decide) (fun h9 => absurd h9 (by decide)) (fun _ => ?_)
        refine zr_iconst (v := 0) dX4_setSize_35 (by decide) ?_
        exact zr_iret rfl rfl dX4_setSize_36 (⟨⟨_, rfl, fun h => by cases h⟩, hS1, hX1.le (by omega)⟩)
    · have hb0 : btw n 0 (nI (kN c) - 1) = false := by simpa using hb
      rw [show mWr c n (btw a (-1) 400 && btw b (-1) 400) = 1 from if_neg hb] at hS1 ⊢
      rw [pSt_0 hb0]
      show zR G yX4_setSize cX4_setSize 6 (Option.some Jvm.ClassFile.FieldType.int) [] d 32 [(0, .ref (kA c 1)), (1, .int n), (2, .int a), (3, .int b)] [.int 1] σ1 _
      refine zr_if_le (tgt := 37) dX4_setSize_32 (by decide) (fun h9 => absurd h9 (by decide)) (fun _ => ?_)
      refine zr_iconst (v := 0) dX4_setSize_35 (by decide) ?_
      exact zr_iret rfl rfl dX4_setSize_36 (⟨⟨_, rfl, fun h => by cases h⟩, hS1, hX1.le (by omega)⟩)
  refine zr_aload_n dX4_setSize_0 rfl rfl ?_
  refine zr_iload_n dX4_setSize_1 rfl rfl ?_
  refine zr_iload_n dX4_setSize_2 rfl rfl ?_
  refine zr_iconst (v := (-1)) dX4_setSize_3 (by decide) ?_
  refine zr_sipush (v := 400) dX4_setSize_4 (by decide) ?_
  refine zr_call1 (rest := [.int n, .ref (kA c 1)]) (zs_S (As := [.int a, .int (-1), .int 400]) (by omega) ok_X4_in q2247 q2248 q77 q2249 rfl rfl (Nat.le_of_ble_eq_true rfl) dX4_setSize_7) c_X4_in ?_
  refine zr_ifeqB (tgt := 28) dX4_setSize_10 (by decide) (fun c_1 => ?_) (fun c_1 => ?_)
  · refine zr_iconst (v := 0) dX4_setSize_28 (by decide) ?_
    exact key _ (by rw [show (btw a (-1) 400 && btw b (-1) 400) = false from by simp [c_1]]; rfl)
  · refine zr_iload_n dX4_setSize_13 rfl rfl ?_
    refine zr_iconst (v := (-1)) dX4_setSize_14 (by decide) ?_
    refine zr_sipush (v := 400) dX4_setSize_15 (by decide) ?_
    refine zr_call1 (rest := [.int n, .ref (kA c 1)]) (zs_S (As := [.int b, .int (-1), .int 400]) (by omega) ok_X4_in q2247 q2248 q77 q2249 rfl rfl (Nat.le_of_ble_eq_true rfl) dX4_setSize_18) c_X4_in ?_
    refine zr_ifeqB (tgt := 28) dX4_setSize_21 (by decide) (fun c_2 => ?_) (fun c_2 => ?_)
    · refine zr_iconst (v := 0) dX4_setSize_28 (by decide) ?_
      exact key _ (by rw [show (btw a (-1) 400 && btw b (-1) 400) = false from by simp [c_1, c_2]]; rfl)
    · refine zr_iconst (v := 1) dX4_setSize_24 (by decide) ?_
      refine zr_goto (tgt := 29) dX4_setSize_25 (by decide) ?_
      exact key _ (by rw [show (btw a (-1) 400 && btw b (-1) 400) = true from by simp [c_1, c_2]]; rfl)
set_option maxHeartbeats 4000000 in
theorem c_X4_setMargins {G : zG} {σ : zT} {d : Nat} {c : zCS} {th ct : Int32} {n a b e f : Int32} (hd : 20 ≤ d) (hG : zOk G) (hw : zGd G σ) (hS : MSys G σ c th ct) : zCall G I_X4_setMargins d [.ref (kA c 1), .int n, .int a, .int b, .int e, .int f] σ ((fun o σ' => oM o (pSt c n (btw a (-40) 40 && btw b (-40) 40 && btw e 0 40 && btw f 0 40) 8 (fun i => (mMark (kSetF (kSetF (kSetF (kSetF c i 8 a) i 9 b) i 10 e) i 11 f) i))).1 ∧ MSys G σ' (pSt c n (btw a (-40) 40 && btw b (-40) 40 && btw e 0 40 && btw f 0 40) 8 (fun i => (mMark (kSetF (kSetF (kSetF (kSetF c i 8 a) i 9 b) i 10 e) i 11 f) i))).2 (nI (pSt c n (btw a (-40) 40 && btw b (-40) 40 && btw e 0 40 && btw f 0 40) 8 (fun i => (mMark (kSetF (kSetF (kSetF (kSetF c i 8 a) i 9 b) i 10 e) i 11 f) i))).1.1) ct ∧ zX G SM σ σ' 10)) := by
  refine zCall_of (ls := [(0, .ref (kA c 1)), (1, .int n), (2, .int a), (3, .int b), (4, .int e), (5, .int f)]) (by decide) (Nat.le_of_ble_eq_true rfl) rfl ?_
  have hle := hS.le
  have key : ∀ z : Int32, z = bI (btw a (-40) 40 && btw b (-40) 40 && btw e 0 40 && btw f 0 40) → zR G yX4_setMargins cX4_setMargins 8 (Option.some Jvm.ClassFile.FieldType.int) [] d 51 [(0, .ref (kA c 1)), (1, .int n), (2, .int a), (3, .int b), (4, .int e), (5, .int f)] [.int z, .int n, .ref (kA c 1)] σ (fun o σ' => oM o (pSt c n (btw a (-40) 40 && btw b (-40) 40 && btw e 0 40 && btw f 0 40) 8 (fun i => (mMark (kSetF (kSetF (kSetF (kSetF c i 8 a) i 9 b) i 10 e) i 11 f) i))).1 ∧ MSys G σ' (pSt c n (btw a (-40) 40 && btw b (-40) 40 && btw e 0 40 && btw f 0 40) 8 (fun i => (mMark (kSetF (kSetF (kSetF (kSetF c i 8 a) i 9 b) i 10 e) i 11 f) i))).2 (nI (pSt c n (btw a (-40) 40 && btw b (-40) 40 && btw e 0 40 && btw f 0 40) 8 (fun i => (mMark (kSetF (kSetF (kSetF (kSetF c i 8 a) i 9 b) i 10 e) i 11 f) i))).1.1) ct ∧ zX G SM σ σ' 10) := by
    intro z hz
    subst hz
    refine zr_call1 (rest := []) (zs_V (As := [.int n, .int (bI (btw a (-40) 40 && btw b (-40) 40 && btw e 0 40 && btw f 0 40))]) (by omega) ok_X4_wrong q2259 q2261 qs38 q77 q2262 rfl hS.one rfl rfl rfl (Nat.le_of_ble_eq_true rfl) dX4_setMargins_51) (c_X4_wrong (n := n) (b := btw a (-40) 40 && btw b (-40) 40 && btw e 0 40 && btw f 0 40) (by omega) hS) ?_
    have hX1 := hS.XO hw (mO c (nI (mWr c n (btw a (-40) 40 && btw b (-40) 40 && btw e 0 40 && btw f 0 40))) ct)
    have hS1 := hS.setT (nI (mWr c n (btw a (-40) 40 && btw b (-40) 40 && btw e 0 40 && btw f 0 40)))
    generalize hσ1 : sUp σ (kA c 1) (.inr (4, mO c (nI (mWr c n (btw a (-40) 40 && btw b (-40) 40 && btw e 0 40 && btw f 0 40))) ct)) = σ1 at hX1 hS1 ⊢
    have hw1 := hX1.gd
    by_cases hb : btw n 0 (nI (kN c) - 1) = true
    · obtain ⟨i, hi, rfl⟩ := btw_idx (by omega) hb
      by_cases hok : (btw a (-40) 40 && btw b (-40) 40 && btw e 0 40 && btw f 0 40) = true
      · rw [show mWr c (nI i) (btw a (-40) 40 && btw b (-40) 40 && btw e 0 40 && btw f 0 40) = 0 from by unfold mWr; rw [if_pos hb, if_pos hok]] at hS1 ⊢
        rw [pSt_1 hle hi hok]
        show zR G yX4_setMargins cX4_setMargins 8 (Option.some Jvm.ClassFile.FieldType.int) [] d 54 [(0, .ref (kA c 1)), (1, .int (nI i)), (2, .int a), (3, .int b), (4, .int e), (5, .int f)] [.int 0] σ1 _
        simp only [Bool.and_eq_true] at hok
        refine zr_if_le (tgt := 59) dX4_setMargins_54 (by decide) (fun _ => ?_) (fun h9 => absurd (by decide) h9)
        obtain ⟨fl_hfl, hfl⟩ := hS1.bxL.A
        refine zr_aload_n dX4_setMargins_59 rfl rfl ?_
        refine zr_get (k := 0) (v := .ref (kA c 2)) in_X4 hS1.one rfl (Nat.le_of_ble_eq_true rfl) q2218 (.inl rfl) rfl dX4_setMargins_60 ?_
        refine zr_iload_n dX4_setMargins_63 rfl rfl ?_
        refine zr_call1 (rest := []) (zs_V (As := [.int (nI i)]) (by omega) ok_J2_get q2250 q959 q2840 q56 q960 rfl hfl rfl rfl rfl (Nat.le_of_ble_eq_true rfl) dX4_setMargins_64) (c_J2_get (by omega) hG hS1.bxL (MSys.bxa hi)) ?_
        refine zr_castS (hS1.bx hi) rfl q2084 dX4_setMargins_67 ?_
        refine zr_astore (ls2 := [(0, .ref (kA c 1)), (1, .int (nI i)), (2, .int a), (3, .int b), (4, .int e), (5, .int f), (6, .ref (kA c (rB i)))]) dX4_setMargins_70 (Nat.le_of_ble_eq_true rfl) rfl ?_
        refine zr_aload dX4_setMargins_72 rfl ?_
        refine zr_get (k := 9) (v := .int (kF c i 8)) in_X5 (hS1.bx hi) rfl (Nat.le_of_ble_eq_true rfl) q2111 (.inl rfl) rfl dX4_setMargins_74 ?_
        refine zr_istore (ls2 := [(0, .ref (kA c 1)), (1, .int (nI i)), (2, .int a), (3, .int b), (4, .int e), (5, .int f), (6, .ref (kA c (rB i))), (7, .int (kF c i 8))]) dX4_setMargins_77 (Nat.le_of_ble_eq_true rfl) rfl ?_
        refine zr_aload dX4_setMargins_79 rfl ?_
        refine zr_iload_n dX4_setMargins_81 rfl rfl ?_
        have hv0 : KVal 8 a := (hok.1.1.1)
        refine zr_put (k := 9) (fs' := (mBx (kSetF c i 8 a) i)) zt_X5 (hS1.bF hi) rfl (Nat.le_of_ble_eq_true rfl) q2111 (.inl rfl) rfl rfl rfl (Nat.le_of_ble_eq_true rfl) (mBx_F8 _ _ _) dX4_setMargins_82 ?_
        have hS2 : MSys G (sUp σ1 (kA c (rB i)) (.inr (5, mBx (kSetF c i 8 a) i))) (kSetF c i 8 a) (nI 0) ct := hS1.setF (k := 8) hi a (hS1.2.2.2.setF i hv0 (by decide) (fun h => by cases h))
        have hX2 : zX G SM σ (sUp σ1 (kA c (rB i)) (.inr (5, mBx (kSetF c i 8 a) i))) 0 := hX1.trans (hS1.XB hX1.gd hi (mBx (kSetF c i 8 a) i))
        generalize hσ2 : sUp σ1 (kA c (rB i)) (.inr (5, mBx (kSetF c i 8 a) i)) = σ2 at hS2 hX2 ⊢
        have hb2 : zAt G σ2 (kA c (rB i)) (.inr (5, mBx (kSetF c i 8 a) i)) := hS2.bx hi
        refine zr_aload dX4_setMargins_85 rfl ?_
        refine zr_iload_n dX4_setMargins_87 rfl rfl ?_
        have hv1 : KVal 9 b := (hok.1.1.2)
        refine zr_put (k := 10) (fs' := (mBx (kSetF (kSetF c i 8 a) i 9 b) i)) zt_X5 (hS2.bF hi) rfl (Nat.le_of_ble_eq_true rfl) q2113 (.inl rfl) rfl rfl rfl (Nat.le_of_ble_eq_true rfl) (mBx_F9 _ _ _) dX4_setMargins_88 ?_
        have hS3 : MSys G (sUp σ2 (kA c (rB i)) (.inr (5, mBx (kSetF (kSetF c i 8 a) i 9 b) i))) (kSetF (kSetF c i 8 a) i 9 b) (nI 0) ct := hS2.setF (k := 9) hi b (hS2.2.2.2.setF i hv1 (by decide) (fun h => by cases h))
        have hX3 : zX G SM σ (sUp σ2 (kA c (rB i)) (.inr (5, mBx (kSetF (kSetF c i 8 a) i 9 b) i))) 0 := hX2.trans (hS2.XB hX2.gd hi (mBx (kSetF (kSetF c i 8 a) i 9 b) i))
        generalize hσ3 : sUp σ2 (kA c (rB i)) (.inr (5, mBx (kSetF (kSetF c i 8 a) i 9 b) i)) = σ3 at hS3 hX3 ⊢
        have hb3 : zAt G σ3 (kA c (rB i)) (.inr (5, mBx (kSetF (kSetF c i 8 a) i 9 b) i)) := hS3.bx hi
        refine zr_aload dX4_setMargins_91 rfl ?_
        refine zr_iload dX4_setMargins_93 rfl ?_
        have hv2 : KVal 10 e := (hok.1.2)
        refine zr_put (k := 11) (fs' := (mBx (kSetF (kSetF (kSetF c i 8 a) i 9 b) i 10 e) i)) zt_X5 (hS3.bF hi) rfl (Nat.le_of_ble_eq_true rfl) q2115 (.inl rfl) rfl rfl rfl (Nat.le_of_ble_eq_true rfl) (mBx_F10 _ _ _) dX4_setMargins_95 ?_
        have hS4 : MSys G (sUp σ3 (kA c (rB i)) (.inr (5, mBx (kSetF (kSetF (kSetF c i 8 a) i 9 b) i 10 e) i))) (kSetF (kSetF (kSetF c i 8 a) i 9 b) i 10 e) (nI 0) ct := hS3.setF (k := 10) hi e (hS3.2.2.2.setF i hv2 (by decide) (fun h => by cases h))
        have hX4 : zX G SM σ (sUp σ3 (kA c (rB i)) (.inr (5, mBx (kSetF (kSetF (kSetF c i 8 a) i 9 b) i 10 e) i))) 0 := hX3.trans (hS3.XB hX3.gd hi (mBx (kSetF (kSetF (kSetF c i 8 a) i 9 b) i 10 e) i))
        generalize hσ4 : sUp σ3 (kA c (rB i)) (.inr (5, mBx (kSetF (kSetF (kSetF c i 8 a) i 9 b) i 10 e) i)) = σ4 at hS4 hX4 ⊢
        have hb4 : zAt G σ4 (kA c (rB i)) (.inr (5, mBx (kSetF (kSetF (kSetF c i 8 a) i 9 b) i 10 e) i)) := hS4.bx hi
        refine zr_aload dX4_setMargins_98 rfl ?_
        refine zr_iload dX4_setMargins_100 rfl ?_
        have hv3 : KVal 11 f := (hok.2)
        refine zr_put (k := 12) (fs' := (mBx (kSetF (kSetF (kSetF (kSetF c i 8 a) i 9 b) i 10 e) i 11 f) i)) zt_X5 (hS4.bF hi) rfl (Nat.le_of_ble_eq_true rfl) q2117 (.inl rfl) rfl rfl rfl (Nat.le_of_ble_eq_true rfl) (mBx_F11 _ _ _) dX4_setMargins_102 ?_
        have hS5 : MSys G (sUp σ4 (kA c (rB i)) (.inr (5, mBx (kSetF (kSetF (kSetF (kSetF c i 8 a) i 9 b) i 10 e) i 11 f) i))) (kSetF (kSetF (kSetF (kSetF c i 8 a) i 9 b) i 10 e) i 11 f) (nI 0) ct := hS4.setF (k := 11) hi f (hS4.2.2.2.setF i hv3 (by decide) (fun h => by cases h))
        have hX5 : zX G SM σ (sUp σ4 (kA c (rB i)) (.inr (5, mBx (kSetF (kSetF (kSetF (kSetF c i 8 a) i 9 b) i 10 e) i 11 f) i))) 0 := hX4.trans (hS4.XB hX4.gd hi (mBx (kSetF (kSetF (kSetF (kSetF c i 8 a) i 9 b) i 10 e) i 11 f) i))
        generalize hσ5 : sUp σ4 (kA c (rB i)) (.inr (5, mBx (kSetF (kSetF (kSetF (kSetF c i 8 a) i 9 b) i 10 e) i 11 f) i)) = σ5 at hS5 hX5 ⊢
        have hb5 : zAt G σ5 (kA c (rB i)) (.inr (5, mBx (kSetF (kSetF (kSetF (kSetF c i 8 a) i 9 b) i 10 e) i 11 f) i)) := hS5.bx hi
        refine zr_aload_n dX4_setMargins_105 rfl rfl ?_
        refine zr_aload dX4_setMargins_106 rfl ?_
        obtain ⟨_, σt, ⟨rfl, hSt, hXt⟩, hCt⟩ := c_X4_mark (d := d - 1) hX5.gd hS5 (i := i) hi
        have hCt : zC G I_X4_mark (d - 1) [.ref (kA c 1), .ref (kA c (rB i))] σ5 _ σt := hCt
        have h1t : zAt G σ5 (kA c 1) (.inr (4, mO (kSetF (kSetF (kSetF (kSetF c i 8 a) i 9 b) i 10 e) i 11 f) (nI 0) ct)) := hS5.one
        refine zr_callv (rest := []) (zs_V (As := [.ref (kA c (rB i))]) (by omega) ok_X4_mark q2251 q2253 qs37 q77 q2254 rfl h1t rfl rfl rfl (Nat.le_of_ble_eq_true rfl) dX4_setMargins_108) hCt ?_
        refine zr_iload dX4_setMargins_111 rfl ?_
        exact zr_iret rfl rfl dX4_setMargins_113 (⟨⟨_, rfl, fun _ => rfl⟩, hSt, (hX5.trans hXt).le (by omega)⟩)
      · have hok0 : (btw a (-40) 40 && btw b (-40) 40 && btw e 0 40 && btw f 0 40) = false := by simpa using hok
        rw [show mWr c (nI i) (btw a (-40) 40 && btw b (-40) 40 && btw e 0 40 && btw f 0 40) = 2 from by unfold mWr; rw [if_pos hb, if_neg hok]] at hS1 ⊢
        rw [pSt_2 hle hi hok0]
        show zR G yX4_setMargins cX4_setMargins 8 (Option.some Jvm.ClassFile.FieldType.int) [] d 54 [(0, .ref (kA c 1)), (1, .int (nI i)), (2, .int a), (3, .int b), (4, .int e), (5, .int f)] [.int 2] σ1 _
        refine zr_if_le (tgt := 59) dX4_setMargins_54 (by decide) (fun h9 => absurd h9 (by decide)) (fun _ => ?_)
        refine zr_iconst (v := 0) dX4_setMargins_57 (by decide) ?_
        exact zr_iret rfl rfl dX4_setMargins_58 (⟨⟨_, rfl, fun h => by cases h⟩, hS1, hX1.le (by omega)⟩)
    · have hb0 : btw n 0 (nI (kN c) - 1) = false := by simpa using hb
      rw [show mWr c n (btw a (-40) 40 && btw b (-40) 40 && btw e 0 40 && btw f 0 40) = 1 from if_neg hb] at hS1 ⊢
      rw [pSt_0 hb0]
      show zR G yX4_setMargins cX4_setMargins 8 (Option.some Jvm.ClassFile.FieldType.int) [] d 54 [(0, .ref (kA c 1)), (1, .int n), (2, .int a), (3, .int b), (4, .int e), (5, .int f)] [.int 1] σ1 _
      refine zr_if_le (tgt := 59) dX4_setMargins_54 (by decide) (fun h9 => absurd h9 (by decide)) (fun _ => ?_)
      refine zr_iconst (v := 0) dX4_setMargins_57 (by decide) ?_
      exact zr_iret rfl rfl dX4_setMargins_58 (⟨⟨_, rfl, fun h => by cases h⟩, hS1, hX1.le (by omega)⟩)
  refine zr_aload_n dX4_setMargins_0 rfl rfl ?_
  refine zr_iload_n dX4_setMargins_1 rfl rfl ?_
  refine zr_iload_n dX4_setMargins_2 rfl rfl ?_
  refine zr_bipush (v := (-40)) dX4_setMargins_3 (by decide) ?_
  refine zr_bipush (v := 40) dX4_setMargins_5 (by decide) ?_
  refine zr_call1 (rest := [.int n, .ref (kA c 1)]) (zs_S (As := [.int a, .int (-40), .int 40]) (by omega) ok_X4_in q2247 q2248 q77 q2249 rfl rfl (Nat.le_of_ble_eq_true rfl) dX4_setMargins_7) c_X4_in ?_
  refine zr_ifeqB (tgt := 50) dX4_setMargins_10 (by decide) (fun c_1 => ?_) (fun c_1 => ?_)
  · refine zr_iconst (v := 0) dX4_setMargins_50 (by decide) ?_
    exact key _ (by rw [show (btw a (-40) 40 && btw b (-40) 40 && btw e 0 40 && btw f 0 40) = false from by simp [c_1]]; rfl)
  · refine zr_iload_n dX4_setMargins_13 rfl rfl ?_
    refine zr_bipush (v := (-40)) dX4_setMargins_14 (by decide) ?_
    refine zr_bipush (v := 40) dX4_setMargins_16 (by decide) ?_
    refine zr_call1 (rest := [.int n, .ref (kA c 1)]) (zs_S (As := [.int b, .int (-40), .int 40]) (by omega) ok_X4_in q2247 q2248 q77 q2249 rfl rfl (Nat.le_of_ble_eq_true rfl) dX4_setMargins_18) c_X4_in ?_
    refine zr_ifeqB (tgt := 50) dX4_setMargins_21 (by decide) (fun c_2 => ?_) (fun c_2 => ?_)
    · refine zr_iconst (v := 0) dX4_setMargins_50 (by decide) ?_
      exact key _ (by rw [show (btw a (-40) 40 && btw b (-40) 40 && btw e 0 40 && btw f 0 40) = false from by simp [c_1, c_2]]; rfl)
    · refine zr_iload dX4_setMargins_24 rfl ?_
      refine zr_iconst (v := 0) dX4_setMargins_26 (by decide) ?_
      refine zr_bipush (v := 40) dX4_setMargins_27 (by decide) ?_
      refine zr_call1 (rest := [.int n, .ref (kA c 1)]) (zs_S (As := [.int e, .int 0, .int 40]) (by omega) ok_X4_in q2247 q2248 q77 q2249 rfl rfl (Nat.le_of_ble_eq_true rfl) dX4_setMargins_29) c_X4_in ?_
      refine zr_ifeqB (tgt := 50) dX4_setMargins_32 (by decide) (fun c_3 => ?_) (fun c_3 => ?_)
      · refine zr_iconst (v := 0) dX4_setMargins_50 (by decide) ?_
        exact key _ (by rw [show (btw a (-40) 40 && btw b (-40) 40 && btw e 0 40 && btw f 0 40) = false from by simp [c_1, c_2, c_3]]; rfl)
      · refine zr_iload dX4_setMargins_35 rfl ?_
        refine zr_iconst (v := 0) dX4_setMargins_37 (by decide) ?_
        refine zr_bipush (v := 40) dX4_setMargins_38 (by decide) ?_
        refine zr_call1 (rest := [.int n, .ref (kA c 1)]) (zs_S (As := [.int f, .int 0, .int 40]) (by omega) ok_X4_in q2247 q2248 q77 q2249 rfl rfl (Nat.le_of_ble_eq_true rfl) dX4_setMargins_40) c_X4_in ?_
        refine zr_ifeqB (tgt := 50) dX4_setMargins_43 (by decide) (fun c_4 => ?_) (fun c_4 => ?_)
        · refine zr_iconst (v := 0) dX4_setMargins_50 (by decide) ?_
          exact key _ (by rw [show (btw a (-40) 40 && btw b (-40) 40 && btw e 0 40 && btw f 0 40) = false from by simp [c_1, c_2, c_3, c_4]]; rfl)
        · refine zr_iconst (v := 1) dX4_setMargins_46 (by decide) ?_
          refine zr_goto (tgt := 51) dX4_setMargins_47 (by decide) ?_
          exact key _ (by rw [show (btw a (-40) 40 && btw b (-40) 40 && btw e 0 40 && btw f 0 40) = true from by simp [c_1, c_2, c_3, c_4]]; rfl)
set_option maxHeartbeats 4000000 in
theorem c_X4_setPadding {G : zG} {σ : zT} {d : Nat} {c : zCS} {th ct : Int32} {n a : Int32} (hd : 20 ≤ d) (hG : zOk G) (hw : zGd G σ) (hS : MSys G σ c th ct) : zCall G I_X4_setPadding d [.ref (kA c 1), .int n, .int a] σ ((fun o σ' => oM o (pSt c n (btw a 0 20) 12 (fun i => (mMark (kSetF c i 12 a) i))).1 ∧ MSys G σ' (pSt c n (btw a 0 20) 12 (fun i => (mMark (kSetF c i 12 a) i))).2 (nI (pSt c n (btw a 0 20) 12 (fun i => (mMark (kSetF c i 12 a) i))).1.1) ct ∧ zX G SM σ σ' 10)) := by
  refine zCall_of (ls := [(0, .ref (kA c 1)), (1, .int n), (2, .int a)]) (by decide) (Nat.le_of_ble_eq_true rfl) rfl ?_
  have hle := hS.le
  refine zr_aload_n dX4_setPadding_0 rfl rfl ?_
  refine zr_iload_n dX4_setPadding_1 rfl rfl ?_
  refine zr_iload_n dX4_setPadding_2 rfl rfl ?_
  refine zr_iconst (v := 0) dX4_setPadding_3 (by decide) ?_
  refine zr_bipush (v := 20) dX4_setPadding_4 (by decide) ?_
  refine zr_call1 (rest := [.int n, .ref (kA c 1)]) (zs_S (As := [.int a, .int 0, .int 20]) (by omega) ok_X4_in q2247 q2248 q77 q2249 rfl rfl (Nat.le_of_ble_eq_true rfl) dX4_setPadding_6) c_X4_in ?_
  refine zr_call1 (rest := []) (zs_V (As := [.int n, .int (bI (btw a 0 20))]) (by omega) ok_X4_wrong q2259 q2261 qs38 q77 q2262 rfl hS.one rfl rfl rfl (Nat.le_of_ble_eq_true rfl) dX4_setPadding_9) (c_X4_wrong (n := n) (b := btw a 0 20) (by omega) hS) ?_
  have hX1 := hS.XO hw (mO c (nI (mWr c n (btw a 0 20))) ct)
  have hS1 := hS.setT (nI (mWr c n (btw a 0 20)))
  generalize hσ1 : sUp σ (kA c 1) (.inr (4, mO c (nI (mWr c n (btw a 0 20))) ct)) = σ1 at hX1 hS1 ⊢
  have hw1 := hX1.gd
  by_cases hb : btw n 0 (nI (kN c) - 1) = true
  · obtain ⟨i, hi, rfl⟩ := btw_idx (by omega) hb
    by_cases hok : (btw a 0 20) = true
    · rw [show mWr c (nI i) (btw a 0 20) = 0 from by unfold mWr; rw [if_pos hb, if_pos hok]] at hS1 ⊢
      rw [pSt_1 hle hi hok]
      show zR G yX4_setPadding cX4_setPadding 5 (Option.some Jvm.ClassFile.FieldType.int) [] d 12 [(0, .ref (kA c 1)), (1, .int (nI i)), (2, .int a)] [.int 0] σ1 _
      refine zr_if_le (tgt := 17) dX4_setPadding_12 (by decide) (fun _ => ?_) (fun h9 => absurd (by decide) h9)
      obtain ⟨fl_hfl, hfl⟩ := hS1.bxL.A
      refine zr_aload_n dX4_setPadding_17 rfl rfl ?_
      refine zr_get (k := 0) (v := .ref (kA c 2)) in_X4 hS1.one rfl (Nat.le_of_ble_eq_true rfl) q2218 (.inl rfl) rfl dX4_setPadding_18 ?_
      refine zr_iload_n dX4_setPadding_21 rfl rfl ?_
      refine zr_call1 (rest := []) (zs_V (As := [.int (nI i)]) (by omega) ok_J2_get q2250 q959 q2840 q56 q960 rfl hfl rfl rfl rfl (Nat.le_of_ble_eq_true rfl) dX4_setPadding_22) (c_J2_get (by omega) hG hS1.bxL (MSys.bxa hi)) ?_
      refine zr_castS (hS1.bx hi) rfl q2084 dX4_setPadding_25 ?_
      refine zr_astore_n (ls2 := [(0, .ref (kA c 1)), (1, .int (nI i)), (2, .int a), (3, .ref (kA c (rB i)))]) dX4_setPadding_28 rfl (Nat.le_of_ble_eq_true rfl) rfl ?_
      refine zr_aload_n dX4_setPadding_29 rfl rfl ?_
      refine zr_get (k := 13) (v := .int (kF c i 12)) in_X5 (hS1.bx hi) rfl (Nat.le_of_ble_eq_true rfl) q2119 (.inl rfl) rfl dX4_setPadding_30 ?_
      refine zr_istore (ls2 := [(0, .ref (kA c 1)), (1, .int (nI i)), (2, .int a), (3, .ref (kA c (rB i))), (4, .int (kF c i 12))]) dX4_setPadding_33 (Nat.le_of_ble_eq_true rfl) rfl ?_
      refine zr_aload_n dX4_setPadding_35 rfl rfl ?_
      refine zr_iload_n dX4_setPadding_36 rfl rfl ?_
      have hv0 : KVal 12 a := hok
      refine zr_put (k := 13) (fs' := (mBx (kSetF c i 12 a) i)) zt_X5 (hS1.bF hi) rfl (Nat.le_of_ble_eq_true rfl) q2119 (.inl rfl) rfl rfl rfl (Nat.le_of_ble_eq_true rfl) (mBx_F12 _ _ _) dX4_setPadding_37 ?_
      have hS2 : MSys G (sUp σ1 (kA c (rB i)) (.inr (5, mBx (kSetF c i 12 a) i))) (kSetF c i 12 a) (nI 0) ct := hS1.setF (k := 12) hi a (hS1.2.2.2.setF i hv0 (by decide) (fun h => by cases h))
      have hX2 : zX G SM σ (sUp σ1 (kA c (rB i)) (.inr (5, mBx (kSetF c i 12 a) i))) 0 := hX1.trans (hS1.XB hX1.gd hi (mBx (kSetF c i 12 a) i))
      generalize hσ2 : sUp σ1 (kA c (rB i)) (.inr (5, mBx (kSetF c i 12 a) i)) = σ2 at hS2 hX2 ⊢
      have hb2 : zAt G σ2 (kA c (rB i)) (.inr (5, mBx (kSetF c i 12 a) i)) := hS2.bx hi
      refine zr_aload_n dX4_setPadding_40 rfl rfl ?_
      refine zr_aload_n dX4_setPadding_41 rfl rfl ?_
      obtain ⟨_, σt, ⟨rfl, hSt, hXt⟩, hCt⟩ := c_X4_mark (d := d - 1) hX2.gd hS2 (i := i) hi
      have hCt : zC G I_X4_mark (d - 1) [.ref (kA c 1), .ref (kA c (rB i))] σ2 _ σt := hCt
      have h1t : zAt G σ2 (kA c 1) (.inr (4, mO (kSetF c i 12 a) (nI 0) ct)) := hS2.one
      refine zr_callv (rest := []) (zs_V (As := [.ref (kA c (rB i))]) (by omega) ok_X4_mark q2251 q2253 qs37 q77 q2254 rfl h1t rfl rfl rfl (Nat.le_of_ble_eq_true rfl) dX4_setPadding_42) hCt ?_
      refine zr_iload dX4_setPadding_45 rfl ?_
      exact zr_iret rfl rfl dX4_setPadding_47 (⟨⟨_, rfl, fun _ => rfl⟩, hSt, (hX2.trans hXt).le (by omega)⟩)
    · have hok0 : (btw a 0 20) = false := by simpa using hok
      rw [show mWr c (nI i) (btw a 0 20) = 2 from by unfold mWr; rw [if_pos hb, if_neg hok]] at hS1 ⊢
      rw [pSt_2 hle hi hok0]
      show zR G yX4_setPadding cX4_setPadding 5 (Option.some Jvm.ClassFile.FieldType.int) [] d 12 [(0, .ref (kA c 1)), (1, .int (nI i)), (2, .int a)] [.int 2] σ1 _
      refine zr_if_le (tgt := 17) dX4_setPadding_12 (by decide) (fun h9 => absurd h9 (by decide)) (fun _ => ?_)
      refine zr_iconst (v := 0) dX4_setPadding_15 (by decide) ?_
      exact zr_iret rfl rfl dX4_setPadding_16 (⟨⟨_, rfl, fun h => by cases h⟩, hS1, hX1.le (by omega)⟩)
  · have hb0 : btw n 0 (nI (kN c) - 1) = false := by simpa using hb
    rw [show mWr c n (btw a 0 20) = 1 from if_neg hb] at hS1 ⊢
    rw [pSt_0 hb0]
    show zR G yX4_setPadding cX4_setPadding 5 (Option.some Jvm.ClassFile.FieldType.int) [] d 12 [(0, .ref (kA c 1)), (1, .int n), (2, .int a)] [.int 1] σ1 _
    refine zr_if_le (tgt := 17) dX4_setPadding_12 (by decide) (fun h9 => absurd h9 (by decide)) (fun _ => ?_)
    refine zr_iconst (v := 0) dX4_setPadding_15 (by decide) ?_
    exact zr_iret rfl rfl dX4_setPadding_16 (⟨⟨_, rfl, fun h => by cases h⟩, hS1, hX1.le (by omega)⟩)
set_option maxHeartbeats 4000000 in
theorem c_X4_setFactors {G : zG} {σ : zT} {d : Nat} {c : zCS} {th ct : Int32} {n a b : Int32} (hd : 20 ≤ d) (hG : zOk G) (hw : zGd G σ) (hS : MSys G σ c th ct) : zCall G I_X4_setFactors d [.ref (kA c 1), .int n, .int a, .int b] σ ((fun o σ' => oM o (pSt c n (btw a 0 9 && btw b 0 9) 13 (fun i => (mMark (kSetF (kSetF c i 13 a) i 14 b) i))).1 ∧ MSys G σ' (pSt c n (btw a 0 9 && btw b 0 9) 13 (fun i => (mMark (kSetF (kSetF c i 13 a) i 14 b) i))).2 (nI (pSt c n (btw a 0 9 && btw b 0 9) 13 (fun i => (mMark (kSetF (kSetF c i 13 a) i 14 b) i))).1.1) ct ∧ zX G SM σ σ' 10)) := by
  refine zCall_of (ls := [(0, .ref (kA c 1)), (1, .int n), (2, .int a), (3, .int b)]) (by decide) (Nat.le_of_ble_eq_true rfl) rfl ?_
  have hle := hS.le
  have key : ∀ z : Int32, z = bI (btw a 0 9 && btw b 0 9) → zR G yX4_setFactors cX4_setFactors 6 (Option.some Jvm.ClassFile.FieldType.int) [] d 27 [(0, .ref (kA c 1)), (1, .int n), (2, .int a), (3, .int b)] [.int z, .int n, .ref (kA c 1)] σ (fun o σ' => oM o (pSt c n (btw a 0 9 && btw b 0 9) 13 (fun i => (mMark (kSetF (kSetF c i 13 a) i 14 b) i))).1 ∧ MSys G σ' (pSt c n (btw a 0 9 && btw b 0 9) 13 (fun i => (mMark (kSetF (kSetF c i 13 a) i 14 b) i))).2 (nI (pSt c n (btw a 0 9 && btw b 0 9) 13 (fun i => (mMark (kSetF (kSetF c i 13 a) i 14 b) i))).1.1) ct ∧ zX G SM σ σ' 10) := by
    intro z hz
    subst hz
    refine zr_call1 (rest := []) (zs_V (As := [.int n, .int (bI (btw a 0 9 && btw b 0 9))]) (by omega) ok_X4_wrong q2259 q2261 qs38 q77 q2262 rfl hS.one rfl rfl rfl (Nat.le_of_ble_eq_true rfl) dX4_setFactors_27) (c_X4_wrong (n := n) (b := btw a 0 9 && btw b 0 9) (by omega) hS) ?_
    have hX1 := hS.XO hw (mO c (nI (mWr c n (btw a 0 9 && btw b 0 9))) ct)
    have hS1 := hS.setT (nI (mWr c n (btw a 0 9 && btw b 0 9)))
    generalize hσ1 : sUp σ (kA c 1) (.inr (4, mO c (nI (mWr c n (btw a 0 9 && btw b 0 9))) ct)) = σ1 at hX1 hS1 ⊢
    have hw1 := hX1.gd
    by_cases hb : btw n 0 (nI (kN c) - 1) = true
    · obtain ⟨i, hi, rfl⟩ := btw_idx (by omega) hb
      by_cases hok : (btw a 0 9 && btw b 0 9) = true
      · rw [show mWr c (nI i) (btw a 0 9 && btw b 0 9) = 0 from by unfold mWr; rw [if_pos hb, if_pos hok]] at hS1 ⊢
        rw [pSt_1 hle hi hok]
        show zR G yX4_setFactors cX4_setFactors 6 (Option.some Jvm.ClassFile.FieldType.int) [] d 30 [(0, .ref (kA c 1)), (1, .int (nI i)), (2, .int a), (3, .int b)] [.int 0] σ1 _
        simp only [Bool.and_eq_true] at hok
        refine zr_if_le (tgt := 35) dX4_setFactors_30 (by decide) (fun _ => ?_) (fun h9 => absurd (by decide) h9)
        obtain ⟨fl_hfl, hfl⟩ := hS1.bxL.A
        refine zr_aload_n dX4_setFactors_35 rfl rfl ?_
        refine zr_get (k := 0) (v := .ref (kA c 2)) in_X4 hS1.one rfl (Nat.le_of_ble_eq_true rfl) q2218 (.inl rfl) rfl dX4_setFactors_36 ?_
        refine zr_iload_n dX4_setFactors_39 rfl rfl ?_
        refine zr_call1 (rest := []) (zs_V (As := [.int (nI i)]) (by omega) ok_J2_get q2250 q959 q2840 q56 q960 rfl hfl rfl rfl rfl (Nat.le_of_ble_eq_true rfl) dX4_setFactors_40) (c_J2_get (by omega) hG hS1.bxL (MSys.bxa hi)) ?_
        refine zr_castS (hS1.bx hi) rfl q2084 dX4_setFactors_43 ?_
        refine zr_astore (ls2 := [(0, .ref (kA c 1)), (1, .int (nI i)), (2, .int a), (3, .int b), (4, .ref (kA c (rB i)))]) dX4_setFactors_46 (Nat.le_of_ble_eq_true rfl) rfl ?_
        refine zr_aload dX4_setFactors_48 rfl ?_
        refine zr_get (k := 14) (v := .int (kF c i 13)) in_X5 (hS1.bx hi) rfl (Nat.le_of_ble_eq_true rfl) q2121 (.inl rfl) rfl dX4_setFactors_50 ?_
        refine zr_istore (ls2 := [(0, .ref (kA c 1)), (1, .int (nI i)), (2, .int a), (3, .int b), (4, .ref (kA c (rB i))), (5, .int (kF c i 13))]) dX4_setFactors_53 (Nat.le_of_ble_eq_true rfl) rfl ?_
        refine zr_aload dX4_setFactors_55 rfl ?_
        refine zr_iload_n dX4_setFactors_57 rfl rfl ?_
        have hv0 : KVal 13 a := (hok.1)
        refine zr_put (k := 14) (fs' := (mBx (kSetF c i 13 a) i)) zt_X5 (hS1.bF hi) rfl (Nat.le_of_ble_eq_true rfl) q2121 (.inl rfl) rfl rfl rfl (Nat.le_of_ble_eq_true rfl) (mBx_F13 _ _ _) dX4_setFactors_58 ?_
        have hS2 : MSys G (sUp σ1 (kA c (rB i)) (.inr (5, mBx (kSetF c i 13 a) i))) (kSetF c i 13 a) (nI 0) ct := hS1.setF (k := 13) hi a (hS1.2.2.2.setF i hv0 (by decide) (fun h => by cases h))
        have hX2 : zX G SM σ (sUp σ1 (kA c (rB i)) (.inr (5, mBx (kSetF c i 13 a) i))) 0 := hX1.trans (hS1.XB hX1.gd hi (mBx (kSetF c i 13 a) i))
        generalize hσ2 : sUp σ1 (kA c (rB i)) (.inr (5, mBx (kSetF c i 13 a) i)) = σ2 at hS2 hX2 ⊢
        have hb2 : zAt G σ2 (kA c (rB i)) (.inr (5, mBx (kSetF c i 13 a) i)) := hS2.bx hi
        refine zr_aload dX4_setFactors_61 rfl ?_
        refine zr_iload_n dX4_setFactors_63 rfl rfl ?_
        have hv1 : KVal 14 b := (hok.2)
        refine zr_put (k := 15) (fs' := (mBx (kSetF (kSetF c i 13 a) i 14 b) i)) zt_X5 (hS2.bF hi) rfl (Nat.le_of_ble_eq_true rfl) q2123 (.inl rfl) rfl rfl rfl (Nat.le_of_ble_eq_true rfl) (mBx_F14 _ _ _) dX4_setFactors_64 ?_
        have hS3 : MSys G (sUp σ2 (kA c (rB i)) (.inr (5, mBx (kSetF (kSetF c i 13 a) i 14 b) i))) (kSetF (kSetF c i 13 a) i 14 b) (nI 0) ct := hS2.setF (k := 14) hi b (hS2.2.2.2.setF i hv1 (by decide) (fun h => by cases h))
        have hX3 : zX G SM σ (sUp σ2 (kA c (rB i)) (.inr (5, mBx (kSetF (kSetF c i 13 a) i 14 b) i))) 0 := hX2.trans (hS2.XB hX2.gd hi (mBx (kSetF (kSetF c i 13 a) i 14 b) i))
        generalize hσ3 : sUp σ2 (kA c (rB i)) (.inr (5, mBx (kSetF (kSetF c i 13 a) i 14 b) i)) = σ3 at hS3 hX3 ⊢
        have hb3 : zAt G σ3 (kA c (rB i)) (.inr (5, mBx (kSetF (kSetF c i 13 a) i 14 b) i)) := hS3.bx hi
        refine zr_aload_n dX4_setFactors_67 rfl rfl ?_
        refine zr_aload dX4_setFactors_68 rfl ?_
        obtain ⟨_, σt, ⟨rfl, hSt, hXt⟩, hCt⟩ := c_X4_mark (d := d - 1) hX3.gd hS3 (i := i) hi
        have hCt : zC G I_X4_mark (d - 1) [.ref (kA c 1), .ref (kA c (rB i))] σ3 _ σt := hCt
        have h1t : zAt G σ3 (kA c 1) (.inr (4, mO (kSetF (kSetF c i 13 a) i 14 b) (nI 0) ct)) := hS3.one
        refine zr_callv (rest := []) (zs_V (As := [.ref (kA c (rB i))]) (by omega) ok_X4_mark q2251 q2253 qs37 q77 q2254 rfl h1t rfl rfl rfl (Nat.le_of_ble_eq_true rfl) dX4_setFactors_70) hCt ?_
        refine zr_iload dX4_setFactors_73 rfl ?_
        exact zr_iret rfl rfl dX4_setFactors_75 (⟨⟨_, rfl, fun _ => rfl⟩, hSt, (hX3.trans hXt).le (by omega)⟩)
      · have hok0 : (btw a 0 9 && btw b 0 9) = false := by simpa using hok
        rw [show mWr c (nI i) (btw a 0 9 && btw b 0 9) = 2 from by unfold mWr; rw [if_pos hb, if_neg hok]] at hS1 ⊢
        rw [pSt_2 hle hi hok0]
        show zR G yX4_setFactors cX4_setFactors 6 (Option.some Jvm.ClassFile.FieldType.int) [] d 30 [(0, .ref (kA c 1)), (1, .int (nI i)), (2, .int a), (3, .int b)] [.int 2] σ1 _
        refine zr_if_le (tgt := 35) dX4_setFactors_30 (by decide) (fun h9 => absurd h9 (by decide)) (fun _ => ?_)
        refine zr_iconst (v := 0) dX4_setFactors_33 (by decide) ?_
        exact zr_iret rfl rfl dX4_setFactors_34 (⟨⟨_, rfl, fun h => by cases h⟩, hS1, hX1.le (by omega)⟩)
    · have hb0 : btw n 0 (nI (kN c) - 1) = false := by simpa using hb
      rw [show mWr c n (btw a 0 9 && btw b 0 9) = 1 from if_neg hb] at hS1 ⊢
      rw [pSt_0 hb0]
      show zR G yX4_setFactors cX4_setFactors 6 (Option.some Jvm.ClassFile.FieldType.int) [] d 30 [(0, .ref (kA c 1)), (1, .int n), (2, .int a), (3, .int b)] [.int 1] σ1 _
      refine zr_if_le (tgt := 35) dX4_setFactors_30 (by decide) (fun h9 => absurd h9 (by decide)) (fun _ => ?_)
      refine zr_iconst (v := 0) dX4_setFactors_33 (by decide) ?_
      exact zr_iret rfl rfl dX4_setFactors_34 (⟨⟨_, rfl, fun h => by cases h⟩, hS1, hX1.le (by omega)⟩)
  refine zr_aload_n dX4_setFactors_0 rfl rfl ?_
  refine zr_iload_n dX4_setFactors_1 rfl rfl ?_
  refine zr_iload_n dX4_setFactors_2 rfl rfl ?_
  refine zr_iconst (v := 0) dX4_setFactors_3 (by decide) ?_
  refine zr_bipush (v := 9) dX4_setFactors_4 (by decide) ?_
  refine zr_call1 (rest := [.int n, .ref (kA c 1)]) (zs_S (As := [.int a, .int 0, .int 9]) (by omega) ok_X4_in q2247 q2248 q77 q2249 rfl rfl (Nat.le_of_ble_eq_true rfl) dX4_setFactors_6) c_X4_in ?_
  refine zr_ifeqB (tgt := 26) dX4_setFactors_9 (by decide) (fun c_1 => ?_) (fun c_1 => ?_)
  · refine zr_iconst (v := 0) dX4_setFactors_26 (by decide) ?_
    exact key _ (by rw [show (btw a 0 9 && btw b 0 9) = false from by simp [c_1]]; rfl)
  · refine zr_iload_n dX4_setFactors_12 rfl rfl ?_
    refine zr_iconst (v := 0) dX4_setFactors_13 (by decide) ?_
    refine zr_bipush (v := 9) dX4_setFactors_14 (by decide) ?_
    refine zr_call1 (rest := [.int n, .ref (kA c 1)]) (zs_S (As := [.int b, .int 0, .int 9]) (by omega) ok_X4_in q2247 q2248 q77 q2249 rfl rfl (Nat.le_of_ble_eq_true rfl) dX4_setFactors_16) c_X4_in ?_
    refine zr_ifeqB (tgt := 26) dX4_setFactors_19 (by decide) (fun c_2 => ?_) (fun c_2 => ?_)
    · refine zr_iconst (v := 0) dX4_setFactors_26 (by decide) ?_
      exact key _ (by rw [show (btw a 0 9 && btw b 0 9) = false from by simp [c_1, c_2]]; rfl)
    · refine zr_iconst (v := 1) dX4_setFactors_22 (by decide) ?_
      refine zr_goto (tgt := 27) dX4_setFactors_23 (by decide) ?_
      exact key _ (by rw [show (btw a 0 9 && btw b 0 9) = true from by simp [c_1, c_2]]; rfl)
set_option maxHeartbeats 4000000 in
theorem c_X4_setColumns {G : zG} {σ : zT} {d : Nat} {c : zCS} {th ct : Int32} {n a : Int32} (hd : 20 ≤ d) (hG : zOk G) (hw : zGd G σ) (hS : MSys G σ c th ct) : zCall G I_X4_setColumns d [.ref (kA c 1), .int n, .int a] σ ((fun o σ' => oM o (pSt c n (btw a 1 4) 15 (fun i => (mMark (kSetF c i 15 a) i))).1 ∧ MSys G σ' (pSt c n (btw a 1 4) 15 (fun i => (mMark (kSetF c i 15 a) i))).2 (nI (pSt c n (btw a 1 4) 15 (fun i => (mMark (kSetF c i 15 a) i))).1.1) ct ∧ zX G SM σ σ' 10)) := by
  refine zCall_of (ls := [(0, .ref (kA c 1)), (1, .int n), (2, .int a)]) (by decide) (Nat.le_of_ble_eq_true rfl) rfl ?_
  have hle := hS.le
  refine zr_aload_n dX4_setColumns_0 rfl rfl ?_
  refine zr_iload_n dX4_setColumns_1 rfl rfl ?_
  refine zr_iload_n dX4_setColumns_2 rfl rfl ?_
  refine zr_iconst (v := 1) dX4_setColumns_3 (by decide) ?_
  refine zr_iconst (v := 4) dX4_setColumns_4 (by decide) ?_
  refine zr_call1 (rest := [.int n, .ref (kA c 1)]) (zs_S (As := [.int a, .int 1, .int 4]) (by omega) ok_X4_in q2247 q2248 q77 q2249 rfl rfl (Nat.le_of_ble_eq_true rfl) dX4_setColumns_5) c_X4_in ?_
  refine zr_call1 (rest := []) (zs_V (As := [.int n, .int (bI (btw a 1 4))]) (by omega) ok_X4_wrong q2259 q2261 qs38 q77 q2262 rfl hS.one rfl rfl rfl (Nat.le_of_ble_eq_true rfl) dX4_setColumns_8) (c_X4_wrong (n := n) (b := btw a 1 4) (by omega) hS) ?_
  have hX1 := hS.XO hw (mO c (nI (mWr c n (btw a 1 4))) ct)
  have hS1 := hS.setT (nI (mWr c n (btw a 1 4)))
  generalize hσ1 : sUp σ (kA c 1) (.inr (4, mO c (nI (mWr c n (btw a 1 4))) ct)) = σ1 at hX1 hS1 ⊢
  have hw1 := hX1.gd
  by_cases hb : btw n 0 (nI (kN c) - 1) = true
  · obtain ⟨i, hi, rfl⟩ := btw_idx (by omega) hb
    by_cases hok : (btw a 1 4) = true
    · rw [show mWr c (nI i) (btw a 1 4) = 0 from by unfold mWr; rw [if_pos hb, if_pos hok]] at hS1 ⊢
      rw [pSt_1 hle hi hok]
      show zR G yX4_setColumns cX4_setColumns 5 (Option.some Jvm.ClassFile.FieldType.int) [] d 11 [(0, .ref (kA c 1)), (1, .int (nI i)), (2, .int a)] [.int 0] σ1 _
      refine zr_if_le (tgt := 16) dX4_setColumns_11 (by decide) (fun _ => ?_) (fun h9 => absurd (by decide) h9)
      obtain ⟨fl_hfl, hfl⟩ := hS1.bxL.A
      refine zr_aload_n dX4_setColumns_16 rfl rfl ?_
      refine zr_get (k := 0) (v := .ref (kA c 2)) in_X4 hS1.one rfl (Nat.le_of_ble_eq_true rfl) q2218 (.inl rfl) rfl dX4_setColumns_17 ?_
      refine zr_iload_n dX4_setColumns_20 rfl rfl ?_
      refine zr_call1 (rest := []) (zs_V (As := [.int (nI i)]) (by omega) ok_J2_get q2250 q959 q2840 q56 q960 rfl hfl rfl rfl rfl (Nat.le_of_ble_eq_true rfl) dX4_setColumns_21) (c_J2_get (by omega) hG hS1.bxL (MSys.bxa hi)) ?_
      refine zr_castS (hS1.bx hi) rfl q2084 dX4_setColumns_24 ?_
      refine zr_astore_n (ls2 := [(0, .ref (kA c 1)), (1, .int (nI i)), (2, .int a), (3, .ref (kA c (rB i)))]) dX4_setColumns_27 rfl (Nat.le_of_ble_eq_true rfl) rfl ?_
      refine zr_aload_n dX4_setColumns_28 rfl rfl ?_
      refine zr_get (k := 16) (v := .int (kF c i 15)) in_X5 (hS1.bx hi) rfl (Nat.le_of_ble_eq_true rfl) q2125 (.inl rfl) rfl dX4_setColumns_29 ?_
      refine zr_istore (ls2 := [(0, .ref (kA c 1)), (1, .int (nI i)), (2, .int a), (3, .ref (kA c (rB i))), (4, .int (kF c i 15))]) dX4_setColumns_32 (Nat.le_of_ble_eq_true rfl) rfl ?_
      refine zr_aload_n dX4_setColumns_34 rfl rfl ?_
      refine zr_iload_n dX4_setColumns_35 rfl rfl ?_
      have hv0 : KVal 15 a := (btw_col hok)
      refine zr_put (k := 16) (fs' := (mBx (kSetF c i 15 a) i)) zt_X5 (hS1.bF hi) rfl (Nat.le_of_ble_eq_true rfl) q2125 (.inl rfl) rfl rfl rfl (Nat.le_of_ble_eq_true rfl) (mBx_F15 _ _ _) dX4_setColumns_36 ?_
      have hS2 : MSys G (sUp σ1 (kA c (rB i)) (.inr (5, mBx (kSetF c i 15 a) i))) (kSetF c i 15 a) (nI 0) ct := hS1.setF (k := 15) hi a (hS1.2.2.2.setF i hv0 (by decide) (fun h => by cases h))
      have hX2 : zX G SM σ (sUp σ1 (kA c (rB i)) (.inr (5, mBx (kSetF c i 15 a) i))) 0 := hX1.trans (hS1.XB hX1.gd hi (mBx (kSetF c i 15 a) i))
      generalize hσ2 : sUp σ1 (kA c (rB i)) (.inr (5, mBx (kSetF c i 15 a) i)) = σ2 at hS2 hX2 ⊢
      have hb2 : zAt G σ2 (kA c (rB i)) (.inr (5, mBx (kSetF c i 15 a) i)) := hS2.bx hi
      refine zr_aload_n dX4_setColumns_39 rfl rfl ?_
      refine zr_aload_n dX4_setColumns_40 rfl rfl ?_
      obtain ⟨_, σt, ⟨rfl, hSt, hXt⟩, hCt⟩ := c_X4_mark (d := d - 1) hX2.gd hS2 (i := i) hi
      have hCt : zC G I_X4_mark (d - 1) [.ref (kA c 1), .ref (kA c (rB i))] σ2 _ σt := hCt
      have h1t : zAt G σ2 (kA c 1) (.inr (4, mO (kSetF c i 15 a) (nI 0) ct)) := hS2.one
      refine zr_callv (rest := []) (zs_V (As := [.ref (kA c (rB i))]) (by omega) ok_X4_mark q2251 q2253 qs37 q77 q2254 rfl h1t rfl rfl rfl (Nat.le_of_ble_eq_true rfl) dX4_setColumns_41) hCt ?_
      refine zr_iload dX4_setColumns_44 rfl ?_
      exact zr_iret rfl rfl dX4_setColumns_46 (⟨⟨_, rfl, fun _ => rfl⟩, hSt, (hX2.trans hXt).le (by omega)⟩)
    · have hok0 : (btw a 1 4) = false := by simpa using hok
      rw [show mWr c (nI i) (btw a 1 4) = 2 from by unfold mWr; rw [if_pos hb, if_neg hok]] at hS1 ⊢
      rw [pSt_2 hle hi hok0]
      show zR G yX4_setColumns cX4_setColumns 5 (Option.some Jvm.ClassFile.FieldType.int) [] d 11 [(0, .ref (kA c 1)), (1, .int (nI i)), (2, .int a)] [.int 2] σ1 _
      refine zr_if_le (tgt := 16) dX4_setColumns_11 (by decide) (fun h9 => absurd h9 (by decide)) (fun _ => ?_)
      refine zr_iconst (v := 0) dX4_setColumns_14 (by decide) ?_
      exact zr_iret rfl rfl dX4_setColumns_15 (⟨⟨_, rfl, fun h => by cases h⟩, hS1, hX1.le (by omega)⟩)
  · have hb0 : btw n 0 (nI (kN c) - 1) = false := by simpa using hb
    rw [show mWr c n (btw a 1 4) = 1 from if_neg hb] at hS1 ⊢
    rw [pSt_0 hb0]
    show zR G yX4_setColumns cX4_setColumns 5 (Option.some Jvm.ClassFile.FieldType.int) [] d 11 [(0, .ref (kA c 1)), (1, .int n), (2, .int a)] [.int 1] σ1 _
    refine zr_if_le (tgt := 16) dX4_setColumns_11 (by decide) (fun h9 => absurd h9 (by decide)) (fun _ => ?_)
    refine zr_iconst (v := 0) dX4_setColumns_14 (by decide) ?_
    exact zr_iret rfl rfl dX4_setColumns_15 (⟨⟨_, rfl, fun h => by cases h⟩, hS1, hX1.le (by omega)⟩)
set_option maxHeartbeats 4000000 in
theorem c_X4_setFloat {G : zG} {σ : zT} {d : Nat} {c : zCS} {th ct : Int32} {n a : Int32} (hd : 20 ≤ d) (hG : zOk G) (hw : zGd G σ) (hS : MSys G σ c th ct) : zCall G I_X4_setFloat d [.ref (kA c 1), .int n, .int a] σ ((fun o σ' => oM o (pSt c n ((decide (a = 110) || decide (a = 108) || decide (a = 114))) 16 (fun i => (mMark (kSetF c i 16 a) i))).1 ∧ MSys G σ' (pSt c n ((decide (a = 110) || decide (a = 108) || decide (a = 114))) 16 (fun i => (mMark (kSetF c i 16 a) i))).2 (nI (pSt c n ((decide (a = 110) || decide (a = 108) || decide (a = 114))) 16 (fun i => (mMark (kSetF c i 16 a) i))).1.1) ct ∧ zX G SM σ σ' 10)) := by
  refine zCall_of (ls := [(0, .ref (kA c 1)), (1, .int n), (2, .int a)]) (by decide) (Nat.le_of_ble_eq_true rfl) rfl ?_
  have hle := hS.le
  have key : ∀ z : Int32, z = bI ((decide (a = 110) || decide (a = 108) || decide (a = 114))) → zR G yX4_setFloat cX4_setFloat 5 (Option.some Jvm.ClassFile.FieldType.char) [] d 25 [(0, .ref (kA c 1)), (1, .int n), (2, .int a)] [.int z, .int n, .ref (kA c 1)] σ (fun o σ' => oM o (pSt c n ((decide (a = 110) || decide (a = 108) || decide (a = 114))) 16 (fun i => (mMark (kSetF c i 16 a) i))).1 ∧ MSys G σ' (pSt c n ((decide (a = 110) || decide (a = 108) || decide (a = 114))) 16 (fun i => (mMark (kSetF c i 16 a) i))).2 (nI (pSt c n ((decide (a = 110) || decide (a = 108) || decide (a = 114))) 16 (fun i => (mMark (kSetF c i 16 a) i))).1.1) ct ∧ zX G SM σ σ' 10) := by
    intro z hz
    subst hz
    refine zr_call1 (rest := []) (zs_V (As := [.int n, .int (bI ((decide (a = 110) || decide (a = 108) || decide (a = 114))))]) (by omega) ok_X4_wrong q2259 q2261 qs38 q77 q2262 rfl hS.one rfl rfl rfl (Nat.le_of_ble_eq_true rfl) dX4_setFloat_25) (c_X4_wrong (n := n) (b := (decide (a = 110) || decide (a = 108) || decide (a = 114))) (by omega) hS) ?_
    have hX1 := hS.XO hw (mO c (nI (mWr c n ((decide (a = 110) || decide (a = 108) || decide (a = 114))))) ct)
    have hS1 := hS.setT (nI (mWr c n ((decide (a = 110) || decide (a = 108) || decide (a = 114)))))
    generalize hσ1 : sUp σ (kA c 1) (.inr (4, mO c (nI (mWr c n ((decide (a = 110) || decide (a = 108) || decide (a = 114))))) ct)) = σ1 at hX1 hS1 ⊢
    have hw1 := hX1.gd
    by_cases hb : btw n 0 (nI (kN c) - 1) = true
    · obtain ⟨i, hi, rfl⟩ := btw_idx (by omega) hb
      by_cases hok : ((decide (a = 110) || decide (a = 108) || decide (a = 114))) = true
      · rw [show mWr c (nI i) ((decide (a = 110) || decide (a = 108) || decide (a = 114))) = 0 from by unfold mWr; rw [if_pos hb, if_pos hok]] at hS1 ⊢
        rw [pSt_1 hle hi hok]
        show zR G yX4_setFloat cX4_setFloat 5 (Option.some Jvm.ClassFile.FieldType.char) [] d 28 [(0, .ref (kA c 1)), (1, .int (nI i)), (2, .int a)] [.int 0] σ1 _
        refine zr_if_le (tgt := 34) dX4_setFloat_28 (by decide) (fun _ => ?_) (fun h9 => absurd (by decide) h9)
        obtain ⟨fl_hfl, hfl⟩ := hS1.bxL.A
        refine zr_aload_n dX4_setFloat_34 rfl rfl ?_
        refine zr_get (k := 0) (v := .ref (kA c 2)) in_X4 hS1.one rfl (Nat.le_of_ble_eq_true rfl) q2218 (.inl rfl) rfl dX4_setFloat_35 ?_
        refine zr_iload_n dX4_setFloat_38 rfl rfl ?_
        refine zr_call1 (rest := []) (zs_V (As := [.int (nI i)]) (by omega) ok_J2_get q2250 q959 q2840 q56 q960 rfl hfl rfl rfl rfl (Nat.le_of_ble_eq_true rfl) dX4_setFloat_39) (c_J2_get (by omega) hG hS1.bxL (MSys.bxa hi)) ?_
        refine zr_castS (hS1.bx hi) rfl q2084 dX4_setFloat_42 ?_
        refine zr_astore_n (ls2 := [(0, .ref (kA c 1)), (1, .int (nI i)), (2, .int a), (3, .ref (kA c (rB i)))]) dX4_setFloat_45 rfl (Nat.le_of_ble_eq_true rfl) rfl ?_
        refine zr_aload_n dX4_setFloat_46 rfl rfl ?_
        refine zr_get (k := 20) (v := .int (kF c i 16)) in_X5 (hS1.bx hi) rfl (Nat.le_of_ble_eq_true rfl) q2133 (.inl rfl) rfl dX4_setFloat_47 ?_
        refine zr_istore (ls2 := [(0, .ref (kA c 1)), (1, .int (nI i)), (2, .int a), (3, .ref (kA c (rB i))), (4, .int (kF c i 16))]) dX4_setFloat_50 (Nat.le_of_ble_eq_true rfl) rfl ?_
        refine zr_aload_n dX4_setFloat_52 rfl rfl ?_
        refine zr_iload_n dX4_setFloat_53 rfl rfl ?_
        have hv0 : KVal 16 a := (by simp only [Bool.or_eq_true, decide_eq_true_eq, or_assoc] at hok; exact hok)
        refine zr_put (k := 20) (fs' := (mBx (kSetF c i 16 a) i)) zt_X5 (hS1.bF hi) rfl (Nat.le_of_ble_eq_true rfl) q2133 (.inl rfl) rfl (by rcases hv0 with h | h | h <;> rw [h] <;> rfl) (by rcases hv0 with h | h | h <;> rw [h] <;> rfl) (Nat.le_of_ble_eq_true rfl) (mBx_F16 _ _ _) dX4_setFloat_54 ?_
        have hS2 : MSys G (sUp σ1 (kA c (rB i)) (.inr (5, mBx (kSetF c i 16 a) i))) (kSetF c i 16 a) (nI 0) ct := hS1.setF (k := 16) hi a (hS1.2.2.2.setF i hv0 (by decide) (fun h => by cases h))
        have hX2 : zX G SM σ (sUp σ1 (kA c (rB i)) (.inr (5, mBx (kSetF c i 16 a) i))) 0 := hX1.trans (hS1.XB hX1.gd hi (mBx (kSetF c i 16 a) i))
        generalize hσ2 : sUp σ1 (kA c (rB i)) (.inr (5, mBx (kSetF c i 16 a) i)) = σ2 at hS2 hX2 ⊢
        have hb2 : zAt G σ2 (kA c (rB i)) (.inr (5, mBx (kSetF c i 16 a) i)) := hS2.bx hi
        refine zr_aload_n dX4_setFloat_57 rfl rfl ?_
        refine zr_aload_n dX4_setFloat_58 rfl rfl ?_
        obtain ⟨_, σt, ⟨rfl, hSt, hXt⟩, hCt⟩ := c_X4_mark (d := d - 1) hX2.gd hS2 (i := i) hi
        have hCt : zC G I_X4_mark (d - 1) [.ref (kA c 1), .ref (kA c (rB i))] σ2 _ σt := hCt
        have h1t : zAt G σ2 (kA c 1) (.inr (4, mO (kSetF c i 16 a) (nI 0) ct)) := hS2.one
        refine zr_callv (rest := []) (zs_V (As := [.ref (kA c (rB i))]) (by omega) ok_X4_mark q2251 q2253 qs37 q77 q2254 rfl h1t rfl rfl rfl (Nat.le_of_ble_eq_true rfl) dX4_setFloat_59) hCt ?_
        refine zr_iload dX4_setFloat_62 rfl ?_
        exact zr_iret rfl (by rcases hS.val hi 16 with h | h | h <;> rw [h] <;> rfl) dX4_setFloat_64 (⟨⟨_, rfl, fun _ => rfl⟩, hSt, (hX2.trans hXt).le (by omega)⟩)
      · have hok0 : ((decide (a = 110) || decide (a = 108) || decide (a = 114))) = false := by simpa using hok
        rw [show mWr c (nI i) ((decide (a = 110) || decide (a = 108) || decide (a = 114))) = 2 from by unfold mWr; rw [if_pos hb, if_neg hok]] at hS1 ⊢
        rw [pSt_2 hle hi hok0]
        show zR G yX4_setFloat cX4_setFloat 5 (Option.some Jvm.ClassFile.FieldType.char) [] d 28 [(0, .ref (kA c 1)), (1, .int (nI i)), (2, .int a)] [.int 2] σ1 _
        refine zr_if_le (tgt := 34) dX4_setFloat_28 (by decide) (fun h9 => absurd h9 (by decide)) (fun _ => ?_)
        refine zr_bipush (v := 32) dX4_setFloat_31 (by decide) ?_
        exact zr_iret rfl rfl dX4_setFloat_33 (⟨⟨_, rfl, fun h => by cases h⟩, hS1, hX1.le (by omega)⟩)
    · have hb0 : btw n 0 (nI (kN c) - 1) = false := by simpa using hb
      rw [show mWr c n ((decide (a = 110) || decide (a = 108) || decide (a = 114))) = 1 from if_neg hb] at hS1 ⊢
      rw [pSt_0 hb0]
      show zR G yX4_setFloat cX4_setFloat 5 (Option.some Jvm.ClassFile.FieldType.char) [] d 28 [(0, .ref (kA c 1)), (1, .int n), (2, .int a)] [.int 1] σ1 _
      refine zr_if_le (tgt := 34) dX4_setFloat_28 (by decide) (fun h9 => absurd h9 (by decide)) (fun _ => ?_)
      refine zr_bipush (v := 32) dX4_setFloat_31 (by decide) ?_
      exact zr_iret rfl rfl dX4_setFloat_33 (⟨⟨_, rfl, fun h => by cases h⟩, hS1, hX1.le (by omega)⟩)
  refine zr_aload_n dX4_setFloat_0 rfl rfl ?_
  refine zr_iload_n dX4_setFloat_1 rfl rfl ?_
  refine zr_iload_n dX4_setFloat_2 rfl rfl ?_
  refine zr_bipush (v := 110) dX4_setFloat_3 (by decide) ?_
  refine zr_icmp_eq (tgt := 20) dX4_setFloat_5 (by decide) (fun c_1 => ?_) (fun c_1 => ?_)
  · refine zr_iconst (v := 1) dX4_setFloat_20 (by decide) ?_
    refine zr_goto (tgt := 25) dX4_setFloat_21 (by decide) ?_
    exact key _ (by rw [show ((decide (a = 110) || decide (a = 108) || decide (a = 114))) = true from by simp [c_1]]; rfl)
  · refine zr_iload_n dX4_setFloat_8 rfl rfl ?_
    refine zr_bipush (v := 108) dX4_setFloat_9 (by decide) ?_
    refine zr_icmp_eq (tgt := 20) dX4_setFloat_11 (by decide) (fun c_2 => ?_) (fun c_2 => ?_)
    · refine zr_iconst (v := 1) dX4_setFloat_20 (by decide) ?_
      refine zr_goto (tgt := 25) dX4_setFloat_21 (by decide) ?_
      exact key _ (by rw [show ((decide (a = 110) || decide (a = 108) || decide (a = 114))) = true from by simp [c_1, c_2]]; rfl)
    · refine zr_iload_n dX4_setFloat_14 rfl rfl ?_
      refine zr_bipush (v := 114) dX4_setFloat_15 (by decide) ?_
      refine zr_icmp_ne (tgt := 24) dX4_setFloat_17 (by decide) (fun c_3 => ?_) (fun c_3 => ?_)
      · refine zr_iconst (v := 0) dX4_setFloat_24 (by decide) ?_
        exact key _ (by rw [show ((decide (a = 110) || decide (a = 108) || decide (a = 114))) = false from by simp [c_1, c_2, c_3]]; rfl)
      · refine zr_iconst (v := 1) dX4_setFloat_20 (by decide) ?_
        refine zr_goto (tgt := 25) dX4_setFloat_21 (by decide) ?_
        exact key _ (by rw [show ((decide (a = 110) || decide (a = 108) || decide (a = 114))) = true from by simp [c_1, c_2, c_3]]; rfl)
set_option maxHeartbeats 4000000 in
theorem c_X4_setPlace {G : zG} {σ : zT} {d : Nat} {c : zCS} {th ct : Int32} {n a b e : Int32} (hd : 20 ≤ d) (hG : zOk G) (hw : zGd G σ) (hS : MSys G σ c th ct) : zCall G I_X4_setPlace d [.ref (kA c 1), .int n, .int a, .int b, .int e] σ ((fun o σ' => oM o (pSt c n ((decide (a = 115) || decide (a = 114) || decide (a = 97)) && btw b (-100) 100 && btw e (-100) 100) 17 (fun i => (mMark (kSetF (kSetF (kSetF c i 17 a) i 18 b) i 19 e) i))).1 ∧ MSys G σ' (pSt c n ((decide (a = 115) || decide (a = 114) || decide (a = 97)) && btw b (-100) 100 && btw e (-100) 100) 17 (fun i => (mMark (kSetF (kSetF (kSetF c i 17 a) i 18 b) i 19 e) i))).2 (nI (pSt c n ((decide (a = 115) || decide (a = 114) || decide (a = 97)) && btw b (-100) 100 && btw e (-100) 100) 17 (fun i => (mMark (kSetF (kSetF (kSetF c i 17 a) i 18 b) i 19 e) i))).1.1) ct ∧ zX G SM σ σ' 10)) := by
  refine zCall_of (ls := [(0, .ref (kA c 1)), (1, .int n), (2, .int a), (3, .int b), (4, .int e)]) (by decide) (Nat.le_of_ble_eq_true rfl) rfl ?_
  have hle := hS.le
  have key : ∀ z : Int32, z = bI ((decide (a = 115) || decide (a = 114) || decide (a = 97)) && btw b (-100) 100 && btw e (-100) 100) → zR G yX4_setPlace cX4_setPlace 7 (Option.some Jvm.ClassFile.FieldType.char) [] d 48 [(0, .ref (kA c 1)), (1, .int n), (2, .int a), (3, .int b), (4, .int e)] [.int z, .int n, .ref (kA c 1)] σ (fun o σ' => oM o (pSt c n ((decide (a = 115) || decide (a = 114) || decide (a = 97)) && btw b (-100) 100 && btw e (-100) 100) 17 (fun i => (mMark (kSetF (kSetF (kSetF c i 17 a) i 18 b) i 19 e) i))).1 ∧ MSys G σ' (pSt c n ((decide (a = 115) || decide (a = 114) || decide (a = 97)) && btw b (-100) 100 && btw e (-100) 100) 17 (fun i => (mMark (kSetF (kSetF (kSetF c i 17 a) i 18 b) i 19 e) i))).2 (nI (pSt c n ((decide (a = 115) || decide (a = 114) || decide (a = 97)) && btw b (-100) 100 && btw e (-100) 100) 17 (fun i => (mMark (kSetF (kSetF (kSetF c i 17 a) i 18 b) i 19 e) i))).1.1) ct ∧ zX G SM σ σ' 10) := by
    intro z hz
    subst hz
    refine zr_call1 (rest := []) (zs_V (As := [.int n, .int (bI ((decide (a = 115) || decide (a = 114) || decide (a = 97)) && btw b (-100) 100 && btw e (-100) 100))]) (by omega) ok_X4_wrong q2259 q2261 qs38 q77 q2262 rfl hS.one rfl rfl rfl (Nat.le_of_ble_eq_true rfl) dX4_setPlace_48) (c_X4_wrong (n := n) (b := (decide (a = 115) || decide (a = 114) || decide (a = 97)) && btw b (-100) 100 && btw e (-100) 100) (by omega) hS) ?_
    have hX1 := hS.XO hw (mO c (nI (mWr c n ((decide (a = 115) || decide (a = 114) || decide (a = 97)) && btw b (-100) 100 && btw e (-100) 100))) ct)
    have hS1 := hS.setT (nI (mWr c n ((decide (a = 115) || decide (a = 114) || decide (a = 97)) && btw b (-100) 100 && btw e (-100) 100)))
    generalize hσ1 : sUp σ (kA c 1) (.inr (4, mO c (nI (mWr c n ((decide (a = 115) || decide (a = 114) || decide (a = 97)) && btw b (-100) 100 && btw e (-100) 100))) ct)) = σ1 at hX1 hS1 ⊢
    have hw1 := hX1.gd
    by_cases hb : btw n 0 (nI (kN c) - 1) = true
    · obtain ⟨i, hi, rfl⟩ := btw_idx (by omega) hb
      by_cases hok : ((decide (a = 115) || decide (a = 114) || decide (a = 97)) && btw b (-100) 100 && btw e (-100) 100) = true
      · rw [show mWr c (nI i) ((decide (a = 115) || decide (a = 114) || decide (a = 97)) && btw b (-100) 100 && btw e (-100) 100) = 0 from by unfold mWr; rw [if_pos hb, if_pos hok]] at hS1 ⊢
        rw [pSt_1 hle hi hok]
        show zR G yX4_setPlace cX4_setPlace 7 (Option.some Jvm.ClassFile.FieldType.char) [] d 51 [(0, .ref (kA c 1)), (1, .int (nI i)), (2, .int a), (3, .int b), (4, .int e)] [.int 0] σ1 _
        simp only [Bool.and_eq_true] at hok
        refine zr_if_le (tgt := 57) dX4_setPlace_51 (by decide) (fun _ => ?_) (fun h9 => absurd (by decide) h9)
        obtain ⟨fl_hfl, hfl⟩ := hS1.bxL.A
        refine zr_aload_n dX4_setPlace_57 rfl rfl ?_
        refine zr_get (k := 0) (v := .ref (kA c 2)) in_X4 hS1.one rfl (Nat.le_of_ble_eq_true rfl) q2218 (.inl rfl) rfl dX4_setPlace_58 ?_
        refine zr_iload_n dX4_setPlace_61 rfl rfl ?_
        refine zr_call1 (rest := []) (zs_V (As := [.int (nI i)]) (by omega) ok_J2_get q2250 q959 q2840 q56 q960 rfl hfl rfl rfl rfl (Nat.le_of_ble_eq_true rfl) dX4_setPlace_62) (c_J2_get (by omega) hG hS1.bxL (MSys.bxa hi)) ?_
        refine zr_castS (hS1.bx hi) rfl q2084 dX4_setPlace_65 ?_
        refine zr_astore (ls2 := [(0, .ref (kA c 1)), (1, .int (nI i)), (2, .int a), (3, .int b), (4, .int e), (5, .ref (kA c (rB i)))]) dX4_setPlace_68 (Nat.le_of_ble_eq_true rfl) rfl ?_
        refine zr_aload dX4_setPlace_70 rfl ?_
        refine zr_get (k := 21) (v := .int (kF c i 17)) in_X5 (hS1.bx hi) rfl (Nat.le_of_ble_eq_true rfl) q2135 (.inl rfl) rfl dX4_setPlace_72 ?_
        refine zr_istore (ls2 := [(0, .ref (kA c 1)), (1, .int (nI i)), (2, .int a), (3, .int b), (4, .int e), (5, .ref (kA c (rB i))), (6, .int (kF c i 17))]) dX4_setPlace_75 (Nat.le_of_ble_eq_true rfl) rfl ?_
        refine zr_aload dX4_setPlace_77 rfl ?_
        refine zr_iload_n dX4_setPlace_79 rfl rfl ?_
        have hv0 : KVal 17 a := (by have h9 := hok.1.1; simp only [Bool.or_eq_true, decide_eq_true_eq, or_assoc] at h9; exact h9)
        refine zr_put (k := 21) (fs' := (mBx (kSetF c i 17 a) i)) zt_X5 (hS1.bF hi) rfl (Nat.le_of_ble_eq_true rfl) q2135 (.inl rfl) rfl (by rcases hv0 with h | h | h <;> rw [h] <;> rfl) (by rcases hv0 with h | h | h <;> rw [h] <;> rfl) (Nat.le_of_ble_eq_true rfl) (mBx_F17 _ _ _) dX4_setPlace_80 ?_
        have hS2 : MSys G (sUp σ1 (kA c (rB i)) (.inr (5, mBx (kSetF c i 17 a) i))) (kSetF c i 17 a) (nI 0) ct := hS1.setF (k := 17) hi a (hS1.2.2.2.setF i hv0 (by decide) (fun h => by cases h))
        have hX2 : zX G SM σ (sUp σ1 (kA c (rB i)) (.inr (5, mBx (kSetF c i 17 a) i))) 0 := hX1.trans (hS1.XB hX1.gd hi (mBx (kSetF c i 17 a) i))
        generalize hσ2 : sUp σ1 (kA c (rB i)) (.inr (5, mBx (kSetF c i 17 a) i)) = σ2 at hS2 hX2 ⊢
        have hb2 : zAt G σ2 (kA c (rB i)) (.inr (5, mBx (kSetF c i 17 a) i)) := hS2.bx hi
        refine zr_aload dX4_setPlace_83 rfl ?_
        refine zr_iload_n dX4_setPlace_85 rfl rfl ?_
        have hv1 : KVal 18 b := hok.1.2
        refine zr_put (k := 17) (fs' := (mBx (kSetF (kSetF c i 17 a) i 18 b) i)) zt_X5 (hS2.bF hi) rfl (Nat.le_of_ble_eq_true rfl) q2127 (.inl rfl) rfl rfl rfl (Nat.le_of_ble_eq_true rfl) (mBx_F18 _ _ _) dX4_setPlace_86 ?_
        have hS3 : MSys G (sUp σ2 (kA c (rB i)) (.inr (5, mBx (kSetF (kSetF c i 17 a) i 18 b) i))) (kSetF (kSetF c i 17 a) i 18 b) (nI 0) ct := hS2.setF (k := 18) hi b (hS2.2.2.2.setF i hv1 (by decide) (fun h => by cases h))
        have hX3 : zX G SM σ (sUp σ2 (kA c (rB i)) (.inr (5, mBx (kSetF (kSetF c i 17 a) i 18 b) i))) 0 := hX2.trans (hS2.XB hX2.gd hi (mBx (kSetF (kSetF c i 17 a) i 18 b) i))
        generalize hσ3 : sUp σ2 (kA c (rB i)) (.inr (5, mBx (kSetF (kSetF c i 17 a) i 18 b) i)) = σ3 at hS3 hX3 ⊢
        have hb3 : zAt G σ3 (kA c (rB i)) (.inr (5, mBx (kSetF (kSetF c i 17 a) i 18 b) i)) := hS3.bx hi
        refine zr_aload dX4_setPlace_89 rfl ?_
        refine zr_iload dX4_setPlace_91 rfl ?_
        have hv2 : KVal 19 e := hok.2
        refine zr_put (k := 18) (fs' := (mBx (kSetF (kSetF (kSetF c i 17 a) i 18 b) i 19 e) i)) zt_X5 (hS3.bF hi) rfl (Nat.le_of_ble_eq_true rfl) q2129 (.inl rfl) rfl rfl rfl (Nat.le_of_ble_eq_true rfl) (mBx_F19 _ _ _) dX4_setPlace_93 ?_
        have hS4 : MSys G (sUp σ3 (kA c (rB i)) (.inr (5, mBx (kSetF (kSetF (kSetF c i 17 a) i 18 b) i 19 e) i))) (kSetF (kSetF (kSetF c i 17 a) i 18 b) i 19 e) (nI 0) ct := hS3.setF (k := 19) hi e (hS3.2.2.2.setF i hv2 (by decide) (fun h => by cases h))
        have hX4 : zX G SM σ (sUp σ3 (kA c (rB i)) (.inr (5, mBx (kSetF (kSetF (kSetF c i 17 a) i 18 b) i 19 e) i))) 0 := hX3.trans (hS3.XB hX3.gd hi (mBx (kSetF (kSetF (kSetF c i 17 a) i 18 b) i 19 e) i))
        generalize hσ4 : sUp σ3 (kA c (rB i)) (.inr (5, mBx (kSetF (kSetF (kSetF c i 17 a) i 18 b) i 19 e) i)) = σ4 at hS4 hX4 ⊢
        have hb4 : zAt G σ4 (kA c (rB i)) (.inr (5, mBx (kSetF (kSetF (kSetF c i 17 a) i 18 b) i 19 e) i)) := hS4.bx hi
        refine zr_aload_n dX4_setPlace_96 rfl rfl ?_
        refine zr_aload dX4_setPlace_97 rfl ?_
        obtain ⟨_, σt, ⟨rfl, hSt, hXt⟩, hCt⟩ := c_X4_mark (d := d - 1) hX4.gd hS4 (i := i) hi
        have hCt : zC G I_X4_mark (d - 1) [.ref (kA c 1), .ref (kA c (rB i))] σ4 _ σt := hCt
        have h1t : zAt G σ4 (kA c 1) (.inr (4, mO (kSetF (kSetF (kSetF c i 17 a) i 18 b) i 19 e) (nI 0) ct)) := hS4.one
        refine zr_callv (rest := []) (zs_V (As := [.ref (kA c (rB i))]) (by omega) ok_X4_mark q2251 q2253 qs37 q77 q2254 rfl h1t rfl rfl rfl (Nat.le_of_ble_eq_true rfl) dX4_setPlace_99) hCt ?_
        refine zr_iload dX4_setPlace_102 rfl ?_
        exact zr_iret rfl (by rcases hS.val hi 17 with h | h | h <;> rw [h] <;> rfl) dX4_setPlace_104 (⟨⟨_, rfl, fun _ => rfl⟩, hSt, (hX4.trans hXt).le (by omega)⟩)
      · have hok0 : ((decide (a = 115) || decide (a = 114) || decide (a = 97)) && btw b (-100) 100 && btw e (-100) 100) = false := by simpa using hok
        rw [show mWr c (nI i) ((decide (a = 115) || decide (a = 114) || decide (a = 97)) && btw b (-100) 100 && btw e (-100) 100) = 2 from by unfold mWr; rw [if_pos hb, if_neg hok]] at hS1 ⊢
        rw [pSt_2 hle hi hok0]
        show zR G yX4_setPlace cX4_setPlace 7 (Option.some Jvm.ClassFile.FieldType.char) [] d 51 [(0, .ref (kA c 1)), (1, .int (nI i)), (2, .int a), (3, .int b), (4, .int e)] [.int 2] σ1 _
        refine zr_if_le (tgt := 57) dX4_setPlace_51 (by decide) (fun h9 => absurd h9 (by decide)) (fun _ => ?_)
        refine zr_bipush (v := 32) dX4_setPlace_54 (by decide) ?_
        exact zr_iret rfl rfl dX4_setPlace_56 (⟨⟨_, rfl, fun h => by cases h⟩, hS1, hX1.le (by omega)⟩)
    · have hb0 : btw n 0 (nI (kN c) - 1) = false := by simpa using hb
      rw [show mWr c n ((decide (a = 115) || decide (a = 114) || decide (a = 97)) && btw b (-100) 100 && btw e (-100) 100) = 1 from if_neg hb] at hS1 ⊢
      rw [pSt_0 hb0]
      show zR G yX4_setPlace cX4_setPlace 7 (Option.some Jvm.ClassFile.FieldType.char) [] d 51 [(0, .ref (kA c 1)), (1, .int n), (2, .int a), (3, .int b), (4, .int e)] [.int 1] σ1 _
      refine zr_if_le (tgt := 57) dX4_setPlace_51 (by decide) (fun h9 => absurd h9 (by decide)) (fun _ => ?_)
      refine zr_bipush (v := 32) dX4_setPlace_54 (by decide) ?_
      exact zr_iret rfl rfl dX4_setPlace_56 (⟨⟨_, rfl, fun h => by cases h⟩, hS1, hX1.le (by omega)⟩)
  refine zr_aload_n dX4_setPlace_0 rfl rfl ?_
  refine zr_iload_n dX4_setPlace_1 rfl rfl ?_
  refine zr_iload_n dX4_setPlace_2 rfl rfl ?_
  refine zr_bipush (v := 115) dX4_setPlace_3 (by decide) ?_
  refine zr_icmp_eq (tgt := 20) dX4_setPlace_5 (by decide) (fun c_1 => ?_) (fun c_1 => ?_)
  · refine zr_iload_n dX4_setPlace_20 rfl rfl ?_
    refine zr_bipush (v := (-100)) dX4_setPlace_21 (by decide) ?_
    refine zr_bipush (v := 100) dX4_setPlace_23 (by decide) ?_
    refine zr_call1 (rest := [.int n, .ref (kA c 1)]) (zs_S (As := [.int b, .int (-100), .int 100]) (by omega) ok_X4_in q2247 q2248 q77 q2249 rfl rfl (Nat.le_of_ble_eq_true rfl) dX4_setPlace_25) c_X4_in ?_
    refine zr_ifeqB (tgt := 47) dX4_setPlace_28 (by decide) (fun c_2 => ?_) (fun c_2 => ?_)
    · refine zr_iconst (v := 0) dX4_setPlace_47 (by decide) ?_
      exact key _ (by rw [show ((decide (a = 115) || decide (a = 114) || decide (a = 97)) && btw b (-100) 100 && btw e (-100) 100) = false from by simp [c_1, c_2]]; rfl)
    · refine zr_iload dX4_setPlace_31 rfl ?_
      refine zr_bipush (v := (-100)) dX4_setPlace_33 (by decide) ?_
      refine zr_bipush (v := 100) dX4_setPlace_35 (by decide) ?_
      refine zr_call1 (rest := [.int n, .ref (kA c 1)]) (zs_S (As := [.int e, .int (-100), .int 100]) (by omega) ok_X4_in q2247 q2248 q77 q2249 rfl rfl (Nat.le_of_ble_eq_true rfl) dX4_setPlace_37) c_X4_in ?_
      refine zr_ifeqB (tgt := 47) dX4_setPlace_40 (by decide) (fun c_3 => ?_) (fun c_3 => ?_)
      · refine zr_iconst (v := 0) dX4_setPlace_47 (by decide) ?_
        exact key _ (by rw [show ((decide (a = 115) || decide (a = 114) || decide (a = 97)) && btw b (-100) 100 && btw e (-100) 100) = false from by simp [c_1, c_2, c_3]]; rfl)
      · refine zr_iconst (v := 1) dX4_setPlace_43 (by decide) ?_
        refine zr_goto (tgt := 48) dX4_setPlace_44 (by decide) ?_
        exact key _ (by rw [show ((decide (a = 115) || decide (a = 114) || decide (a = 97)) && btw b (-100) 100 && btw e (-100) 100) = true from by simp [c_1, c_2, c_3]]; rfl)
  · refine zr_iload_n dX4_setPlace_8 rfl rfl ?_
    refine zr_bipush (v := 114) dX4_setPlace_9 (by decide) ?_
    refine zr_icmp_eq (tgt := 20) dX4_setPlace_11 (by decide) (fun c_4 => ?_) (fun c_4 => ?_)
    · refine zr_iload_n dX4_setPlace_20 rfl rfl ?_
      refine zr_bipush (v := (-100)) dX4_setPlace_21 (by decide) ?_
      refine zr_bipush (v := 100) dX4_setPlace_23 (by decide) ?_
      refine zr_call1 (rest := [.int n, .ref (kA c 1)]) (zs_S (As := [.int b, .int (-100), .int 100]) (by omega) ok_X4_in q2247 q2248 q77 q2249 rfl rfl (Nat.le_of_ble_eq_true rfl) dX4_setPlace_25) c_X4_in ?_
      refine zr_ifeqB (tgt := 47) dX4_setPlace_28 (by decide) (fun c_5 => ?_) (fun c_5 => ?_)
      · refine zr_iconst (v := 0) dX4_setPlace_47 (by decide) ?_
        exact key _ (by rw [show ((decide (a = 115) || decide (a = 114) || decide (a = 97)) && btw b (-100) 100 && btw e (-100) 100) = false from by simp [c_1, c_4, c_5]]; rfl)
      · refine zr_iload dX4_setPlace_31 rfl ?_
        refine zr_bipush (v := (-100)) dX4_setPlace_33 (by decide) ?_
        refine zr_bipush (v := 100) dX4_setPlace_35 (by decide) ?_
        refine zr_call1 (rest := [.int n, .ref (kA c 1)]) (zs_S (As := [.int e, .int (-100), .int 100]) (by omega) ok_X4_in q2247 q2248 q77 q2249 rfl rfl (Nat.le_of_ble_eq_true rfl) dX4_setPlace_37) c_X4_in ?_
        refine zr_ifeqB (tgt := 47) dX4_setPlace_40 (by decide) (fun c_6 => ?_) (fun c_6 => ?_)
        · refine zr_iconst (v := 0) dX4_setPlace_47 (by decide) ?_
          exact key _ (by rw [show ((decide (a = 115) || decide (a = 114) || decide (a = 97)) && btw b (-100) 100 && btw e (-100) 100) = false from by simp [c_1, c_4, c_5, c_6]]; rfl)
        · refine zr_iconst (v := 1) dX4_setPlace_43 (by decide) ?_
          refine zr_goto (tgt := 48) dX4_setPlace_44 (by decide) ?_
          exact key _ (by rw [show ((decide (a = 115) || decide (a = 114) || decide (a = 97)) && btw b (-100) 100 && btw e (-100) 100) = true from by simp [c_1, c_4, c_5, c_6]]; rfl)
    · refine zr_iload_n dX4_setPlace_14 rfl rfl ?_
      refine zr_bipush (v := 97) dX4_setPlace_15 (by decide) ?_
      refine zr_icmp_ne (tgt := 47) dX4_setPlace_17 (by decide) (fun c_7 => ?_) (fun c_7 => ?_)
      · refine zr_iconst (v := 0) dX4_setPlace_47 (by decide) ?_
        exact key _ (by rw [show ((decide (a = 115) || decide (a = 114) || decide (a = 97)) && btw b (-100) 100 && btw e (-100) 100) = false from by simp [c_1, c_4, c_7]]; rfl)
      · refine zr_iload_n dX4_setPlace_20 rfl rfl ?_
        refine zr_bipush (v := (-100)) dX4_setPlace_21 (by decide) ?_
        refine zr_bipush (v := 100) dX4_setPlace_23 (by decide) ?_
        refine zr_call1 (rest := [.int n, .ref (kA c 1)]) (zs_S (As := [.int b, .int (-100), .int 100]) (by omega) ok_X4_in q2247 q2248 q77 q2249 rfl rfl (Nat.le_of_ble_eq_true rfl) dX4_setPlace_25) c_X4_in ?_
        refine zr_ifeqB (tgt := 47) dX4_setPlace_28 (by decide) (fun c_8 => ?_) (fun c_8 => ?_)
        · refine zr_iconst (v := 0) dX4_setPlace_47 (by decide) ?_
          exact key _ (by rw [show ((decide (a = 115) || decide (a = 114) || decide (a = 97)) && btw b (-100) 100 && btw e (-100) 100) = false from by simp [c_1, c_4, c_7, c_8]]; rfl)
        · refine zr_iload dX4_setPlace_31 rfl ?_
          refine zr_bipush (v := (-100)) dX4_setPlace_33 (by decide) ?_
          refine zr_bipush (v := 100) dX4_setPlace_35 (by decide) ?_
          refine zr_call1 (rest := [.int n, .ref (kA c 1)]) (zs_S (As := [.int e, .int (-100), .int 100]) (by omega) ok_X4_in q2247 q2248 q77 q2249 rfl rfl (Nat.le_of_ble_eq_true rfl) dX4_setPlace_37) c_X4_in ?_
          refine zr_ifeqB (tgt := 47) dX4_setPlace_40 (by decide) (fun c_9 => ?_) (fun c_9 => ?_)
          · refine zr_iconst (v := 0) dX4_setPlace_47 (by decide) ?_
            exact key _ (by rw [show ((decide (a = 115) || decide (a = 114) || decide (a = 97)) && btw b (-100) 100 && btw e (-100) 100) = false from by simp [c_1, c_4, c_7, c_8, c_9]]; rfl)
          · refine zr_iconst (v := 1) dX4_setPlace_43 (by decide) ?_
            refine zr_goto (tgt := 48) dX4_setPlace_44 (by decide) ?_
            exact key _ (by rw [show ((decide (a = 115) || decide (a = 114) || decide (a = 97)) && btw b (-100) 100 && btw e (-100) 100) = true from by simp [c_1, c_4, c_7, c_8, c_9]]; rfl)
set_option maxHeartbeats 4000000 in
theorem c_X4_setDepth {G : zG} {σ : zT} {d : Nat} {c : zCS} {th ct : Int32} {n a : Int32} (hd : 20 ≤ d) (hG : zOk G) (hw : zGd G σ) (hS : MSys G σ c th ct) : zCall G I_X4_setDepth d [.ref (kA c 1), .int n, .int a] σ ((fun o σ' => oM o (pSt c n (btw a (-5) 5) 20 (fun i => (kSetF c i 20 a))).1 ∧ MSys G σ' (pSt c n (btw a (-5) 5) 20 (fun i => (kSetF c i 20 a))).2 (nI (pSt c n (btw a (-5) 5) 20 (fun i => (kSetF c i 20 a))).1.1) ct ∧ zX G SM σ σ' 10)) := by
  refine zCall_of (ls := [(0, .ref (kA c 1)), (1, .int n), (2, .int a)]) (by decide) (Nat.le_of_ble_eq_true rfl) rfl ?_
  have hle := hS.le
  refine zr_aload_n dX4_setDepth_0 rfl rfl ?_
  refine zr_iload_n dX4_setDepth_1 rfl rfl ?_
  refine zr_iload_n dX4_setDepth_2 rfl rfl ?_
  refine zr_bipush (v := (-5)) dX4_setDepth_3 (by decide) ?_
  refine zr_iconst (v := 5) dX4_setDepth_5 (by decide) ?_
  refine zr_call1 (rest := [.int n, .ref (kA c 1)]) (zs_S (As := [.int a, .int (-5), .int 5]) (by omega) ok_X4_in q2247 q2248 q77 q2249 rfl rfl (Nat.le_of_ble_eq_true rfl) dX4_setDepth_6) c_X4_in ?_
  refine zr_call1 (rest := []) (zs_V (As := [.int n, .int (bI (btw a (-5) 5))]) (by omega) ok_X4_wrong q2259 q2261 qs38 q77 q2262 rfl hS.one rfl rfl rfl (Nat.le_of_ble_eq_true rfl) dX4_setDepth_9) (c_X4_wrong (n := n) (b := btw a (-5) 5) (by omega) hS) ?_
  have hX1 := hS.XO hw (mO c (nI (mWr c n (btw a (-5) 5))) ct)
  have hS1 := hS.setT (nI (mWr c n (btw a (-5) 5)))
  generalize hσ1 : sUp σ (kA c 1) (.inr (4, mO c (nI (mWr c n (btw a (-5) 5))) ct)) = σ1 at hX1 hS1 ⊢
  have hw1 := hX1.gd
  by_cases hb : btw n 0 (nI (kN c) - 1) = true
  · obtain ⟨i, hi, rfl⟩ := btw_idx (by omega) hb
    by_cases hok : (btw a (-5) 5) = true
    · rw [show mWr c (nI i) (btw a (-5) 5) = 0 from by unfold mWr; rw [if_pos hb, if_pos hok]] at hS1 ⊢
      rw [pSt_1 hle hi hok]
      show zR G yX4_setDepth cX4_setDepth 4 (Option.some Jvm.ClassFile.FieldType.int) [] d 12 [(0, .ref (kA c 1)), (1, .int (nI i)), (2, .int a)] [.int 0] σ1 _
      refine zr_if_le (tgt := 17) dX4_setDepth_12 (by decide) (fun _ => ?_) (fun h9 => absurd (by decide) h9)
      obtain ⟨fl_hfl, hfl⟩ := hS1.bxL.A
      refine zr_aload_n dX4_setDepth_17 rfl rfl ?_
      refine zr_get (k := 0) (v := .ref (kA c 2)) in_X4 hS1.one rfl (Nat.le_of_ble_eq_true rfl) q2218 (.inl rfl) rfl dX4_setDepth_18 ?_
      refine zr_iload_n dX4_setDepth_21 rfl rfl ?_
      refine zr_call1 (rest := []) (zs_V (As := [.int (nI i)]) (by omega) ok_J2_get q2250 q959 q2840 q56 q960 rfl hfl rfl rfl rfl (Nat.le_of_ble_eq_true rfl) dX4_setDepth_22) (c_J2_get (by omega) hG hS1.bxL (MSys.bxa hi)) ?_
      refine zr_castS (hS1.bx hi) rfl q2084 dX4_setDepth_25 ?_
      refine zr_get (k := 19) (v := .int (kF c i 20)) in_X5 (hS1.bx hi) rfl (Nat.le_of_ble_eq_true rfl) q2131 (.inl rfl) rfl dX4_setDepth_28 ?_
      refine zr_istore_n (ls2 := [(0, .ref (kA c 1)), (1, .int (nI i)), (2, .int a), (3, .int (kF c i 20))]) dX4_setDepth_31 rfl (Nat.le_of_ble_eq_true rfl) rfl ?_
      refine zr_aload_n dX4_setDepth_32 rfl rfl ?_
      refine zr_get (k := 0) (v := .ref (kA c 2)) in_X4 hS1.one rfl (Nat.le_of_ble_eq_true rfl) q2218 (.inl rfl) rfl dX4_setDepth_33 ?_
      refine zr_iload_n dX4_setDepth_36 rfl rfl ?_
      refine zr_call1 (rest := []) (zs_V (As := [.int (nI i)]) (by omega) ok_J2_get q2250 q959 q2840 q56 q960 rfl hfl rfl rfl rfl (Nat.le_of_ble_eq_true rfl) dX4_setDepth_37) (c_J2_get (by omega) hG hS1.bxL (MSys.bxa hi)) ?_
      refine zr_castS (hS1.bx hi) rfl q2084 dX4_setDepth_40 ?_
      refine zr_iload_n dX4_setDepth_43 rfl rfl ?_
      have hv0 : KVal 20 a := hok
      refine zr_put (k := 19) (fs' := (mBx (kSetF c i 20 a) i)) zt_X5 (hS1.bF hi) rfl (Nat.le_of_ble_eq_true rfl) q2131 (.inl rfl) rfl rfl rfl (Nat.le_of_ble_eq_true rfl) (mBx_F20 _ _ _) dX4_setDepth_44 ?_
      have hS2 : MSys G (sUp σ1 (kA c (rB i)) (.inr (5, mBx (kSetF c i 20 a) i))) (kSetF c i 20 a) (nI 0) ct := hS1.setF (k := 20) hi a (hS1.2.2.2.setF i hv0 (by decide) (fun h => by cases h))
      have hX2 : zX G SM σ (sUp σ1 (kA c (rB i)) (.inr (5, mBx (kSetF c i 20 a) i))) 0 := hX1.trans (hS1.XB hX1.gd hi (mBx (kSetF c i 20 a) i))
      generalize hσ2 : sUp σ1 (kA c (rB i)) (.inr (5, mBx (kSetF c i 20 a) i)) = σ2 at hS2 hX2 ⊢
      have hb2 : zAt G σ2 (kA c (rB i)) (.inr (5, mBx (kSetF c i 20 a) i)) := hS2.bx hi
      refine zr_iload_n dX4_setDepth_47 rfl rfl ?_
      exact zr_iret rfl rfl dX4_setDepth_48 (⟨⟨_, rfl, fun _ => rfl⟩, hS2, hX2.le (by omega)⟩)
    · have hok0 : (btw a (-5) 5) = false := by simpa using hok
      rw [show mWr c (nI i) (btw a (-5) 5) = 2 from by unfold mWr; rw [if_pos hb, if_neg hok]] at hS1 ⊢
      rw [pSt_2 hle hi hok0]
      show zR G yX4_setDepth cX4_setDepth 4 (Option.some Jvm.ClassFile.FieldType.int) [] d 12 [(0, .ref (kA c 1)), (1, .int (nI i)), (2, .int a)] [.int 2] σ1 _
      refine zr_if_le (tgt := 17) dX4_setDepth_12 (by decide) (fun h9 => absurd h9 (by decide)) (fun _ => ?_)
      refine zr_iconst (v := 0) dX4_setDepth_15 (by decide) ?_
      exact zr_iret rfl rfl dX4_setDepth_16 (⟨⟨_, rfl, fun h => by cases h⟩, hS1, hX1.le (by omega)⟩)
  · have hb0 : btw n 0 (nI (kN c) - 1) = false := by simpa using hb
    rw [show mWr c n (btw a (-5) 5) = 1 from if_neg hb] at hS1 ⊢
    rw [pSt_0 hb0]
    show zR G yX4_setDepth cX4_setDepth 4 (Option.some Jvm.ClassFile.FieldType.int) [] d 12 [(0, .ref (kA c 1)), (1, .int n), (2, .int a)] [.int 1] σ1 _
    refine zr_if_le (tgt := 17) dX4_setDepth_12 (by decide) (fun h9 => absurd h9 (by decide)) (fun _ => ?_)
    refine zr_iconst (v := 0) dX4_setDepth_15 (by decide) ?_
    exact zr_iret rfl rfl dX4_setDepth_16 (⟨⟨_, rfl, fun h => by cases h⟩, hS1, hX1.le (by omega)⟩)
set_option maxHeartbeats 4000000 in
theorem c_X4_setClear {G : zG} {σ : zT} {d : Nat} {c : zCS} {th ct : Int32} {n : Int32} {a : Bool} (hd : 20 ≤ d) (hG : zOk G) (hw : zGd G σ) (hS : MSys G σ c th ct) : zCall G I_X4_setClear d [.ref (kA c 1), .int n, .int (bI a)] σ ((fun o σ' => oM o (pSt c n (true) 21 (fun i => (mMark (kSetF c i 21 (bI a)) i))).1 ∧ MSys G σ' (pSt c n (true) 21 (fun i => (mMark (kSetF c i 21 (bI a)) i))).2 (nI (pSt c n (true) 21 (fun i => (mMark (kSetF c i 21 (bI a)) i))).1.1) ct ∧ zX G SM σ σ' 10)) := by
  refine zCall_of (ls := [(0, .ref (kA c 1)), (1, .int n), (2, .int (bI a))]) (by decide) (Nat.le_of_ble_eq_true rfl) rfl ?_
  have hle := hS.le
  refine zr_aload_n dX4_setClear_0 rfl rfl ?_
  refine zr_iload_n dX4_setClear_1 rfl rfl ?_
  refine zr_iconst (v := 1) dX4_setClear_2 (by decide) ?_
  show zR G yX4_setClear cX4_setClear 5 (Option.some Jvm.ClassFile.FieldType.boolean) [] d 3 [(0, .ref (kA c 1)), (1, .int n), (2, .int (bI a))] [.int (bI true), .int n, .ref (kA c 1)] σ _
  refine zr_call1 (rest := []) (zs_V (As := [.int n, .int (bI true)]) (by omega) ok_X4_wrong q2259 q2261 qs38 q77 q2262 rfl hS.one rfl rfl rfl (Nat.le_of_ble_eq_true rfl) dX4_setClear_3) (c_X4_wrong (n := n) (b := true) (by omega) hS) ?_
  have hX1 := hS.XO hw (mO c (nI (mWr c n (true))) ct)
  have hS1 := hS.setT (nI (mWr c n (true)))
  generalize hσ1 : sUp σ (kA c 1) (.inr (4, mO c (nI (mWr c n (true))) ct)) = σ1 at hX1 hS1 ⊢
  have hw1 := hX1.gd
  by_cases hb : btw n 0 (nI (kN c) - 1) = true
  · obtain ⟨i, hi, rfl⟩ := btw_idx (by omega) hb
    have hok : true = true := rfl
    rw [show mWr c (nI i) (true) = 0 from by unfold mWr; rw [if_pos hb, if_pos hok]] at hS1 ⊢
    rw [pSt_1 hle hi hok]
    show zR G yX4_setClear cX4_setClear 5 (Option.some Jvm.ClassFile.FieldType.boolean) [] d 6 [(0, .ref (kA c 1)), (1, .int (nI i)), (2, .int (bI a))] [.int 0] σ1 _
    refine zr_if_le (tgt := 11) dX4_setClear_6 (by decide) (fun _ => ?_) (fun h9 => absurd (by decide) h9)
    obtain ⟨fl_hfl, hfl⟩ := hS1.bxL.A
    refine zr_aload_n dX4_setClear_11 rfl rfl ?_
    refine zr_get (k := 0) (v := .ref (kA c 2)) in_X4 hS1.one rfl (Nat.le_of_ble_eq_true rfl) q2218 (.inl rfl) rfl dX4_setClear_12 ?_
    refine zr_iload_n dX4_setClear_15 rfl rfl ?_
    refine zr_call1 (rest := []) (zs_V (As := [.int (nI i)]) (by omega) ok_J2_get q2250 q959 q2840 q56 q960 rfl hfl rfl rfl rfl (Nat.le_of_ble_eq_true rfl) dX4_setClear_16) (c_J2_get (by omega) hG hS1.bxL (MSys.bxa hi)) ?_
    refine zr_castS (hS1.bx hi) rfl q2084 dX4_setClear_19 ?_
    refine zr_astore_n (ls2 := [(0, .ref (kA c 1)), (1, .int (nI i)), (2, .int (bI a)), (3, .ref (kA c (rB i)))]) dX4_setClear_22 rfl (Nat.le_of_ble_eq_true rfl) rfl ?_
    refine zr_aload_n dX4_setClear_23 rfl rfl ?_
    refine zr_get (k := 24) (v := .int (kF c i 21)) in_X5 (hS1.bx hi) rfl (Nat.le_of_ble_eq_true rfl) q2141 (.inl rfl) rfl dX4_setClear_24 ?_
    refine zr_istore (ls2 := [(0, .ref (kA c 1)), (1, .int (nI i)), (2, .int (bI a)), (3, .ref (kA c (rB i))), (4, .int (kF c i 21))]) dX4_setClear_27 (Nat.le_of_ble_eq_true rfl) rfl ?_
    refine zr_aload_n dX4_setClear_29 rfl rfl ?_
    refine zr_iload_n dX4_setClear_30 rfl rfl ?_
    have hv0 : KVal 21 (bI a) := (by cases a; exact Or.inl rfl; exact Or.inr rfl)
    refine zr_put (k := 24) (fs' := (mBx (kSetF c i 21 (bI a)) i)) zt_X5 (hS1.bF hi) rfl (Nat.le_of_ble_eq_true rfl) q2141 (.inl rfl) rfl (nar_z _) (fit_z _) (Nat.le_of_ble_eq_true rfl) (mBx_F21 _ _ _) dX4_setClear_31 ?_
    have hS2 : MSys G (sUp σ1 (kA c (rB i)) (.inr (5, mBx (kSetF c i 21 (bI a)) i))) (kSetF c i 21 (bI a)) (nI 0) ct := hS1.setF (k := 21) hi (bI a) (hS1.2.2.2.setF i hv0 (by decide) (fun h => by cases h))
    have hX2 : zX G SM σ (sUp σ1 (kA c (rB i)) (.inr (5, mBx (kSetF c i 21 (bI a)) i))) 0 := hX1.trans (hS1.XB hX1.gd hi (mBx (kSetF c i 21 (bI a)) i))
    generalize hσ2 : sUp σ1 (kA c (rB i)) (.inr (5, mBx (kSetF c i 21 (bI a)) i)) = σ2 at hS2 hX2 ⊢
    have hb2 : zAt G σ2 (kA c (rB i)) (.inr (5, mBx (kSetF c i 21 (bI a)) i)) := hS2.bx hi
    refine zr_aload_n dX4_setClear_34 rfl rfl ?_
    refine zr_aload_n dX4_setClear_35 rfl rfl ?_
    obtain ⟨_, σt, ⟨rfl, hSt, hXt⟩, hCt⟩ := c_X4_mark (d := d - 1) hX2.gd hS2 (i := i) hi
    have hCt : zC G I_X4_mark (d - 1) [.ref (kA c 1), .ref (kA c (rB i))] σ2 _ σt := hCt
    have h1t : zAt G σ2 (kA c 1) (.inr (4, mO (kSetF c i 21 (bI a)) (nI 0) ct)) := hS2.one
    refine zr_callv (rest := []) (zs_V (As := [.ref (kA c (rB i))]) (by omega) ok_X4_mark q2251 q2253 qs37 q77 q2254 rfl h1t rfl rfl rfl (Nat.le_of_ble_eq_true rfl) dX4_setClear_36) hCt ?_
    refine zr_iload dX4_setClear_39 rfl ?_
    exact zr_iret rfl (by rcases hS.val hi 21 with h | h <;> rw [h] <;> rfl) dX4_setClear_41 (⟨⟨_, rfl, fun _ => rfl⟩, hSt, (hX2.trans hXt).le (by omega)⟩)
  · have hb0 : btw n 0 (nI (kN c) - 1) = false := by simpa using hb
    rw [show mWr c n (true) = 1 from if_neg hb] at hS1 ⊢
    rw [pSt_0 hb0]
    show zR G yX4_setClear cX4_setClear 5 (Option.some Jvm.ClassFile.FieldType.boolean) [] d 6 [(0, .ref (kA c 1)), (1, .int n), (2, .int (bI a))] [.int 1] σ1 _
    refine zr_if_le (tgt := 11) dX4_setClear_6 (by decide) (fun h9 => absurd h9 (by decide)) (fun _ => ?_)
    refine zr_iconst (v := 0) dX4_setClear_9 (by decide) ?_
    exact zr_iret rfl rfl dX4_setClear_10 (⟨⟨_, rfl, fun h => by cases h⟩, hS1, hX1.le (by omega)⟩)
set_option maxHeartbeats 4000000 in
theorem c_X4_setBreak {G : zG} {σ : zT} {d : Nat} {c : zCS} {th ct : Int32} {n a : Int32} (hd : 20 ≤ d) (hG : zOk G) (hw : zGd G σ) (hS : MSys G σ c th ct) : zCall G I_X4_setBreak d [.ref (kA c 1), .int n, .int a] σ ((fun o σ' => oM o (pSt c n ((decide (a = 97) || decide (a = 102) || decide (a = 118))) 22 (fun i => (kSetF c i 22 a))).1 ∧ MSys G σ' (pSt c n ((decide (a = 97) || decide (a = 102) || decide (a = 118))) 22 (fun i => (kSetF c i 22 a))).2 (nI (pSt c n ((decide (a = 97) || decide (a = 102) || decide (a = 118))) 22 (fun i => (kSetF c i 22 a))).1.1) ct ∧ zX G SM σ σ' 10)) := by
  refine zCall_of (ls := [(0, .ref (kA c 1)), (1, .int n), (2, .int a)]) (by decide) (Nat.le_of_ble_eq_true rfl) rfl ?_
  have hle := hS.le
  have key : ∀ z : Int32, z = bI ((decide (a = 97) || decide (a = 102) || decide (a = 118))) → zR G yX4_setBreak cX4_setBreak 4 (Option.some Jvm.ClassFile.FieldType.char) [] d 25 [(0, .ref (kA c 1)), (1, .int n), (2, .int a)] [.int z, .int n, .ref (kA c 1)] σ (fun o σ' => oM o (pSt c n ((decide (a = 97) || decide (a = 102) || decide (a = 118))) 22 (fun i => (kSetF c i 22 a))).1 ∧ MSys G σ' (pSt c n ((decide (a = 97) || decide (a = 102) || decide (a = 118))) 22 (fun i => (kSetF c i 22 a))).2 (nI (pSt c n ((decide (a = 97) || decide (a = 102) || decide (a = 118))) 22 (fun i => (kSetF c i 22 a))).1.1) ct ∧ zX G SM σ σ' 10) := by
    intro z hz
    subst hz
    refine zr_call1 (rest := []) (zs_V (As := [.int n, .int (bI ((decide (a = 97) || decide (a = 102) || decide (a = 118))))]) (by omega) ok_X4_wrong q2259 q2261 qs38 q77 q2262 rfl hS.one rfl rfl rfl (Nat.le_of_ble_eq_true rfl) dX4_setBreak_25) (c_X4_wrong (n := n) (b := (decide (a = 97) || decide (a = 102) || decide (a = 118))) (by omega) hS) ?_
    have hX1 := hS.XO hw (mO c (nI (mWr c n ((decide (a = 97) || decide (a = 102) || decide (a = 118))))) ct)
    have hS1 := hS.setT (nI (mWr c n ((decide (a = 97) || decide (a = 102) || decide (a = 118)))))
    generalize hσ1 : sUp σ (kA c 1) (.inr (4, mO c (nI (mWr c n ((decide (a = 97) || decide (a = 102) || decide (a = 118))))) ct)) = σ1 at hX1 hS1 ⊢
    have hw1 := hX1.gd
    by_cases hb : btw n 0 (nI (kN c) - 1) = true
    · obtain ⟨i, hi, rfl⟩ := btw_idx (by omega) hb
      by_cases hok : ((decide (a = 97) || decide (a = 102) || decide (a = 118))) = true
      · rw [show mWr c (nI i) ((decide (a = 97) || decide (a = 102) || decide (a = 118))) = 0 from by unfold mWr; rw [if_pos hb, if_pos hok]] at hS1 ⊢
        rw [pSt_1 hle hi hok]
        show zR G yX4_setBreak cX4_setBreak 4 (Option.some Jvm.ClassFile.FieldType.char) [] d 28 [(0, .ref (kA c 1)), (1, .int (nI i)), (2, .int a)] [.int 0] σ1 _
        refine zr_if_le (tgt := 34) dX4_setBreak_28 (by decide) (fun _ => ?_) (fun h9 => absurd (by decide) h9)
        obtain ⟨fl_hfl, hfl⟩ := hS1.bxL.A
        refine zr_aload_n dX4_setBreak_34 rfl rfl ?_
        refine zr_get (k := 0) (v := .ref (kA c 2)) in_X4 hS1.one rfl (Nat.le_of_ble_eq_true rfl) q2218 (.inl rfl) rfl dX4_setBreak_35 ?_
        refine zr_iload_n dX4_setBreak_38 rfl rfl ?_
        refine zr_call1 (rest := []) (zs_V (As := [.int (nI i)]) (by omega) ok_J2_get q2250 q959 q2840 q56 q960 rfl hfl rfl rfl rfl (Nat.le_of_ble_eq_true rfl) dX4_setBreak_39) (c_J2_get (by omega) hG hS1.bxL (MSys.bxa hi)) ?_
        refine zr_castS (hS1.bx hi) rfl q2084 dX4_setBreak_42 ?_
        refine zr_get (k := 22) (v := .int (kF c i 22)) in_X5 (hS1.bx hi) rfl (Nat.le_of_ble_eq_true rfl) q2137 (.inl rfl) rfl dX4_setBreak_45 ?_
        refine zr_istore_n (ls2 := [(0, .ref (kA c 1)), (1, .int (nI i)), (2, .int a), (3, .int (kF c i 22))]) dX4_setBreak_48 rfl (Nat.le_of_ble_eq_true rfl) rfl ?_
        refine zr_aload_n dX4_setBreak_49 rfl rfl ?_
        refine zr_get (k := 0) (v := .ref (kA c 2)) in_X4 hS1.one rfl (Nat.le_of_ble_eq_true rfl) q2218 (.inl rfl) rfl dX4_setBreak_50 ?_
        refine zr_iload_n dX4_setBreak_53 rfl rfl ?_
        refine zr_call1 (rest := []) (zs_V (As := [.int (nI i)]) (by omega) ok_J2_get q2250 q959 q2840 q56 q960 rfl hfl rfl rfl rfl (Nat.le_of_ble_eq_true rfl) dX4_setBreak_54) (c_J2_get (by omega) hG hS1.bxL (MSys.bxa hi)) ?_
        refine zr_castS (hS1.bx hi) rfl q2084 dX4_setBreak_57 ?_
        refine zr_iload_n dX4_setBreak_60 rfl rfl ?_
        have hv0 : KVal 22 a := (by simp only [Bool.or_eq_true, decide_eq_true_eq, or_assoc] at hok; exact hok)
        refine zr_put (k := 22) (fs' := (mBx (kSetF c i 22 a) i)) zt_X5 (hS1.bF hi) rfl (Nat.le_of_ble_eq_true rfl) q2137 (.inl rfl) rfl (by rcases hv0 with h | h | h <;> rw [h] <;> rfl) (by rcases hv0 with h | h | h <;> rw [h] <;> rfl) (Nat.le_of_ble_eq_true rfl) (mBx_F22 _ _ _) dX4_setBreak_61 ?_
        have hS2 : MSys G (sUp σ1 (kA c (rB i)) (.inr (5, mBx (kSetF c i 22 a) i))) (kSetF c i 22 a) (nI 0) ct := hS1.setF (k := 22) hi a (hS1.2.2.2.setF i hv0 (by decide) (fun h => by cases h))
        have hX2 : zX G SM σ (sUp σ1 (kA c (rB i)) (.inr (5, mBx (kSetF c i 22 a) i))) 0 := hX1.trans (hS1.XB hX1.gd hi (mBx (kSetF c i 22 a) i))
        generalize hσ2 : sUp σ1 (kA c (rB i)) (.inr (5, mBx (kSetF c i 22 a) i)) = σ2 at hS2 hX2 ⊢
        have hb2 : zAt G σ2 (kA c (rB i)) (.inr (5, mBx (kSetF c i 22 a) i)) := hS2.bx hi
        refine zr_iload_n dX4_setBreak_64 rfl rfl ?_
        exact zr_iret rfl (by rcases hS.val hi 22 with h | h | h <;> rw [h] <;> rfl) dX4_setBreak_65 (⟨⟨_, rfl, fun _ => rfl⟩, hS2, hX2.le (by omega)⟩)
      · have hok0 : ((decide (a = 97) || decide (a = 102) || decide (a = 118))) = false := by simpa using hok
        rw [show mWr c (nI i) ((decide (a = 97) || decide (a = 102) || decide (a = 118))) = 2 from by unfold mWr; rw [if_pos hb, if_neg hok]] at hS1 ⊢
        rw [pSt_2 hle hi hok0]
        show zR G yX4_setBreak cX4_setBreak 4 (Option.some Jvm.ClassFile.FieldType.char) [] d 28 [(0, .ref (kA c 1)), (1, .int (nI i)), (2, .int a)] [.int 2] σ1 _
        refine zr_if_le (tgt := 34) dX4_setBreak_28 (by decide) (fun h9 => absurd h9 (by decide)) (fun _ => ?_)
        refine zr_bipush (v := 32) dX4_setBreak_31 (by decide) ?_
        exact zr_iret rfl rfl dX4_setBreak_33 (⟨⟨_, rfl, fun h => by cases h⟩, hS1, hX1.le (by omega)⟩)
    · have hb0 : btw n 0 (nI (kN c) - 1) = false := by simpa using hb
      rw [show mWr c n ((decide (a = 97) || decide (a = 102) || decide (a = 118))) = 1 from if_neg hb] at hS1 ⊢
      rw [pSt_0 hb0]
      show zR G yX4_setBreak cX4_setBreak 4 (Option.some Jvm.ClassFile.FieldType.char) [] d 28 [(0, .ref (kA c 1)), (1, .int n), (2, .int a)] [.int 1] σ1 _
      refine zr_if_le (tgt := 34) dX4_setBreak_28 (by decide) (fun h9 => absurd h9 (by decide)) (fun _ => ?_)
      refine zr_bipush (v := 32) dX4_setBreak_31 (by decide) ?_
      exact zr_iret rfl rfl dX4_setBreak_33 (⟨⟨_, rfl, fun h => by cases h⟩, hS1, hX1.le (by omega)⟩)
  refine zr_aload_n dX4_setBreak_0 rfl rfl ?_
  refine zr_iload_n dX4_setBreak_1 rfl rfl ?_
  refine zr_iload_n dX4_setBreak_2 rfl rfl ?_
  refine zr_bipush (v := 97) dX4_setBreak_3 (by decide) ?_
  refine zr_icmp_eq (tgt := 20) dX4_setBreak_5 (by decide) (fun c_1 => ?_) (fun c_1 => ?_)
  · refine zr_iconst (v := 1) dX4_setBreak_20 (by decide) ?_
    refine zr_goto (tgt := 25) dX4_setBreak_21 (by decide) ?_
    exact key _ (by rw [show ((decide (a = 97) || decide (a = 102) || decide (a = 118))) = true from by simp [c_1]]; rfl)
  · refine zr_iload_n dX4_setBreak_8 rfl rfl ?_
    refine zr_bipush (v := 102) dX4_setBreak_9 (by decide) ?_
    refine zr_icmp_eq (tgt := 20) dX4_setBreak_11 (by decide) (fun c_2 => ?_) (fun c_2 => ?_)
    · refine zr_iconst (v := 1) dX4_setBreak_20 (by decide) ?_
      refine zr_goto (tgt := 25) dX4_setBreak_21 (by decide) ?_
      exact key _ (by rw [show ((decide (a = 97) || decide (a = 102) || decide (a = 118))) = true from by simp [c_1, c_2]]; rfl)
    · refine zr_iload_n dX4_setBreak_14 rfl rfl ?_
      refine zr_bipush (v := 118) dX4_setBreak_15 (by decide) ?_
      refine zr_icmp_ne (tgt := 24) dX4_setBreak_17 (by decide) (fun c_3 => ?_) (fun c_3 => ?_)
      · refine zr_iconst (v := 0) dX4_setBreak_24 (by decide) ?_
        exact key _ (by rw [show ((decide (a = 97) || decide (a = 102) || decide (a = 118))) = false from by simp [c_1, c_2, c_3]]; rfl)
      · refine zr_iconst (v := 1) dX4_setBreak_20 (by decide) ?_
        refine zr_goto (tgt := 25) dX4_setBreak_21 (by decide) ?_
        exact key _ (by rw [show ((decide (a = 97) || decide (a = 102) || decide (a = 118))) = true from by simp [c_1, c_2, c_3]]; rfl)
set_option maxHeartbeats 4000000 in
theorem c_X4_setAlignment {G : zG} {σ : zT} {d : Nat} {c : zCS} {th ct : Int32} {n a : Int32} (hd : 20 ≤ d) (hG : zOk G) (hw : zGd G σ) (hS : MSys G σ c th ct) : zCall G I_X4_setAlignment d [.ref (kA c 1), .int n, .int a] σ ((fun o σ' => oM o (pSt c n ((decide (a = 108) || decide (a = 99) || decide (a = 114))) 23 (fun i => (mMark (kSetF c i 23 a) i))).1 ∧ MSys G σ' (pSt c n ((decide (a = 108) || decide (a = 99) || decide (a = 114))) 23 (fun i => (mMark (kSetF c i 23 a) i))).2 (nI (pSt c n ((decide (a = 108) || decide (a = 99) || decide (a = 114))) 23 (fun i => (mMark (kSetF c i 23 a) i))).1.1) ct ∧ zX G SM σ σ' 10)) := by
  refine zCall_of (ls := [(0, .ref (kA c 1)), (1, .int n), (2, .int a)]) (by decide) (Nat.le_of_ble_eq_true rfl) rfl ?_
  have hle := hS.le
  have key : ∀ z : Int32, z = bI ((decide (a = 108) || decide (a = 99) || decide (a = 114))) → zR G yX4_setAlignment cX4_setAlignment 5 (Option.some Jvm.ClassFile.FieldType.char) [] d 25 [(0, .ref (kA c 1)), (1, .int n), (2, .int a)] [.int z, .int n, .ref (kA c 1)] σ (fun o σ' => oM o (pSt c n ((decide (a = 108) || decide (a = 99) || decide (a = 114))) 23 (fun i => (mMark (kSetF c i 23 a) i))).1 ∧ MSys G σ' (pSt c n ((decide (a = 108) || decide (a = 99) || decide (a = 114))) 23 (fun i => (mMark (kSetF c i 23 a) i))).2 (nI (pSt c n ((decide (a = 108) || decide (a = 99) || decide (a = 114))) 23 (fun i => (mMark (kSetF c i 23 a) i))).1.1) ct ∧ zX G SM σ σ' 10) := by
    intro z hz
    subst hz
    refine zr_call1 (rest := []) (zs_V (As := [.int n, .int (bI ((decide (a = 108) || decide (a = 99) || decide (a = 114))))]) (by omega) ok_X4_wrong q2259 q2261 qs38 q77 q2262 rfl hS.one rfl rfl rfl (Nat.le_of_ble_eq_true rfl) dX4_setAlignment_25) (c_X4_wrong (n := n) (b := (decide (a = 108) || decide (a = 99) || decide (a = 114))) (by omega) hS) ?_
    have hX1 := hS.XO hw (mO c (nI (mWr c n ((decide (a = 108) || decide (a = 99) || decide (a = 114))))) ct)
    have hS1 := hS.setT (nI (mWr c n ((decide (a = 108) || decide (a = 99) || decide (a = 114)))))
    generalize hσ1 : sUp σ (kA c 1) (.inr (4, mO c (nI (mWr c n ((decide (a = 108) || decide (a = 99) || decide (a = 114))))) ct)) = σ1 at hX1 hS1 ⊢
    have hw1 := hX1.gd
    by_cases hb : btw n 0 (nI (kN c) - 1) = true
    · obtain ⟨i, hi, rfl⟩ := btw_idx (by omega) hb
      by_cases hok : ((decide (a = 108) || decide (a = 99) || decide (a = 114))) = true
      · rw [show mWr c (nI i) ((decide (a = 108) || decide (a = 99) || decide (a = 114))) = 0 from by unfold mWr; rw [if_pos hb, if_pos hok]] at hS1 ⊢
        rw [pSt_1 hle hi hok]
        show zR G yX4_setAlignment cX4_setAlignment 5 (Option.some Jvm.ClassFile.FieldType.char) [] d 28 [(0, .ref (kA c 1)), (1, .int (nI i)), (2, .int a)] [.int 0] σ1 _
        refine zr_if_le (tgt := 34) dX4_setAlignment_28 (by decide) (fun _ => ?_) (fun h9 => absurd (by decide) h9)
        obtain ⟨fl_hfl, hfl⟩ := hS1.bxL.A
        refine zr_aload_n dX4_setAlignment_34 rfl rfl ?_
        refine zr_get (k := 0) (v := .ref (kA c 2)) in_X4 hS1.one rfl (Nat.le_of_ble_eq_true rfl) q2218 (.inl rfl) rfl dX4_setAlignment_35 ?_
        refine zr_iload_n dX4_setAlignment_38 rfl rfl ?_
        refine zr_call1 (rest := []) (zs_V (As := [.int (nI i)]) (by omega) ok_J2_get q2250 q959 q2840 q56 q960 rfl hfl rfl rfl rfl (Nat.le_of_ble_eq_true rfl) dX4_setAlignment_39) (c_J2_get (by omega) hG hS1.bxL (MSys.bxa hi)) ?_
        refine zr_castS (hS1.bx hi) rfl q2084 dX4_setAlignment_42 ?_
        refine zr_astore_n (ls2 := [(0, .ref (kA c 1)), (1, .int (nI i)), (2, .int a), (3, .ref (kA c (rB i)))]) dX4_setAlignment_45 rfl (Nat.le_of_ble_eq_true rfl) rfl ?_
        refine zr_aload_n dX4_setAlignment_46 rfl rfl ?_
        refine zr_get (k := 23) (v := .int (kF c i 23)) in_X5 (hS1.bx hi) rfl (Nat.le_of_ble_eq_true rfl) q2139 (.inl rfl) rfl dX4_setAlignment_47 ?_
        refine zr_istore (ls2 := [(0, .ref (kA c 1)), (1, .int (nI i)), (2, .int a), (3, .ref (kA c (rB i))), (4, .int (kF c i 23))]) dX4_setAlignment_50 (Nat.le_of_ble_eq_true rfl) rfl ?_
        refine zr_aload_n dX4_setAlignment_52 rfl rfl ?_
        refine zr_iload_n dX4_setAlignment_53 rfl rfl ?_
        have hv0 : KVal 23 a := (by simp only [Bool.or_eq_true, decide_eq_true_eq, or_assoc] at hok; exact hok)
        refine zr_put (k := 23) (fs' := (mBx (kSetF c i 23 a) i)) zt_X5 (hS1.bF hi) rfl (Nat.le_of_ble_eq_true rfl) q2139 (.inl rfl) rfl (by rcases hv0 with h | h | h <;> rw [h] <;> rfl) (by rcases hv0 with h | h | h <;> rw [h] <;> rfl) (Nat.le_of_ble_eq_true rfl) (mBx_F23 _ _ _) dX4_setAlignment_54 ?_
        have hS2 : MSys G (sUp σ1 (kA c (rB i)) (.inr (5, mBx (kSetF c i 23 a) i))) (kSetF c i 23 a) (nI 0) ct := hS1.setF (k := 23) hi a (hS1.2.2.2.setF i hv0 (by decide) (fun h => by cases h))
        have hX2 : zX G SM σ (sUp σ1 (kA c (rB i)) (.inr (5, mBx (kSetF c i 23 a) i))) 0 := hX1.trans (hS1.XB hX1.gd hi (mBx (kSetF c i 23 a) i))
        generalize hσ2 : sUp σ1 (kA c (rB i)) (.inr (5, mBx (kSetF c i 23 a) i)) = σ2 at hS2 hX2 ⊢
        have hb2 : zAt G σ2 (kA c (rB i)) (.inr (5, mBx (kSetF c i 23 a) i)) := hS2.bx hi
        refine zr_aload_n dX4_setAlignment_57 rfl rfl ?_
        refine zr_aload_n dX4_setAlignment_58 rfl rfl ?_
        obtain ⟨_, σt, ⟨rfl, hSt, hXt⟩, hCt⟩ := c_X4_mark (d := d - 1) hX2.gd hS2 (i := i) hi
        have hCt : zC G I_X4_mark (d - 1) [.ref (kA c 1), .ref (kA c (rB i))] σ2 _ σt := hCt
        have h1t : zAt G σ2 (kA c 1) (.inr (4, mO (kSetF c i 23 a) (nI 0) ct)) := hS2.one
        refine zr_callv (rest := []) (zs_V (As := [.ref (kA c (rB i))]) (by omega) ok_X4_mark q2251 q2253 qs37 q77 q2254 rfl h1t rfl rfl rfl (Nat.le_of_ble_eq_true rfl) dX4_setAlignment_59) hCt ?_
        refine zr_iload dX4_setAlignment_62 rfl ?_
        exact zr_iret rfl (by rcases hS.val hi 23 with h | h | h <;> rw [h] <;> rfl) dX4_setAlignment_64 (⟨⟨_, rfl, fun _ => rfl⟩, hSt, (hX2.trans hXt).le (by omega)⟩)
      · have hok0 : ((decide (a = 108) || decide (a = 99) || decide (a = 114))) = false := by simpa using hok
        rw [show mWr c (nI i) ((decide (a = 108) || decide (a = 99) || decide (a = 114))) = 2 from by unfold mWr; rw [if_pos hb, if_neg hok]] at hS1 ⊢
        rw [pSt_2 hle hi hok0]
        show zR G yX4_setAlignment cX4_setAlignment 5 (Option.some Jvm.ClassFile.FieldType.char) [] d 28 [(0, .ref (kA c 1)), (1, .int (nI i)), (2, .int a)] [.int 2] σ1 _
        refine zr_if_le (tgt := 34) dX4_setAlignment_28 (by decide) (fun h9 => absurd h9 (by decide)) (fun _ => ?_)
        refine zr_bipush (v := 32) dX4_setAlignment_31 (by decide) ?_
        exact zr_iret rfl rfl dX4_setAlignment_33 (⟨⟨_, rfl, fun h => by cases h⟩, hS1, hX1.le (by omega)⟩)
    · have hb0 : btw n 0 (nI (kN c) - 1) = false := by simpa using hb
      rw [show mWr c n ((decide (a = 108) || decide (a = 99) || decide (a = 114))) = 1 from if_neg hb] at hS1 ⊢
      rw [pSt_0 hb0]
      show zR G yX4_setAlignment cX4_setAlignment 5 (Option.some Jvm.ClassFile.FieldType.char) [] d 28 [(0, .ref (kA c 1)), (1, .int n), (2, .int a)] [.int 1] σ1 _
      refine zr_if_le (tgt := 34) dX4_setAlignment_28 (by decide) (fun h9 => absurd h9 (by decide)) (fun _ => ?_)
      refine zr_bipush (v := 32) dX4_setAlignment_31 (by decide) ?_
      exact zr_iret rfl rfl dX4_setAlignment_33 (⟨⟨_, rfl, fun h => by cases h⟩, hS1, hX1.le (by omega)⟩)
  refine zr_aload_n dX4_setAlignment_0 rfl rfl ?_
  refine zr_iload_n dX4_setAlignment_1 rfl rfl ?_
  refine zr_iload_n dX4_setAlignment_2 rfl rfl ?_
  refine zr_bipush (v := 108) dX4_setAlignment_3 (by decide) ?_
  refine zr_icmp_eq (tgt := 20) dX4_setAlignment_5 (by decide) (fun c_1 => ?_) (fun c_1 => ?_)
  · refine zr_iconst (v := 1) dX4_setAlignment_20 (by decide) ?_
    refine zr_goto (tgt := 25) dX4_setAlignment_21 (by decide) ?_
    exact key _ (by rw [show ((decide (a = 108) || decide (a = 99) || decide (a = 114))) = true from by simp [c_1]]; rfl)
  · refine zr_iload_n dX4_setAlignment_8 rfl rfl ?_
    refine zr_bipush (v := 99) dX4_setAlignment_9 (by decide) ?_
    refine zr_icmp_eq (tgt := 20) dX4_setAlignment_11 (by decide) (fun c_2 => ?_) (fun c_2 => ?_)
    · refine zr_iconst (v := 1) dX4_setAlignment_20 (by decide) ?_
      refine zr_goto (tgt := 25) dX4_setAlignment_21 (by decide) ?_
      exact key _ (by rw [show ((decide (a = 108) || decide (a = 99) || decide (a = 114))) = true from by simp [c_1, c_2]]; rfl)
    · refine zr_iload_n dX4_setAlignment_14 rfl rfl ?_
      refine zr_bipush (v := 114) dX4_setAlignment_15 (by decide) ?_
      refine zr_icmp_ne (tgt := 24) dX4_setAlignment_17 (by decide) (fun c_3 => ?_) (fun c_3 => ?_)
      · refine zr_iconst (v := 0) dX4_setAlignment_24 (by decide) ?_
        exact key _ (by rw [show ((decide (a = 108) || decide (a = 99) || decide (a = 114))) = false from by simp [c_1, c_2, c_3]]; rfl)
      · refine zr_iconst (v := 1) dX4_setAlignment_20 (by decide) ?_
        refine zr_goto (tgt := 25) dX4_setAlignment_21 (by decide) ?_
        exact key _ (by rw [show ((decide (a = 108) || decide (a = 99) || decide (a = 114))) = true from by simp [c_1, c_2, c_3]]; rfl)
