/-! ===== the component: touch, holder, x, y (rows printed by tools/p79.py) ===== -/
def tchF : Nat → zCS → Nat → zCS
  | 0, c, _ => c
  | f + 1, c, i => match kPar c i with
    | none => kSetF c i 25 (-1)
    | some p => tchF f (kSetF c i 25 (-1)) p
def kTouch (c : zCS) (i : Nat) : zCS := tchF 24 (kULw c (-1)) i
def hldF : Nat → zCS → Nat → Nat
  | 0, _, p => p
  | f + 1, c, p => match kPar c p with
    | none => p
    | some q => if kF c p 17 = 115 then hldF f c q else p
def kHold (c : zCS) (i : Nat) : Nat := match kPar c i with
  | none => 0
  | some p => hldF 24 c p
theorem hldF_le {c : zCS} (h : KWf c) : ∀ (f p : Nat), p < kN c → hldF f c p ≤ p := by
  intro f
  induction f with
  | zero => intro p _; exact Nat.le_refl _
  | succ f ih =>
    intro p hp
    unfold hldF
    cases hq : kPar c p with
    | none => exact Nat.le_refl _
    | some q =>
      have h1 := h.par hp hq
      show (if kF c p 17 = 115 then hldF f c q else p) ≤ p
      split
      · have := ih q (by omega); omega
      · exact Nat.le_refl _
theorem kHold_lt {c : zCS} (h : KWf c) {i : Nat} (hi : i < kN c) (hr : kRoot c i = false) : kHold c i < i := by
  unfold kHold
  cases hq : kPar c i with
  | none => unfold kRoot at hr; rw [hq] at hr; cases hr
  | some p =>
    have h1 := h.par hi hq
    have h2 := hldF_le h 24 p (by omega)
    show hldF 24 c p < i
    omega
/-- a place with all shifts: a = 0 (x) or 1 (y) -/
def kXY (a : Nat) : Nat → zCS → Nat → Int32
  | 0, _, _ => 0
  | f + 1, c, i => match kPar c i with
    | none => 0
    | some p => if kLifted c i = true then kXY a f c (kHold c i) + kF c i (18 + a) else kXY a f c p + kP c i a + (if kShifted c i = true then kF c i (18 + a) else 0)
theorem kXY_0 {a f : Nat} {c : zCS} {i : Nat} (h : kRoot c i = true) : kXY a (f + 1) c i = 0 := by
  unfold kXY
  cases hq : kPar c i with
  | none => rfl
  | some p => unfold kRoot at h; rw [hq] at h; cases h
set_option maxHeartbeats 4000000 in
theorem l_X2_touch {G : zG} {σ : zT} {d : Nat} {Q : zO → zT → Prop} : ∀ (f i : Nat) (c : zCS) (σ1 : zT), i < f → i < kN c → zGd G σ1 → CSys G σ1 c → (∀ σ2, CSys G σ2 (tchF f c i) → zX G SC σ1 σ2 0 → Q (.inl none) σ2) → zR G yX2_touch cX2_touch 2 (Option.none : Option Jvm.ClassFile.FieldType) [] d 10 [(1, .ref (kA c (rB i)))] [] σ1 Q := by
  intro f
  induction f with
  | zero => intro i c σ1 h; omega
  | succ f ih =>
    intro i c σ1 hf hi hw hS kQ
    have hS2 := hS.setF (k := 25) hi (-1) (hS.2.2.2.setF i trivial)
    have hX2 := hS.XF hw hi (kBx (kSetF c i 25 (-1)) i)
    refine zr_aload_n dX2_touch_10 rfl rfl ?_
    refine zr_ifnull dX2_touch_11 ?_
    refine zr_aload_n dX2_touch_14 rfl rfl ?_
    refine zr_iconst (v := (-1)) dX2_touch_15 (by decide) ?_
    refine zr_put (k := 25) (fs' := (kBx (kSetF c i 25 (-1)) i)) zt_X2 (hS.bF hi) rfl (Nat.le_of_ble_eq_true rfl) q293 (.inl rfl) rfl rfl rfl (Nat.le_of_ble_eq_true rfl) (kBx_set25 _ _ _) dX2_touch_16 ?_
    generalize hσ2 : sUp σ1 (kA c (rB i)) (.inr (2, kBx (kSetF c i 25 (-1)) i)) = σ2 at hS2 hX2 ⊢
    have hi2 : i < kN (kSetF c i 25 (-1)) := hi
    have hbi2 : zAt G σ2 (kA c (rB i)) (.inr (2, kBx (kSetF c i 25 (-1)) i)) := hS2.bx hi2
    refine zr_aload_n dX2_touch_19 rfl rfl ?_
    refine zr_get (k := 1) (v := va_rf (kPr c i)) in_X2 hbi2 rfl (Nat.le_of_ble_eq_true rfl) q228 (.inl rfl) rfl dX2_touch_20 ?_
    cases hp : kPar c i with
    | none =>
      rw [show kPr c i = none from by unfold kPr; rw [hp]; rfl]
      show zR _ _ _ _ _ _ _ _ _ [.null] _ _
      refine zr_astore_nR (x := none) (ls2 := [(1, .null)]) dX2_touch_23 rfl (Nat.le_of_ble_eq_true rfl) rfl ?_
      refine zr_goto (tgt := 10) dX2_touch_24 (by decide) ?_
      refine zr_aload_nR (x := none) dX2_touch_10 rfl rfl ?_
      refine zr_ifnullN (tgt := 27) dX2_touch_11 (by decide) ?_
      exact zr_vret rfl dX2_touch_27 (kQ _ (by unfold tchF; rw [hp]; exact hS2) hX2)
    | some p =>
      rw [show kPr c i = some (kA c (rB p)) from by unfold kPr; rw [hp]; rfl]
      show zR _ _ _ _ _ _ _ _ _ [.ref (kA c (rB p))] _ _
      have hpi := hS.parlt hi hp
      refine zr_astore_n (ls2 := [(1, .ref (kA c (rB p)))]) dX2_touch_23 rfl (Nat.le_of_ble_eq_true rfl) rfl ?_
      refine zr_goto (tgt := 10) dX2_touch_24 (by decide) ?_
      refine ih p (kSetF c i 25 (-1)) σ2 (by omega) (by show p < kN c; omega) hX2.gd hS2 (fun σ3 h3 x3 => kQ σ3 ?_ (hX2.trans x3))
      have e9 : tchF (f + 1) c i = tchF f (kSetF c i 25 (-1)) p := by
        show (match kPar c i with | none => kSetF c i 25 (-1) | some p => tchF f (kSetF c i 25 (-1)) p) = _
        rw [hp]
      rw [e9]
      exact h3
set_option maxHeartbeats 4000000 in
theorem c_X2_touch {G : zG} {σ : zT} {d : Nat} {c : zCS} {i : Nat} (hw : zGd G σ) (hS : CSys G σ c) (hi : i < kN c) : zCall G I_X2_touch d [.ref (kA c (rB i))] σ ((fun o σ' => o = .inl none ∧ CSys G σ' (kTouch c i) ∧ zX G SC σ σ' 0)) := by
  refine zCall_of (ls := [(0, .ref (kA c (rB i)))]) (by decide) (Nat.le_of_ble_eq_true rfl) rfl ?_
  refine zr_aload_n dX2_touch_0 rfl rfl ?_
  refine zr_get (k := 26) (v := .ref (kA c 1)) in_X2 (hS.bx hi) rfl (Nat.le_of_ble_eq_true rfl) q295 (.inl rfl) rfl dX2_touch_1 ?_
  refine zr_iconst (v := (-1)) dX2_touch_4 (by decide) ?_
  refine zr_putN (k := 1) (fs' := [.ref (kA c 2), .int (-1), .int (kCt c)]) zt_X1 hS.1.1 rfl (Nat.le_of_ble_eq_true rfl) q811 (.inl rfl) rfl rfl rfl (Nat.le_of_ble_eq_true rfl) rfl dX2_touch_5 ?_
  have hS2 := hS.setLw (-1) (kCt c)
  have hX2 : zX G SC σ (sUp σ (kA c 1) (.inr (1, [.ref (kA c 2), .int (-1), .int (kCt c)]))) 0 := zX.up hw hS.1.1 (by rw [hS.1.2]; exact ⟨by omega, by omega⟩)
  have hle := hS.le
  refine zr_aload_n dX2_touch_8 rfl rfl ?_
  refine zr_astore_n (ls2 := [(0, .ref (kA c (rB i))), (1, .ref (kA c (rB i)))]) dX2_touch_9 rfl (Nat.le_of_ble_eq_true rfl) rfl ?_
  refine zr_sub (ls2 := [(1, .ref (kA c (rB i)))]) [1] rfl ?_
  refine l_X2_touch (σ := σ) 24 i (kULw c (-1)) _ (by omega) hi hX2.gd hS2 (fun σ3 h3 x3 => ⟨rfl, h3, hX2.trans x3⟩)
set_option maxHeartbeats 4000000 in
theorem l_X2_holder {G : zG} {σ : zT} {d : Nat} {c : zCS} {Q : zO → zT → Prop} (hd : 2 ≤ d) (hS : CSys G σ c) : ∀ (f p : Nat), p < f → p < kN c → Q (.inl (some (.ref (kA c (rB (hldF f c p)))))) σ → zR G yX2_holder cX2_holder 2 (Option.some (Jvm.ClassFile.FieldType.object "ColumnarPress$Box")) [] d 5 [(1, .ref (kA c (rB p)))] [] σ Q := by
  intro f
  induction f with
  | zero => intro p h; omega
  | succ f ih =>
    intro p hf hp kQ
    refine zr_aload_n dX2_holder_5 rfl rfl ?_
    refine zr_call1 (rest := []) (zs_V (As := []) (by omega) ok_X2_isRoot q1128 q1129 q1130 q57 q1131 rfl (hS.bx hp) rfl rfl rfl (Nat.le_of_ble_eq_true rfl) dX2_holder_6) (c_X2_isRoot (by omega) hS hp) ?_
    refine zr_ifneB (tgt := 29) dX2_holder_9 (by decide) (fun h1 => ?_) (fun h1 => ?_)
    · have e9 : hldF (f + 1) c p = p := by
        unfold hldF
        cases hq : kPar c p with
        | none => rfl
        | some q => unfold kRoot at h1; rw [hq] at h1; cases h1
      rw [e9] at kQ
      refine zr_aload_n dX2_holder_29 rfl rfl ?_
      exact zr_aret rfl (.inl ⟨_, rfl⟩) (.inr ⟨_, rfl⟩) dX2_holder_30 (kQ)
    · obtain ⟨q, hq⟩ : ∃ q, kPar c p = some q := by
        cases hq : kPar c p with
        | none => unfold kRoot at h1; rw [hq] at h1; cases h1
        | some q => exact ⟨q, rfl⟩
      have hqp := hS.parlt hp hq
      have e8 : hldF (f + 1) c p = if kF c p 17 = 115 then hldF f c q else p := by
        show (match kPar c p with | none => p | some q => if kF c p 17 = 115 then hldF f c q else p) = _
        rw [hq]
      rw [e8] at kQ
      refine zr_aload_n dX2_holder_12 rfl rfl ?_
      refine zr_get (k := 17) (v := .int (kF c p 17)) in_X2 (hS.bx hp) rfl (Nat.le_of_ble_eq_true rfl) q272 (.inl rfl) rfl dX2_holder_13 ?_
      refine zr_bipush (v := 115) dX2_holder_16 (by decide) ?_
      refine zr_icmp_ne (tgt := 29) dX2_holder_18 (by decide) (fun h2 => ?_) (fun h2 => ?_)
      · rw [if_neg h2] at kQ
        refine zr_aload_n dX2_holder_29 rfl rfl ?_
        exact zr_aret rfl (.inl ⟨_, rfl⟩) (.inr ⟨_, rfl⟩) dX2_holder_30 (kQ)
      · rw [if_pos h2] at kQ
        refine zr_aload_n dX2_holder_21 rfl rfl ?_
        refine zr_get (k := 1) (v := va_rf (kPr c p)) in_X2 (hS.bx hp) rfl (Nat.le_of_ble_eq_true rfl) q228 (.inl rfl) rfl dX2_holder_22 ?_
        rw [show kPr c p = some (kA c (rB q)) from by unfold kPr; rw [hq]; rfl]
        show zR _ _ _ _ _ _ _ _ _ [.ref (kA c (rB q))] _ _
        refine zr_astore_n (ls2 := [(1, .ref (kA c (rB q)))]) dX2_holder_25 rfl (Nat.le_of_ble_eq_true rfl) rfl ?_
        refine zr_goto (tgt := 5) dX2_holder_26 (by decide) ?_
        exact ih q (by omega) (by omega) kQ
set_option maxHeartbeats 4000000 in
theorem c_X2_holder {G : zG} {σ : zT} {d : Nat} {c : zCS} {i : Nat} (hd : 2 ≤ d) (hS : CSys G σ c) (hi : i < kN c) (hr : kRoot c i = false) : zC G I_X2_holder d [.ref (kA c (rB i))] σ (.inl (some (.ref (kA c (rB (kHold c i)))))) σ := by
  refine zCall.exact (zCall_of (ls := [(0, .ref (kA c (rB i)))]) (by decide) (Nat.le_of_ble_eq_true rfl) rfl ?_)
  obtain ⟨p, hp⟩ : ∃ p, kPar c i = some p := by
    cases hp : kPar c i with
    | none => unfold kRoot at hr; rw [hp] at hr; cases hr
    | some p => exact ⟨p, rfl⟩
  have hpi := hS.parlt hi hp
  have hle := hS.le
  refine zr_aload_n dX2_holder_0 rfl rfl ?_
  refine zr_get (k := 1) (v := va_rf (kPr c i)) in_X2 (hS.bx hi) rfl (Nat.le_of_ble_eq_true rfl) q228 (.inl rfl) rfl dX2_holder_1 ?_
  rw [show kPr c i = some (kA c (rB p)) from by unfold kPr; rw [hp]; rfl]
  show zR _ _ _ _ _ _ _ _ _ [.ref (kA c (rB p))] _ _
  refine zr_astore_n (ls2 := [(0, .ref (kA c (rB i))), (1, .ref (kA c (rB p)))]) dX2_holder_4 rfl (Nat.le_of_ble_eq_true rfl) rfl ?_
  refine zr_sub (ls2 := [(1, .ref (kA c (rB p)))]) [1] rfl ?_
  exact l_X2_holder hd hS 24 p (by omega) (by omega) ⟨by unfold kHold; rw [hp], rfl⟩
set_option maxHeartbeats 4000000 in
theorem c_X2_x {G : zG} {σ : zT} {c : zCS} (hS : CSys G σ c) : ∀ (f i d : Nat), i < f → 4 + f ≤ d → i < kN c → zC G I_X2_x d [.ref (kA c (rB i))] σ (.inl (some (.int (kXY 0 f c i)))) σ := by
  intro f
  induction f with
  | zero => intro i d h; omega
  | succ f ih =>
    intro i d hf hd hi
    refine zCall.exact (zCall_of (ls := [(0, .ref (kA c (rB i)))]) (by decide) (Nat.le_of_ble_eq_true rfl) rfl ?_)
    refine zr_aload_n dX2_x_0 rfl rfl ?_
    refine zr_call1 (rest := []) (zs_V (As := []) (by omega) ok_X2_isRoot q1128 q1129 q1130 q57 q1131 rfl (hS.bx hi) rfl rfl rfl (Nat.le_of_ble_eq_true rfl) dX2_x_1) (c_X2_isRoot (by omega) hS hi) ?_
    refine zr_ifeqB (tgt := 9) dX2_x_4 (by decide) (fun h1 => ?_) (fun h1 => ?_)
    · obtain ⟨p, hp⟩ : ∃ p, kPar c i = some p := by
        cases hp : kPar c i with
        | none => unfold kRoot at h1; rw [hp] at h1; cases h1
        | some p => exact ⟨p, rfl⟩
      have hpi := hS.parlt hi hp
      have hho := kHold_lt hS.2.2.2 hi h1
      have e9 : kXY 0 (f + 1) c i = if kLifted c i = true then kXY 0 f c (kHold c i) + kF c i 18 else kXY 0 f c p + kP c i 0 + (if kShifted c i = true then kF c i 18 else 0) := by
        show (match kPar c i with | none => 0 | some p => if kLifted c i = true then kXY 0 f c (kHold c i) + kF c i (18 + 0) else kXY 0 f c p + kP c i 0 + (if kShifted c i = true then kF c i (18 + 0) else 0)) = _
        rw [hp]
      rw [e9]
      refine zr_aload_n dX2_x_9 rfl rfl ?_
      refine zr_call1 (rest := []) (zs_V (As := []) (by omega) ok_X2_isLifted q1217 q1125 q1126 q57 q1127 rfl (hS.bx hi) rfl rfl rfl (Nat.le_of_ble_eq_true rfl) dX2_x_10) (c_X2_isLifted (by omega) hS hi) ?_
      refine zr_ifeqB (tgt := 31) dX2_x_13 (by decide) (fun h2 => ?_) (fun h2 => ?_)
      · rw [if_neg (by rw [h2]; decide)]
        refine zr_aload_n dX2_x_31 rfl rfl ?_
        refine zr_get (k := 1) (v := va_rf (kPr c i)) in_X2 (hS.bx hi) rfl (Nat.le_of_ble_eq_true rfl) q228 (.inl rfl) rfl dX2_x_32 ?_
        rw [show kPr c i = some (kA c (rB p)) from by unfold kPr; rw [hp]; rfl]
        show zR _ _ _ _ _ _ _ _ _ [.ref (kA c (rB p))] _ _
        refine zr_call1 (rest := []) (zs_V (As := []) (by omega) ok_X2_x q1825 q1821 q1822 q57 q1823 rfl (hS.bx (show p < kN c by omega)) rfl rfl rfl (Nat.le_of_ble_eq_true rfl) dX2_x_35) (ih p (d - 1) (by omega) (by omega) (by omega)) ?_
        refine zr_aload_n dX2_x_38 rfl rfl ?_
        refine zr_get (k := 24) (v := .ref (kA c (rP i))) in_X2 (hS.bx hi) rfl (Nat.le_of_ble_eq_true rfl) q288 (.inl rfl) rfl dX2_x_39 ?_
        refine zr_getN (k := 0) (v := .int (kP c i 0)) in_X3 (hS.pl hi) rfl (Nat.le_of_ble_eq_true rfl) q191 (.inl rfl) rfl dX2_x_42 ?_
        refine zr_iadd dX2_x_45 ?_
        refine zr_aload_n dX2_x_46 rfl rfl ?_
        refine zr_call1 (rest := [.int ((kXY 0 f c p) + (kP c i 0))]) (zs_V (As := []) (by omega) ok_X2_isShifted q1826 q1827 q1828 q57 q1829 rfl (hS.bx hi) rfl rfl rfl (Nat.le_of_ble_eq_true rfl) dX2_x_47) (c_X2_isShifted (by omega) hS hi) ?_
        refine zr_ifeqB (tgt := 60) dX2_x_50 (by decide) (fun h3 => ?_) (fun h3 => ?_)
        · rw [if_neg (by rw [h3]; decide)]
          refine zr_iconst (v := 0) dX2_x_60 (by decide) ?_
          refine zr_iadd dX2_x_61 ?_
          exact zr_iret rfl rfl dX2_x_62 (⟨rfl, rfl⟩)
        · rw [if_pos h3]
          refine zr_aload_n dX2_x_53 rfl rfl ?_
          refine zr_get (k := 18) (v := .int (kF c i 18)) in_X2 (hS.bx hi) rfl (Nat.le_of_ble_eq_true rfl) q276 (.inl rfl) rfl dX2_x_54 ?_
          refine zr_goto (tgt := 61) dX2_x_57 (by decide) ?_
          refine zr_iadd dX2_x_61 ?_
          exact zr_iret rfl rfl dX2_x_62 (⟨rfl, rfl⟩)
      · rw [if_pos h2]
        refine zr_aload_n dX2_x_16 rfl rfl ?_
        refine zr_call1 (rest := []) (zs_V (As := []) (by omega) ok_X2_holder q1824 q1584 q1585 q57 q1586 rfl (hS.bx hi) rfl rfl rfl (Nat.le_of_ble_eq_true rfl) dX2_x_17) (c_X2_holder (by omega) hS hi h1) ?_
        refine zr_call1 (rest := []) (zs_V (As := []) (by omega) ok_X2_x q1825 q1821 q1822 q57 q1823 rfl (hS.bx (show kHold c i < kN c by omega)) rfl rfl rfl (Nat.le_of_ble_eq_true rfl) dX2_x_20) (ih (kHold c i) (d - 1) (by omega) (by omega) (by omega)) ?_
        refine zr_aload_n dX2_x_23 rfl rfl ?_
        refine zr_get (k := 18) (v := .int (kF c i 18)) in_X2 (hS.bx hi) rfl (Nat.le_of_ble_eq_true rfl) q276 (.inl rfl) rfl dX2_x_24 ?_
        refine zr_iadd dX2_x_27 ?_
        refine zr_goto (tgt := 62) dX2_x_28 (by decide) ?_
        exact zr_iret rfl rfl dX2_x_62 (⟨rfl, rfl⟩)
    · refine zr_iconst (v := 0) dX2_x_7 (by decide) ?_
      exact zr_iret rfl rfl dX2_x_8 (⟨by rw [kXY_0 h1], rfl⟩)
set_option maxHeartbeats 4000000 in
theorem c_X2_y {G : zG} {σ : zT} {c : zCS} (hS : CSys G σ c) : ∀ (f i d : Nat), i < f → 4 + f ≤ d → i < kN c → zC G I_X2_y d [.ref (kA c (rB i))] σ (.inl (some (.int (kXY 1 f c i)))) σ := by
  intro f
  induction f with
  | zero => intro i d h; omega
  | succ f ih =>
    intro i d hf hd hi
    refine zCall.exact (zCall_of (ls := [(0, .ref (kA c (rB i)))]) (by decide) (Nat.le_of_ble_eq_true rfl) rfl ?_)
    refine zr_aload_n dX2_y_0 rfl rfl ?_
    refine zr_call1 (rest := []) (zs_V (As := []) (by omega) ok_X2_isRoot q1128 q1129 q1130 q57 q1131 rfl (hS.bx hi) rfl rfl rfl (Nat.le_of_ble_eq_true rfl) dX2_y_1) (c_X2_isRoot (by omega) hS hi) ?_
    refine zr_ifeqB (tgt := 9) dX2_y_4 (by decide) (fun h1 => ?_) (fun h1 => ?_)
    · obtain ⟨p, hp⟩ : ∃ p, kPar c i = some p := by
        cases hp : kPar c i with
        | none => unfold kRoot at h1; rw [hp] at h1; cases h1
        | some p => exact ⟨p, rfl⟩
      have hpi := hS.parlt hi hp
      have hho := kHold_lt hS.2.2.2 hi h1
      have e9 : kXY 1 (f + 1) c i = if kLifted c i = true then kXY 1 f c (kHold c i) + kF c i 19 else kXY 1 f c p + kP c i 1 + (if kShifted c i = true then kF c i 19 else 0) := by
        show (match kPar c i with | none => 0 | some p => if kLifted c i = true then kXY 1 f c (kHold c i) + kF c i (18 + 1) else kXY 1 f c p + kP c i 1 + (if kShifted c i = true then kF c i (18 + 1) else 0)) = _
        rw [hp]
      rw [e9]
      refine zr_aload_n dX2_y_9 rfl rfl ?_
      refine zr_call1 (rest := []) (zs_V (As := []) (by omega) ok_X2_isLifted q1217 q1125 q1126 q57 q1127 rfl (hS.bx hi) rfl rfl rfl (Nat.le_of_ble_eq_true rfl) dX2_y_10) (c_X2_isLifted (by omega) hS hi) ?_
      refine zr_ifeqB (tgt := 31) dX2_y_13 (by decide) (fun h2 => ?_) (fun h2 => ?_)
      · rw [if_neg (by rw [h2]; decide)]
        refine zr_aload_n dX2_y_31 rfl rfl ?_
        refine zr_get (k := 1) (v := va_rf (kPr c i)) in_X2 (hS.bx hi) rfl (Nat.le_of_ble_eq_true rfl) q228 (.inl rfl) rfl dX2_y_32 ?_
        rw [show kPr c i = some (kA c (rB p)) from by unfold kPr; rw [hp]; rfl]
        show zR _ _ _ _ _ _ _ _ _ [.ref (kA c (rB p))] _ _
        refine zr_call1 (rest := []) (zs_V (As := []) (by omega) ok_X2_y q1841 q1838 q1839 q57 q1840 rfl (hS.bx (show p < kN c by omega)) rfl rfl rfl (Nat.le_of_ble_eq_true rfl) dX2_y_35) (ih p (d - 1) (by omega) (by omega) (by omega)) ?_
        refine zr_aload_n dX2_y_38 rfl rfl ?_
        refine zr_get (k := 24) (v := .ref (kA c (rP i))) in_X2 (hS.bx hi) rfl (Nat.le_of_ble_eq_true rfl) q288 (.inl rfl) rfl dX2_y_39 ?_
        refine zr_getN (k := 1) (v := .int (kP c i 1)) in_X3 (hS.pl hi) rfl (Nat.le_of_ble_eq_true rfl) q196 (.inl rfl) rfl dX2_y_42 ?_
        refine zr_iadd dX2_y_45 ?_
        refine zr_aload_n dX2_y_46 rfl rfl ?_
        refine zr_call1 (rest := [.int ((kXY 1 f c p) + (kP c i 1))]) (zs_V (As := []) (by omega) ok_X2_isShifted q1826 q1827 q1828 q57 q1829 rfl (hS.bx hi) rfl rfl rfl (Nat.le_of_ble_eq_true rfl) dX2_y_47) (c_X2_isShifted (by omega) hS hi) ?_
        refine zr_ifeqB (tgt := 60) dX2_y_50 (by decide) (fun h3 => ?_) (fun h3 => ?_)
        · rw [if_neg (by rw [h3]; decide)]
          refine zr_iconst (v := 0) dX2_y_60 (by decide) ?_
          refine zr_iadd dX2_y_61 ?_
          exact zr_iret rfl rfl dX2_y_62 (⟨rfl, rfl⟩)
        · rw [if_pos h3]
          refine zr_aload_n dX2_y_53 rfl rfl ?_
          refine zr_get (k := 19) (v := .int (kF c i 19)) in_X2 (hS.bx hi) rfl (Nat.le_of_ble_eq_true rfl) q278 (.inl rfl) rfl dX2_y_54 ?_
          refine zr_goto (tgt := 61) dX2_y_57 (by decide) ?_
          refine zr_iadd dX2_y_61 ?_
          exact zr_iret rfl rfl dX2_y_62 (⟨rfl, rfl⟩)
      · rw [if_pos h2]
        refine zr_aload_n dX2_y_16 rfl rfl ?_
        refine zr_call1 (rest := []) (zs_V (As := []) (by omega) ok_X2_holder q1824 q1584 q1585 q57 q1586 rfl (hS.bx hi) rfl rfl rfl (Nat.le_of_ble_eq_true rfl) dX2_y_17) (c_X2_holder (by omega) hS hi h1) ?_
        refine zr_call1 (rest := []) (zs_V (As := []) (by omega) ok_X2_y q1841 q1838 q1839 q57 q1840 rfl (hS.bx (show kHold c i < kN c by omega)) rfl rfl rfl (Nat.le_of_ble_eq_true rfl) dX2_y_20) (ih (kHold c i) (d - 1) (by omega) (by omega) (by omega)) ?_
        refine zr_aload_n dX2_y_23 rfl rfl ?_
        refine zr_get (k := 19) (v := .int (kF c i 19)) in_X2 (hS.bx hi) rfl (Nat.le_of_ble_eq_true rfl) q278 (.inl rfl) rfl dX2_y_24 ?_
        refine zr_iadd dX2_y_27 ?_
        refine zr_goto (tgt := 62) dX2_y_28 (by decide) ?_
        exact zr_iret rfl rfl dX2_y_62 (⟨rfl, rfl⟩)
    · refine zr_iconst (v := 0) dX2_y_7 (by decide) ?_
      exact zr_iret rfl rfl dX2_y_8 (⟨by rw [kXY_0 h1], rfl⟩)
