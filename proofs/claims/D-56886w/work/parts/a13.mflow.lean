/-! ===== the reference: flows, block (rows printed by tools/p113.py) ===== -/
abbrev CM : Type := MT → List P5 → Nat → Int32 → Int32 → Bool → (MT × List P5) × Int32
/-- the contract of contents, for boxes from a depth on -/
def HCM (G : zG) (th : Int32) (C : CM) (f d : Nat) : Prop := (∀ s ps i x y b, MQe s.1 (C s ps i x y b).1.1.1) ∧ ∀ (σ : zT) (s : MT) (ps : List P5) (fa i : Nat) (x y : Int32) (b : Bool), zGd G σ → MSys G σ s.1 th s.2 → PsS G σ fa ps → i < kN s.1 → kN s.1 ≤ f + i → ps.length + FC f s.1 i ≤ 24 → zCall G I_X4_contents d [.ref (kA s.1 1), .ref (kA s.1 (rB i)), .int x, .int y, .ref fa, .int (bI b)] σ (fun o σ' => o = .inl (some (.int (C s ps i x y b).2)) ∧ MSys G σ' (C s ps i x y b).1.1.1 th (C s ps i x y b).1.1.2 ∧ PsS G σ' fa (C s ps i x y b).1.2 ∧ (C s ps i x y b).1.2.length ≤ ps.length + FC f s.1 i ∧ zX G (SMF fa) σ σ' (LB f s.1 i))
def mXY (c : zCS) (j : Nat) (x y : Int32) : zCS := kSetP (kSetP c j 0 x) j 1 y
def mH (c : zCS) (j : Nat) (v : Int32) : zCS := kSetP c j 3 (if 0 ≤ kF c j 7 then kF c j 7 else v)
def mFlows (L : LM) (C : CM) (s : MT) (ps : List P5) (j : Nat) (x y w : Int32) (b : Bool) : MT × List P5 :=
  if mCtx s.1 j = true then (L (mXY s.1 j x y, s.2) j w b, ps)
  else ((mH (C (kSetP (mXY s.1 j x y) j 2 w, s.2) ps j x y b).1.1.1 j (C (kSetP (mXY s.1 j x y) j 2 w, s.2) ps j x y b).2, (C (kSetP (mXY s.1 j x y) j 2 w, s.2) ps j x y b).1.1.2), (C (kSetP (mXY s.1 j x y) j 2 w, s.2) ps j x y b).1.2)
theorem MQe.XY (c : zCS) (j : Nat) (x y : Int32) : MQe c (mXY c j x y) := (MQe.setP _ _ _ _).trans (MQe.setP _ _ _ _)
theorem MQe.Flows {L : LM} {C : CM} (hL : ∀ s j w b, MQe s.1 (L s j w b).1) (hC : ∀ s ps i x y b, MQe s.1 (C s ps i x y b).1.1.1) (s : MT) (ps : List P5) (j : Nat) (x y w : Int32) (b : Bool) : MQe s.1 (mFlows L C s ps j x y w b).1.1 := by
  unfold mFlows
  split
  · exact (MQe.XY s.1 j x y).trans (hL (mXY s.1 j x y, s.2) j w b)
  · exact (((MQe.XY s.1 j x y).trans (MQe.setP _ _ _ _)).trans (hC (kSetP (mXY s.1 j x y) j 2 w, s.2) ps j x y b)).trans (MQe.setP _ _ _ _)
theorem SM_SMF {fa : Nat} : ∀ s, SM s → SMF fa s := fun _ h => Or.inl h
theorem SMF_0 {fa : Nat} : ¬ SMF fa 0 := by unfold SMF SM dT; omega
set_option maxHeartbeats 4000000 in
theorem c_X4_flows {G : zG} {σ : zT} {d : Nat} {c : zCS} {th ct : Int32} {j fa f : Nat} {x y w : Int32} {b : Bool} {ps : List P5} {L : LM} {C : CM} (hd : 80 ≤ d) (hG : zOk G) (hw : zGd G σ) (hS : MSys G σ c th ct) (hj : j < kN c) (hf : kN c ≤ f + j) (hPs : PsS G σ fa ps) (h24 : ps.length + FC f c j ≤ 24) (hLM : HLM G th L f (d - 1)) (hCM : HCM G th C f (d - 1)) : zCall G I_X4_flows d [.ref (kA c 1), .ref (kA c (rB j)), .int x, .int y, .int w, .ref fa, .int (bI b)] σ ((fun o σ' => o = .inl none ∧ MSys G σ' (mFlows L C (c, ct) ps j x y w b).1.1 th (mFlows L C (c, ct) ps j x y w b).1.2 ∧ PsS G σ' fa (mFlows L C (c, ct) ps j x y w b).2 ∧ (mFlows L C (c, ct) ps j x y w b).2.length ≤ ps.length + FC f c j ∧ zX G (SMF fa) σ σ' (LB f c j))) := by
  refine zCall_of (ls := [(0, .ref (kA c 1)), (1, .ref (kA c (rB j))), (2, .int x), (3, .int y), (4, .int w), (5, .ref fa), (6, .int (bI b))]) (by decide) (Nat.le_of_ble_eq_true rfl) rfl ?_
  have hS1 : MSys G (sUp σ (kA c (rB j)) (.inr (5, mBx (kSetP c j 0 x) j))) (kSetP c j 0 x) th ct := hS.setP (k := 0) hj x
  have hX1 : zX G SM σ (sUp σ (kA c (rB j)) (.inr (5, mBx (kSetP c j 0 x) j))) 0 := hS.XB hw hj _
  generalize hσ1 : sUp σ (kA c (rB j)) (.inr (5, mBx (kSetP c j 0 x) j)) = σ1 at hS1 hX1
  have hbF1 : sF σ1 (kA c (rB j)) = some (.inr (5, mBx (kSetP c j 0 x) j)) := hS1.bF (i := j) hj
  have hS2 : MSys G (sUp σ1 (kA c (rB j)) (.inr (5, mBx (mXY c j x y) j))) (mXY c j x y) th ct := hS1.setP (k := 1) (i := j) hj y
  have hX12 : zX G SM σ1 (sUp σ1 (kA c (rB j)) (.inr (5, mBx (mXY c j x y) j))) 0 := hS1.XB hX1.gd (i := j) hj _
  generalize hσ2 : sUp σ1 (kA c (rB j)) (.inr (5, mBx (mXY c j x y) j)) = σ2 at hS2 hX12
  have hX2 := hX1.trans hX12
  have hbF2 : sF σ2 (kA c (rB j)) = some (.inr (5, mBx (mXY c j x y) j)) := hS2.bF (i := j) hj
  have hbj2 : zAt G σ2 (kA c (rB j)) (.inr (5, mBx (mXY c j x y) j)) := .new hbF2
  have h12 : zAt G σ2 (kA c 1) (.inr (4, mO (mXY c j x y) th ct)) := hS2.one
  have hPs2 := hPs.keepM hw hX2
  have hcx2 : zC G I_X5_isContext (d - 1) [.ref (kA c (rB j))] σ2 (.inl (some (.int (bI (mCtx c j))))) σ2 := c_X5_isContext (c := (mXY c j x y)) (i := j) (by omega) hS2 hj
  have hEq2 : KEq c (mXY c j x y) := (MQe.XY c j x y).1
  refine zr_aload_n dX4_flows_0 rfl rfl ?_
  refine zr_iload_n dX4_flows_1 rfl rfl ?_
  refine zr_put (k := 27) (fs' := (mBx (kSetP c j 0 x) j)) zt_X5 (hS.bF hj) rfl (Nat.le_of_ble_eq_true rfl) q2147 (.inl rfl) rfl rfl rfl (Nat.le_of_ble_eq_true rfl) (mBx_P0 _ _ _) dX4_flows_2 ?_
  rw [hσ1]
  refine zr_aload_n dX4_flows_5 rfl rfl ?_
  refine zr_iload_n dX4_flows_6 rfl rfl ?_
  refine zr_put (k := 28) (fs' := (mBx (mXY c j x y) j)) zt_X5 hbF1 rfl (Nat.le_of_ble_eq_true rfl) q2149 (.inl rfl) rfl rfl rfl (Nat.le_of_ble_eq_true rfl) (mBx_P1 _ _ _) dX4_flows_7 ?_
  rw [hσ2]
  refine zr_aload_n dX4_flows_10 rfl rfl ?_
  refine zr_call1 (rest := []) (zs_V (As := []) (by omega) ok_X5_isContext q2465 q2466 q2467 q78 q2468 rfl hbj2 rfl rfl rfl (Nat.le_of_ble_eq_true rfl) dX4_flows_11) hcx2 ?_
  refine zr_ifeqB (tgt := 27) dX4_flows_14 (by decide) (fun h1 => ?_) (fun h1 => ?_)
  · have hfl : mFlows L C (c, ct) ps j x y w b = ((mH (C ((kSetP (mXY c j x y) j 2 w), ct) ps j x y b).1.1.1 j (C ((kSetP (mXY c j x y) j 2 w), ct) ps j x y b).2, (C ((kSetP (mXY c j x y) j 2 w), ct) ps j x y b).1.1.2), (C ((kSetP (mXY c j x y) j 2 w), ct) ps j x y b).1.2) := if_neg (by rw [h1]; decide)
    rw [hfl]
    have hS3 : MSys G (sUp σ2 (kA c (rB j)) (.inr (5, mBx (kSetP (mXY c j x y) j 2 w) j))) (kSetP (mXY c j x y) j 2 w) th ct := hS2.setP (k := 2) (i := j) hj w
    have hX23 : zX G SM σ2 (sUp σ2 (kA c (rB j)) (.inr (5, mBx (kSetP (mXY c j x y) j 2 w) j))) 0 := hS2.XB hX2.gd (i := j) hj _
    generalize hσ3 : sUp σ2 (kA c (rB j)) (.inr (5, mBx (kSetP (mXY c j x y) j 2 w) j)) = σ3 at hS3 hX23
    have hX3 := hX2.trans hX23
    have hPs3 := hPs2.keepM hX2.gd hX23
    have h13 : zAt G σ3 (kA c 1) (.inr (4, mO (kSetP (mXY c j x y) j 2 w) th ct)) := hS3.one
    have hEq3 : KEq c (kSetP (mXY c j x y) j 2 w) := ((MQe.XY c j x y).trans (MQe.setP _ _ _ _)).1
    obtain ⟨_, σ4, ⟨rfl, hS4, hPs4, hl4, hX4⟩, hC4⟩ := hCM.2 σ3 ((kSetP (mXY c j x y) j 2 w), ct) ps fa j x y b hX3.gd hS3 hPs3 hj hf (by show ps.length + FC f (kSetP (mXY c j x y) j 2 w) j ≤ 24; rw [FC_eq hEq3]; exact h24)
    have hX4 : zX G (SMF fa) σ3 σ4 (LB f c j) := by rw [← LB_eq hEq3]; exact hX4
    have hl4 : (C ((kSetP (mXY c j x y) j 2 w), ct) ps j x y b).1.2.length ≤ ps.length + FC f c j := by rw [← FC_eq hEq3]; exact hl4
    have hE4 : MQe c (C ((kSetP (mXY c j x y) j 2 w), ct) ps j x y b).1.1.1 := ((MQe.XY c j x y).trans (MQe.setP _ _ _ _)).trans (hCM.1 ((kSetP (mXY c j x y) j 2 w), ct) ps j x y b)
    obtain ⟨R, hR⟩ : ∃ R, R = (C ((kSetP (mXY c j x y) j 2 w), ct) ps j x y b) := ⟨_, rfl⟩
    rw [← hR] at hS4 hPs4 hl4 hC4 hE4 ⊢
    have hj4 : j < kN R.1.1.1 := by rw [hE4.n]; exact hj
    have hbF4 : sF σ4 (kA c (rB j)) = some (.inr (5, mBx R.1.1.1 j)) := hE4.2 ▸ hS4.bF hj4
    have hbj4 : zAt G σ4 (kA c (rB j)) (.inr (5, mBx R.1.1.1 j)) := .new hbF4
    refine zr_aload_n dX4_flows_27 rfl rfl ?_
    refine zr_iload dX4_flows_28 rfl ?_
    refine zr_put (k := 29) (fs' := (mBx (kSetP (mXY c j x y) j 2 w) j)) zt_X5 hbF2 rfl (Nat.le_of_ble_eq_true rfl) q2151 (.inl rfl) rfl rfl rfl (Nat.le_of_ble_eq_true rfl) (mBx_P2 _ _ _) dX4_flows_30 ?_
    rw [hσ3]
    refine zr_aload_n dX4_flows_33 rfl rfl ?_
    refine zr_aload_n dX4_flows_34 rfl rfl ?_
    refine zr_iload_n dX4_flows_35 rfl rfl ?_
    refine zr_iload_n dX4_flows_36 rfl rfl ?_
    refine zr_aload dX4_flows_37 rfl ?_
    refine zr_iload dX4_flows_39 rfl ?_
    refine zr_call1 (rest := []) (zs_V (As := [.ref (kA c (rB j)), .int x, .int y, .ref fa, .int (bI b)]) (by omega) ok_X4_contents q2353 q2355 qs40 q77 q2356 rfl h13 rfl rfl rfl (Nat.le_of_ble_eq_true rfl) dX4_flows_41) hC4 ?_
    refine zr_istore (ls2 := [(0, .ref (kA c 1)), (1, .ref (kA c (rB j))), (2, .int x), (3, .int y), (4, .int w), (5, .ref fa), (6, .int (bI b)), (7, .int R.2)]) dX4_flows_44 (Nat.le_of_ble_eq_true rfl) rfl ?_
    refine zr_aload_n dX4_flows_46 rfl rfl ?_
    refine zr_aload_n dX4_flows_47 rfl rfl ?_
    refine zr_get (k := 8) (v := .int (kF R.1.1.1 j 7)) in_X5 hbj4 rfl (Nat.le_of_ble_eq_true rfl) q2109 (.inl rfl) rfl dX4_flows_48 ?_
    have key : ∀ z : Int32, z = (if 0 ≤ kF R.1.1.1 j 7 then kF R.1.1.1 j 7 else R.2) → zR G yX4_flows cX4_flows 8 (Option.none : Option Jvm.ClassFile.FieldType) [] d 63 [(0, .ref (kA c 1)), (1, .ref (kA c (rB j))), (2, .int x), (3, .int y), (4, .int w), (5, .ref fa), (6, .int (bI b)), (7, .int R.2)] [.int z, .ref (kA c (rB j))] σ4 (fun o σ' => o = .inl none ∧ MSys G σ' (mH R.1.1.1 j R.2) th R.1.1.2 ∧ PsS G σ' fa R.1.2 ∧ R.1.2.length ≤ ps.length + FC f c j ∧ zX G (SMF fa) σ σ' (LB f c j)) := by
      intro z hz
      subst hz
      refine zr_put (k := 30) (fs' := (mBx (mH R.1.1.1 j R.2) j)) zt_X5 hbF4 rfl (Nat.le_of_ble_eq_true rfl) q2153 (.inl rfl) rfl rfl rfl (Nat.le_of_ble_eq_true rfl) (mBx_P3 _ _ _) dX4_flows_63 ?_
      have hS5 : MSys G (sUp σ4 (kA c (rB j)) (.inr (5, mBx (mH R.1.1.1 j R.2) j))) (mH R.1.1.1 j R.2) th R.1.1.2 := hE4.2 ▸ hS4.setP (k := 3) hj4 _
      have hX45 : zX G SM σ4 (sUp σ4 (kA c (rB j)) (.inr (5, mBx (mH R.1.1.1 j R.2) j))) 0 := hE4.2 ▸ hS4.XB hX4.gd hj4 _
      exact zr_vret rfl dX4_flows_66 (⟨rfl, hS5, hPs4.keepM hX4.gd hX45, hl4, (((hX3.mono SM_SMF).trans hX4).trans (hX45.mono SM_SMF)).le (by omega)⟩)
    refine zr_if_lt (tgt := 61) dX4_flows_51 (by decide) (fun h2 => ?_) (fun h2 => ?_)
    · refine zr_iload dX4_flows_61 rfl ?_
      exact key _ (by rw [if_neg (by first | exact Int32.not_le.mpr h2 | exact h2)])
    · refine zr_aload_n dX4_flows_54 rfl rfl ?_
      refine zr_get (k := 8) (v := .int (kF R.1.1.1 j 7)) in_X5 hbj4 rfl (Nat.le_of_ble_eq_true rfl) q2109 (.inl rfl) rfl dX4_flows_55 ?_
      refine zr_goto (tgt := 63) dX4_flows_58 (by decide) ?_
      exact key _ (by rw [if_pos (by first | exact Int32.not_lt.mp h2 | exact h2)])
  · have hfl : mFlows L C (c, ct) ps j x y w b = (L ((mXY c j x y), ct) j w b, ps) := if_pos h1
    rw [hfl]
    obtain ⟨_, σ3, ⟨rfl, hS3, hX3⟩, hC3⟩ := hLM.2 σ2 ((mXY c j x y), ct) j w b hX2.gd hS2 hj hf
    have hX3 : zX G SM σ2 σ3 (LB f c j) := by rw [← LB_eq hEq2]; exact hX3
    refine zr_aload_n dX4_flows_17 rfl rfl ?_
    refine zr_aload_n dX4_flows_18 rfl rfl ?_
    refine zr_iload dX4_flows_19 rfl ?_
    refine zr_iload dX4_flows_21 rfl ?_
    refine zr_callv (rest := []) (zs_V (As := [.ref (kA c (rB j)), .int w, .int (bI b)]) (by omega) ok_X4_lays q2349 q2351 qs39 q77 q2352 rfl h12 rfl rfl rfl (Nat.le_of_ble_eq_true rfl) dX4_flows_23) hC3 ?_
    exact zr_vret rfl dX4_flows_26 (⟨rfl, hS3, hPs2.keepM hX2.gd hX3, Nat.le_add_right _ _, ((hX2.trans hX3).mono SM_SMF).le (by omega)⟩)
abbrev BT : Type := (MT × List P5) × Int32 × Int32 × Int32
def mTop (c : zCS) (ps : List P5) (y : Int32) (j : Nat) (t : Int32) : Int32 := if (kF c j 21 ≠ 0 ∨ kItems c j = true) ∧ ps ≠ [] then imax t (mLowest ps - y) else t
def mBW (c : zCS) (inner : Int32) (j : Nat) : Int32 := if 0 ≤ kF c j 6 then kF c j 6 else imax (inner - kSides c j) (2 * kF c j 12)
def mBkA (R : MT × List P5) (j : Nat) (pl mo le top : Int32) : BT :=
  (R, (if kP R.1.1 j 3 = 0 then pl else top + kP R.1.1 j 3), imax (if kP R.1.1 j 3 = 0 then mo else 0) (kF R.1.1 j 9), imin (if kP R.1.1 j 3 = 0 then le else 0) (kF R.1.1 j 9))
def mBkI (L : LM) (C : CM) (edge inner y : Int32) (b : Bool) (s : MT × List P5) (j : Nat) (pl mo le : Int32) : BT :=
  mBkA (mFlows L C s.1 s.2 j (edge + kF s.1.1 j 10) (y + mTop s.1.1 s.2 y j (pl + mo + le)) (mBW s.1.1 inner j) b) j pl mo le (mTop s.1.1 s.2 y j (pl + mo + le))
def mBkS (L : LM) (C : CM) (edge inner y : Int32) (b : Bool) (s : BT) (j : Nat) : BT :=
  if kLifted s.1.1.1 j = true then s
  else if mFloat s.1.1.1 j = true then (mFloats L s.1.1 s.1.2 j (y + s.2.1 + s.2.2.1 + s.2.2.2) edge (edge + inner) b, s.2)
  else mBkI L C edge inner y b s.1 j s.2.1 (imax s.2.2.1 (kF s.1.1.1 j 8)) (imin s.2.2.2 (kF s.1.1.1 j 8))
def mBlkA (L : LM) (C : CM) (s : MT) (ps : List P5) (i : Nat) (x y : Int32) (b : Bool) : BT := (kCh s.1 i).foldl (mBkS L C (x + kF s.1 i 12) (kInner s.1 i) y b) ((s, ps), kF s.1 i 12, 0, 0)
def mBlock (L : LM) (C : CM) : CM := fun s ps i x y b =>
  ((mBlkA L C s ps i x y b).1, imax ((mBlkA L C s ps i x y b).2.1 + (mBlkA L C s ps i x y b).2.2.1 + (mBlkA L C s ps i x y b).2.2.2) (kF s.1 i 12) + kF s.1 i 12)
theorem MQe.Floats {L : LM} (hL : ∀ s j w b, MQe s.1 (L s j w b).1) (s : MT) (ps : List P5) (j : Nat) (a l r : Int32) (b : Bool) : MQe s.1 (mFloats L s ps j a l r b).1.1 := (hL s j _ b).trans (MQe.Fl1 _ _ _ _ _ _)
theorem MQe.BkS {L : LM} {C : CM} (hL : ∀ s j w b, MQe s.1 (L s j w b).1) (hC : ∀ s ps i x y b, MQe s.1 (C s ps i x y b).1.1.1) (edge inner y : Int32) (b : Bool) (s : BT) (j : Nat) : MQe s.1.1.1 (mBkS L C edge inner y b s j).1.1.1 := by
  unfold mBkS
  split
  · exact MQe.rf _
  · split
    · exact MQe.Floats hL _ _ _ _ _ _ _
    · exact MQe.Flows hL hC _ _ _ _ _ _ _
theorem MQe.Block {L : LM} {C : CM} (hL : ∀ s j w b, MQe s.1 (L s j w b).1) (hC : ∀ s ps i x y b, MQe s.1 (C s ps i x y b).1.1.1) (s : MT) (ps : List P5) (i : Nat) (x y : Int32) (b : Bool) : MQe s.1 (mBlock L C s ps i x y b).1.1.1 :=
  MQe.fold (fun t : BT => t.1.1.1) (mBkS L C _ _ y b) (fun t j => MQe.BkS hL hC _ _ y b t j) _ ((s, ps), kF s.1 i 12, 0, 0)
theorem mFlows_len {L : LM} {s : MT} {ps : List P5} {j : Nat} {a l r : Int32} {b : Bool} : (mFloats L s ps j a l r b).2.length = ps.length + 1 := by
  show (ps ++ [_]).length = _
  rw [List.length_append, List.length_singleton]
