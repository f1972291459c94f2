/-! ===== the plain law: what a context holds ===== -/
def CON (S : zCS) (chk : Bool) (c : zCS) (n : Int32) (m : zCS) (ct : Int32) (i : Nat) (b : Bool) (R : zCS × Int32) (T : (MT × List P5) × Int32) : Prop :=
  (LPp S R.1 T.1.1.1 i ∧ kP R.1 i 3 = mHv T.1.1.1 T.1.2 i T.2 ∧ (kText S i = true → LE S (kLn R.1 i) (kLn T.1.1.1 i) i)) ∧ (0 ≤ (mHv T.1.1.1 T.1.2 i T.2).toInt ∧ (mHv T.1.1.1 T.1.2 i T.2).toInt ≤ HB S i) ∧ (chk = false → ∀ j, j ∈ kItemsOf S i → KQ S c R.1 j ∧ CInv S R.1 j) ∧ (KEq c R.1 ∧ Fr (Dm S i) c R.1 ∧ (∀ k, k ≠ 3 → kP R.1 i k = kP c i k) ∧ kF R.1 i 25 = kF c i 25) ∧ (chk = false → b = true → (∀ j, j ∈ kItemsOf S i → C1 S c m j) → CTd n R.2 ct T.1.1.2)
theorem hv_no {S M : zCS} (hW : WS S) {i : Nat} (hi : i < kN S) (hM : SS S M) (v : Int32) : mHv M [] i v = if kF S i 7 = -1 then v else kF S i 7 := by
  have h := (f7_neg hW.1 hi).1
  unfold mHv
  rw [hM.f i 7 rfl]
  by_cases h7 : kF S i 7 = -1
  · rw [if_pos h7, if_neg (h.mp h7), if_neg (fun q => q.2 rfl)]
  · rw [if_neg h7, if_pos (Decidable.byContradiction (fun q => h7 (h.mpr q)))]
/-- no floats are left over -/
theorem CON.no {S : zCS} {chk : Bool} {c m M : zCS} {n ct n' ct' : Int32} {C : zCS} {i : Nat} {b : Bool} {v : Int32} (hW : WS S) (hi : i < kN S) (hM : SS S M) (h : CQ S chk c C M i v) (hct : chk = false → b = true → (∀ j, j ∈ kItemsOf S i → C1 S c m j) → CTd n n' ct ct') : CON S chk c n m ct i b (C, n') (((M, ct'), []), v) := by
  obtain ⟨a1, a2, a3, a4, a5, a6, a7, a8⟩ := h
  have e := hv_no hW hi hM v
  refine ⟨⟨a1, a2.trans e.symm, a8⟩, ?_, a4, ⟨a5, a6, a7⟩, hct⟩
  show 0 ≤ (mHv M [] i v).toInt ∧ (mHv M [] i v).toInt ≤ HB S i
  rw [e]
  have hf := (fld hW.1 hi).2.1
  have hs := sz_le hW.1 hi
  have eHB : HB S i = 1000 * ((1 + sz S i : Nat) : Int) - 300 := rfl
  by_cases h7 : kF S i 7 = -1
  · rw [if_pos h7]; exact a3
  · rw [if_neg h7]
    have := ne_m1.mp h7
    omega
/-- a block, with its floats -/
theorem CON.blk {S : zCS} {chk : Bool} {c m : zCS} {n ct : Int32} {i : Nat} {b : Bool} {R : (zCS × Int32) × List F5} {T : (MT × List P5) × Int32} (hW : WS S) (hi : i < kN S) (hk : kF S i 2 = 98) (hM : SS S T.1.1.1) (hR : SS S R.1.1) (h : CQF S chk c R.1.1 T.1.1.1 i T.2) (hfs : R.2.map toP = T.1.2 ∧ ∀ z, z ∈ R.2 → FOk (1000 * (sz S i : Nat)) z) (hv : 0 ≤ T.2.toInt ∧ T.2.toInt ≤ HB S i) (hct : chk = false → b = true → (∀ j, j ∈ kItemsOf S i → C1 S c m j) → CTd n R.1.2 ct T.1.1.2) : CON S chk c n m ct i b (cFill2 R i) T := by
  obtain ⟨⟨C, n'⟩, fs⟩ := R
  obtain ⟨⟨⟨M, ct'⟩, ps⟩, v⟩ := T
  obtain ⟨a1, a2, a4, a5, a6, a7, a8⟩ := h
  obtain ⟨g1, g2⟩ := hfs
  have g1' : fs.map toP = ps := g1
  subst g1'
  have hMS : SS S M := hM
  have hCS : SS S C := hR
  have hv' : 0 ≤ v.toInt ∧ v.toInt ≤ HB S i := hv
  have a2' : kP C i 3 = if kF S i 7 = -1 then v else kF S i 7 := a2
  have hf := (fld hW.1 hi).2
  have hp := (fld hW.1 hi).2.2.2.2.2.2.1
  have hs := sz_le hW.1 hi
  have eHB : HB S i = 1000 * ((1 + sz S i : Nat) : Int) - 300 := rfl
  have h7n := (f7_neg hW.1 hi).1
  by_cases hc : kF S i 7 = -1 ∧ fs ≠ []
  · have e1 : cFill2 ((C, n'), fs) i = (kSetP C i 3 (imax v (mLowest (fs.map toP) + kF S i 12)), n') := by
      unfold cFill2
      rw [if_pos (show kF C i 7 = -1 ∧ fs ≠ [] from ⟨(hCS.f i 7 rfl).trans hc.1, hc.2⟩)]
      show (kSetP C i 3 (imax (kP C i 3) (cLow fs + kF C i 12)), n') = _
      rw [a2', if_pos hc.1, low_eq, hCS.f i 12 rfl]
    have e2 : mHv M (fs.map toP) i v = imax v (mLowest (fs.map toP) + kF S i 12) := by
      unfold mHv
      rw [hMS.f i 7 rfl, hMS.f i 2 rfl, hMS.f i 12 rfl, if_neg (h7n.mp hc.1), if_pos ⟨Or.inl hk, fun q => hc.2 (List.map_eq_nil_iff.mp q)⟩]
    have hlow := low_b (U := 1000 * (sz S i : Nat)) (by omega) fs (-2147483648) g2 (Or.inl rfl) (Or.inl hc.2)
    have hlw : -(1000 * (sz S i : Nat) : Int) ≤ (mLowest (fs.map toP)).toInt ∧ (mLowest (fs.map toP)).toInt ≤ 1000 * (sz S i : Nat) := hlow
    have e3 : (mLowest (fs.map toP) + kF S i 12).toInt = (mLowest (fs.map toP)).toInt + (kF S i 12).toInt := ti_add (by omega) (by omega)
    rw [e1]
    have hsm : ∀ z, z ≠ i → sm C (kSetP C i 3 (imax v (mLowest (fs.map toP) + kF S i 12))) z := fun z hz => sm.P _ 3 _ hz
    refine ⟨⟨a1.st (fun z _ hne => hsm z hne) (fun z _ _ => sm.rf _ z) (Or.inr ⟨rfl, rfl⟩), (kP_s _ _ _ _).trans e2.symm, a8⟩, ?_, fun h9 j hj => ?_, ⟨a5.trans (KEq.setP _ _ _ _), a6.trans (Fr.P _ 3 _ (Dm.rf S i)), fun k hk3 => (kP_n _ _ _ hk3).trans (a7.1 k hk3), (kF_P C i 3 _ i 25).trans a7.2⟩, hct⟩
    · show 0 ≤ (mHv M (fs.map toP) i v).toInt ∧ (mHv M (fs.map toP) i v).toInt ≤ HB S i
      rw [e2, ti_max, e3]
      omega
    · have hz : ∀ z, Dm S j z → z ≠ i := fun z hz e => not_self hW hi hj (e ▸ hz)
      obtain ⟨p1, p2, p3, p4⟩ := items_mem hW hi hj
      exact ⟨(a4 h9 j hj).1.st (fun z _ => sl.rf _ z) (fun z h8 => (hsm z (hz z h8)).sl), (a4 h9 j hj).2.st hW p4 (fun z h8 _ => hsm z (hz z h8)) (hsm j (hz j (Dm.rf S j))).sl⟩
  · have e1 : cFill2 ((C, n'), fs) i = (C, n') := by
      unfold cFill2
      rw [if_neg (show ¬ (kF C i 7 = -1 ∧ fs ≠ []) from fun q => hc ⟨(hCS.f i 7 rfl).symm.trans q.1, q.2⟩)]
    have e2 : mHv M (fs.map toP) i v = if kF S i 7 = -1 then v else kF S i 7 := by
      by_cases h7 : kF S i 7 = -1
      · have : fs = [] := by
          rcases List.eq_nil_or_concat fs with h | ⟨a, r, h⟩
          · exact h
          · exact absurd ⟨h7, by rw [h]; simp⟩ hc
        rw [this]
        exact hv_no hW hi hMS v
      · unfold mHv
        rw [hMS.f i 7 rfl, if_neg h7, if_pos (Decidable.byContradiction (fun q => h7 (h7n.mpr q)))]
    rw [e1]
    refine ⟨⟨a1, a2'.trans e2.symm, a8⟩, ?_, a4, ⟨a5, a6, a7⟩, hct⟩
    show 0 ≤ (mHv M (fs.map toP) i v).toInt ∧ (mHv M (fs.map toP) i v).toInt ≤ HB S i
    rw [e2]
    by_cases h7 : kF S i 7 = -1
    · rw [if_pos h7]; exact hv'
    · rw [if_neg h7]
      have := ne_m1.mp h7
      omega
theorem con_ok {S : zCS} {chk : Bool} {f1 f2 i : Nat} {L : LayT} {L' : LM} {Fl : FlT} {C' : CM} (hW : WS S) (hL : LOK S chk f1 f2 L L') (hF : FLK S chk f1 f2 Fl C') (hKL : ∀ s j w, KEq s.1 (L s j w).1) (hKF : ∀ s fs i x y, KEq s.1 (Fl s fs i x y).1.1) (hR : RLP S f2 L') (hRC : RCP S f2 C') (hT : TXP S f2 C') (hi : i < kN S) (hcx : mCtx S i = true) (hN1 : kN S ≤ f1 + 1 + i) (hN2 : kN S ≤ f2 + 1 + i)
    (c : zCS) (n : Int32) (m : zCS) (ct : Int32) (b : Bool) (hc : SS S c) (hm : SS S m) (hw2 : kP c i 2 = kP m i 2) (hwb : WB i (kP c i 2)) (hci : chk = false → ∀ j, j ∈ kItemsOf S i → CInv S c j) :
    CON S chk c n m ct i b (cLay2 L Fl (c, n) i) (mCon L' C' (m, ct) [] i 0 0 b) := by
  have hkd : kF S i 2 = 98 ∨ kF S i 2 = 116 ∨ kF S i 2 = 102 ∨ kF S i 2 = 103 := (hW.1.2 i hi).2.2.2.2 2
  have ec : kF c i 2 = kF S i 2 := hc.f i 2 rfl
  have em : kF m i 2 = kF S i 2 := hm.f i 2 rfl
  have hs := sz_le hW.1 hi
  have eHB : HB S i = 1000 * ((1 + sz S i : Nat) : Int) - 300 := rfl
  unfold cLay2
  rcases hkd with h | h | h | h
  · rw [if_neg (show ¬ kF c i 2 = 102 by rw [ec, h]; decide), if_neg (show ¬ kF c i 2 = 103 by rw [ec, h]; decide)]
    have e1 : cFill L Fl (c, n) i = cFill2 (cFlow L Fl (c, n) [] i 0 0) i := if_neg (show ¬ kText c i = true by unfold kText; rw [ec, h]; decide)
    rw [e1]
    obtain ⟨q1, ⟨q2, q3, q4⟩, q5, q6⟩ := flow_ok hW hL hF hR hRC hT c n m ct [] i 0 0 b 0 hc hm hi hN1 hN2 h hw2 hwb (Or.inl ⟨hcx, rfl, rfl⟩) (Int.le_refl _) (by omega) (fun z hz => absurd hz List.not_mem_nil) ⟨by decide, by decide⟩ (by show 0 + sz S i ≤ 24; omega) hci
    have r1 := (RK.Con hW hi hR hRC hN2 (m, ct) [] 0 0 b hm).1
    have r2 : KEq c (cFlow L Fl (c, n) [] i 0 0).1.1 := q1.2.2.2.1
    refine CON.blk hW hi h (hm.K r1.1) (hc.K r2) q1 ⟨q2, fun z hz => (q4 z hz).mono (by omega)⟩ ⟨q5.1, ?_⟩ q6
    have := q5.2
    rw [ti_0] at this
    have e9 : mCon L' C' (m, ct) ([] : List P5) i 0 0 b = mCon L' C' (m, ct) (([] : List F5).map toP) i 0 0 b := rfl
    rw [e9]
    omega
  · rw [if_neg (show ¬ kF c i 2 = 102 by rw [ec, h]; decide), if_neg (show ¬ kF c i 2 = 103 by rw [ec, h]; decide)]
    have e1 : cFill L Fl (c, n) i = (cLines c [] i 0 0, n) := if_pos (show kText c i = true by unfold kText; rw [ec, h]; decide)
    have e2 : mCon L' C' (m, ct) [] i 0 0 b = (((mSL m i (mTxt m [] i 0 0).1, ct), []), (mTxt m [] i 0 0).2 - 0 + kF S i 12) := by
      unfold mCon
      rw [if_neg (show ¬ kF m i 2 = 98 by rw [em, h]; decide), if_pos (show kF m i 2 = 116 by rw [em, h]), show kF (m, ct).1 i 12 = kF S i 12 from hm.f i 12 rfl]
    obtain ⟨t1, t2, t3⟩ := text_ok (chk := chk) hW hi h hc hm hw2 (fs := []) 0 0 (Int.le_refl 0) (by omega) (fun z hz => absurd hz List.not_mem_nil) ⟨by decide, by decide⟩ (by show 0 ≤ 24; omega)
    rw [e1, e2]
    rw [ti_0] at t3
    exact CON.no hW hi (hm.K (MQe.SL m i _).1) (CQ.mk t1 ⟨t2, by show ((mTxt m (([] : List F5).map toP) i 0 0).2 - 0 + kF S i 12).toInt ≤ _; omega⟩) (fun _ _ _ => CTd.rf n ct)
  · have hk : kItems S i = true := by unfold kItems; rw [h]; decide
    rw [if_pos (show kF c i 2 = 102 by rw [ec, h])]
    have e2 : mCon L' C' (m, ct) [] i 0 0 b = (((mRow L' (m, ct) i b).1, []), (mRow L' (m, ct) i b).2) := by
      unfold mCon
      rw [if_neg (show ¬ kF m i 2 = 98 by rw [em, h]; decide), if_neg (show ¬ kF m i 2 = 116 by rw [em, h]; decide), if_pos (show kF m i 2 = 102 by rw [em, h])]
    obtain ⟨q1, q2⟩ := row_ok hW hi hk hL hKL hR hN1 hN2 c n m ct b hc hm hw2 hwb hci
    rw [e2]
    exact CON.no hW hi (hm.K (RK.Row hW hi hk hR hN2 b (m, ct) hm).1.1) q1 q2
  · have hk : kItems S i = true := by unfold kItems; rw [h]; decide
    rw [if_neg (show ¬ kF c i 2 = 102 by rw [ec, h]; decide), if_pos (show kF c i 2 = 103 by rw [ec, h])]
    have e2 : mCon L' C' (m, ct) [] i 0 0 b = (((mGrid L' (m, ct) i b).1, []), (mGrid L' (m, ct) i b).2) := by
      unfold mCon
      rw [if_neg (show ¬ kF m i 2 = 98 by rw [em, h]; decide), if_neg (show ¬ kF m i 2 = 116 by rw [em, h]; decide), if_neg (show ¬ kF m i 2 = 102 by rw [em, h]; decide)]
    obtain ⟨q1, q2⟩ := grid_ok hW hi hk hL hKL hR hN1 hN2 c n m ct b hc hm hw2 hwb hci
    rw [e2]
    exact CON.no hW hi (hm.K (RK.Grid hW hi hk hR hN2 b (m, ct) hm).1.1) q1 q2
