/-! ===== the plain law: the children of a block, one after another ===== -/
def PB (V : Int) (y : Int32) (t : Int32 × Int32 × Int32) : Prop := (-V ≤ y.toInt + t.1.toInt ∧ y.toInt + t.1.toInt ≤ V + 20) ∧ (0 ≤ t.2.1.toInt ∧ t.2.1.toInt ≤ 40) ∧ -40 ≤ t.2.2.toInt ∧ t.2.2.toInt ≤ 0
/-- the place of the next box -/
theorem top_eq {S : zCS} {c m : zCS} {j : Nat} {fs : List F5} {y pl g l : Int32} {V : Int} (hc : SS S c) (hm : SS S m) (hV0 : 0 ≤ V) (hV : V ≤ 900000) (hy : -V ≤ y.toInt ∧ y.toInt ≤ V) (hfs : ∀ z, z ∈ fs → FOk V z) (hp : -V ≤ y.toInt + pl.toInt ∧ y.toInt + pl.toInt ≤ V + 20) (hg : 0 ≤ g.toInt ∧ g.toInt ≤ 40) (hl : -40 ≤ l.toInt ∧ l.toInt ≤ 0) :
    fwTop c fs j (y + pl + g + l) = y + mTop m (fs.map toP) y j (pl + g + l) ∧ (-(V + 60) ≤ (y + mTop m (fs.map toP) y j (pl + g + l)).toInt ∧ (y + mTop m (fs.map toP) y j (pl + g + l)).toInt ≤ V + 60) := by
  have e1 : (pl + g + l).toInt = pl.toInt + g.toInt + l.toInt := by rw [ti_add (by rw [ti_add (by omega) (by omega)]; omega) (by rw [ti_add (by omega) (by omega)]; omega), ti_add (by omega) (by omega)]
  have e2 : (y + (pl + g + l)).toInt = y.toInt + pl.toInt + g.toInt + l.toInt := by rw [ti_add (by omega) (by omega), e1]; omega
  have ea : y + pl + g + l = y + (pl + g + l) := by rw [Int32.add_assoc y, Int32.add_assoc y]
  rw [ea]
  have hck : (kF c j 21 ≠ 0 ∨ kItems c j = true) ↔ (kF S j 21 ≠ 0 ∨ kItems S j = true) := by rw [hc.f j 21 rfl, hc.itms]
  have hmk : (kF m j 21 ≠ 0 ∨ kItems m j = true) ↔ (kF S j 21 ≠ 0 ∨ kItems S j = true) := by rw [hm.f j 21 rfl, hm.itms]
  by_cases h : kF S j 21 ≠ 0 ∨ kItems S j = true
  · cases fs with
    | nil =>
      have f1 : fwTop c [] j (y + (pl + g + l)) = y + (pl + g + l) := by
        unfold fwTop
        rw [if_pos (hck.mpr h)]
        apply Int32.toInt_inj.mp
        rw [ti_max]
        have : (cLow []).toInt = -2147483648 := rfl
        omega
      have f2 : mTop m (([] : List F5).map toP) y j (pl + g + l) = pl + g + l := if_neg (fun q => q.2 rfl)
      rw [f1, f2]
      exact ⟨rfl, by omega⟩
    | cons z r =>
      have hlow := low_b (U := V) (by omega) (z :: r) (-2147483648) hfs (Or.inl rfl) (Or.inl (List.cons_ne_nil _ _))
      have hlw : -V ≤ (mLowest ((z :: r).map toP)).toInt ∧ (mLowest ((z :: r).map toP)).toInt ≤ V := hlow
      have f1 : fwTop c (z :: r) j (y + (pl + g + l)) = imax (y + (pl + g + l)) (mLowest ((z :: r).map toP)) := by
        unfold fwTop
        rw [if_pos (hck.mpr h), low_eq]
      have f2 : mTop m ((z :: r).map toP) y j (pl + g + l) = imax (pl + g + l) (mLowest ((z :: r).map toP) - y) := if_pos ⟨hmk.mpr h, by rw [List.map_cons]; exact List.cons_ne_nil _ _⟩
      rw [f1, f2]
      have e3 : (mLowest ((z :: r).map toP) - y).toInt = (mLowest ((z :: r).map toP)).toInt - y.toInt := ti_sub (by omega) (by omega)
      have e4 : (y + imax (pl + g + l) (mLowest ((z :: r).map toP) - y)).toInt = y.toInt + max (pl.toInt + g.toInt + l.toInt) ((mLowest ((z :: r).map toP)).toInt - y.toInt) := by
        rw [ti_add (by rw [ti_max]; omega) (by rw [ti_max]; omega), ti_max, e1, e3]
      refine ⟨Int32.toInt_inj.mp ?_, by omega⟩
      rw [ti_max, e2, e4]
      omega
  · have f1 : fwTop c fs j (y + (pl + g + l)) = y + (pl + g + l) := if_neg (fun q => h (hck.mp q))
    have f2 : mTop m (fs.map toP) y j (pl + g + l) = pl + g + l := if_neg (fun q => h (hmk.mp q.1))
    rw [f1, f2]
    exact ⟨rfl, by omega⟩
/-- a child was treated -/
def STP (S : zCS) (chk : Bool) (c : zCS) (n : Int32) (m : zCS) (ct : Int32) (fs : List F5) (j : Nat) (y : Int32) (b : Bool) (V : Int) (R : FwT) (T : BT) : Prop :=
  (KEq c R.1.1.1 ∧ Fr (Dm S j) c R.1.1.1 ∧ ChOK S chk c R.1.1.1 T.1.1.1 j) ∧ (R.1.2.map toP = T.1.2 ∧ R.1.2.length ≤ fs.length + (1 + sz S j) ∧ ∀ z, z ∈ R.1.2 → FOk (V + 1000 * ((1 + sz S j : Nat) : Int)) z) ∧ (R.2.1 = y + T.2.1 ∧ R.2.2.1 = T.2.2.1 ∧ R.2.2.2 = T.2.2.2) ∧ PB (V + 1000 * ((1 + sz S j : Nat) : Int)) y T.2 ∧ (chk = false → b = true → C1 S c m j → CTd n R.1.1.2 ct T.1.1.2) ∧ MQe m T.1.1.1 ∧ Fr (Dm S j) m T.1.1.1
theorem step_ok {S : zCS} {chk : Bool} {f1 f2 i j : Nat} {L : LayT} {L' : LM} {Fl : FlT} {C' : CM} (hW : WS S) (hi : i < kN S) (hk : kF S i 2 = 98) (hj : j ∈ kItemsOf S i) (hL : LOK S chk f1 f2 L L') (hF : FLK S chk f1 f2 Fl C') (hR : RLP S f2 L') (hRC : RCP S f2 C') (hT : TXP S f2 C') (hN1 : kN S ≤ f1 + 1 + i) (hN2 : kN S ≤ f2 + 1 + i)
    (c : zCS) (n : Int32) (m : zCS) (ct : Int32) (fs : List F5) (x y pl g l : Int32) (b : Bool) (hc : SS S c) (hm : SS S m) (hw2 : kP c i 2 = kP m i 2) (hwb : WB i (kP c i 2)) (hxy : (mCtx S i = true ∧ x = 0 ∧ y = 0) ∨ (mCtx S i = false ∧ kP m i 0 = x ∧ kP m i 1 = y)) {V : Int} (hV0 : 0 ≤ V) (hV : V + 1000 * ((1 + sz S j : Nat) : Int) ≤ 900000) (hfs : ∀ z, z ∈ fs → FOk V z) (hy : -V ≤ y.toInt ∧ y.toInt ≤ V) (hpb : PB V y (pl, g, l)) (hlen : fs.length + (1 + sz S j) ≤ 24) (hci : chk = false → CInv S c j) :
    STP S chk c n m ct fs j y b V (fwS L Fl i x y (((c, n), fs), y + pl, g, l) j) (mBkS L' C' (x + kF S i 12) (kInner m i) y b (((m, ct), fs.map toP), pl, g, l) j) := by
  obtain ⟨p1, p2, p3, jN⟩ := items_mem hW hi hj
  obtain ⟨k1, k2, k3, k4, k5⟩ := block_kinds hW hi hk p1 p2
  have hsz := sz_le hW.1 jN
  have hfd := fld hW.1 jN
  obtain ⟨b1, b2, b3⟩ := hpb
  have b1' : -V ≤ y.toInt + pl.toInt ∧ y.toInt + pl.toInt ≤ V + 20 := b1
  have b2' : 0 ≤ g.toInt ∧ g.toInt ≤ 40 := b2
  have b3' : -40 ≤ l.toInt ∧ l.toInt ≤ 0 := b3
  have eHB : HB S j = 1000 * ((1 + sz S j : Nat) : Int) - 300 := rfl
  have hflc : kFloat c j = mFloat S j := (congrFun hc.float j).trans k2
  have hfwc : kFlow c j = !mFloat S j := (congrFun hc.flow j).trans k3
  have hmfm : mFloat m j = mFloat S j := congrFun hm.mfl j
  have hlfm : kLifted m j = false := (congrFun hm.lifted j).trans p2
  cases hmf : mFloat S j with
  | true =>
    have eR : fwS L Fl i x y (((c, n), fs), y + pl, g, l) j = (cFloat L (c, n) fs j i x y (y + pl + g + l), y + pl, g, l) := if_pos (hflc.trans hmf)
    have eT : mBkS L' C' (x + kF S i 12) (kInner m i) y b (((m, ct), fs.map toP), pl, g, l) j = (mFloats L' (m, ct) (fs.map toP) j (y + pl + g + l) (x + kF S i 12) (x + kF S i 12 + kInner m i) b, pl, g, l) := by
      unfold mBkS
      rw [if_neg (show ¬ kLifted m j = true by rw [hlfm]; exact Bool.false_ne_true), if_pos (show mFloat m j = true from hmfm.trans hmf)]
    rw [eR, eT]
    have et : (y + pl + g + l).toInt = y.toInt + pl.toInt + g.toInt + l.toInt := by
      have a1 : (y + pl).toInt = y.toInt + pl.toInt := ti_add (by omega) (by omega)
      have a2 : (y + pl + g).toInt = y.toInt + pl.toInt + g.toInt := by rw [ti_add (by omega) (by omega), a1]
      rw [ti_add (by omega) (by omega), a2]
    obtain ⟨⟨q1, q2, q3, ⟨q4, q5, q6⟩, q7⟩, q8, q9⟩ := float_ok hW hi hk hj hmf hL hR hN1 hN2 c n m ct fs x y (y + pl + g + l) b hc hm hw2 hwb hxy (U := V + 60) (by omega) (by omega) (fun z hz => (hfs z hz).mono (by omega)) (by omega) hci
    exact ⟨⟨q1, q2, q3⟩, ⟨q4, by have := q5; show (cFloat L (c, n) fs j i x y (y + pl + g + l)).2.length ≤ _; omega, fun z hz => (q6 z hz).mono (by omega)⟩, ⟨rfl, rfl, rfl⟩, ⟨⟨by show _ ≤ y.toInt + pl.toInt; omega, by show y.toInt + pl.toInt ≤ _; omega⟩, b2, b3⟩, q7, q8, q9⟩
  | false =>
    have hup : kUpper c j = kF S j 8 := by
      unfold kUpper
      rw [if_pos (by rw [hfwc, hmf]; rfl), hc.f j 8 rfl]
    have eg : (imax g (kF S j 8)).toInt = max g.toInt (kF S j 8).toInt := ti_max _ _
    have el : (imin l (kF S j 8)).toInt = min l.toInt (kF S j 8).toInt := ti_min _ _
    obtain ⟨t1, t2⟩ := top_eq (j := j) (fs := fs) (pl := pl) (g := imax g (kF S j 8)) (l := imin l (kF S j 8)) hc hm hV0 (by omega) hy hfs b1' (by omega) (by omega)
    have eR : fwS L Fl i x y (((c, n), fs), y + pl, g, l) j = fwAf (cChild L Fl (c, n) fs j i x y (y + mTop m (fs.map toP) y j (pl + imax g (kF S j 8) + imin l (kF S j 8)))) j (y + pl) (imax g (kF S j 8)) (imin l (kF S j 8)) (y + mTop m (fs.map toP) y j (pl + imax g (kF S j 8) + imin l (kF S j 8))) := by
      have e1 : fwS L Fl i x y (((c, n), fs), y + pl, g, l) j = fwIn L Fl i x y ((c, n), fs) j (y + pl) (imax g (kUpper c j)) (imin l (kUpper c j)) := by
        unfold Pilot.CColumnarPressLaw_law_r6471_6693c1.fwS
        rw [if_neg (show ¬ kFloat c j = true by rw [hflc, hmf]; exact Bool.false_ne_true), if_pos (show kFlow c j = true by rw [hfwc, hmf]; rfl)]
      rw [e1, hup]
      unfold fwIn
      rw [show fwTop ((c, n), fs).1.1 ((c, n), fs).2 j (y + pl + imax g (kF S j 8) + imin l (kF S j 8)) = y + mTop m (fs.map toP) y j (pl + imax g (kF S j 8) + imin l (kF S j 8)) from t1]
    have eT : mBkS L' C' (x + kF S i 12) (kInner m i) y b (((m, ct), fs.map toP), pl, g, l) j = mBkA (mFlows L' C' (m, ct) (fs.map toP) j (x + kF S i 12 + kF S j 10) (y + mTop m (fs.map toP) y j (pl + imax g (kF S j 8) + imin l (kF S j 8))) (mBW m (kInner m i) j) b) j pl (imax g (kF S j 8)) (imin l (kF S j 8)) (mTop m (fs.map toP) y j (pl + imax g (kF S j 8) + imin l (kF S j 8))) := by
      unfold mBkS mBkI
      rw [if_neg (show ¬ kLifted m j = true by rw [hlfm]; exact Bool.false_ne_true), if_neg (show ¬ mFloat m j = true by rw [hmfm, hmf]; exact Bool.false_ne_true), hm.f j 8 rfl, hm.f j 10 rfl]
    rw [eR, eT]
    generalize mTop m (fs.map toP) y j (pl + imax g (kF S j 8) + imin l (kF S j 8)) = tp at t2 ⊢
    clear t1 eR eT
    obtain ⟨⟨q1, q2, q3, ⟨q4, q5, q6⟩, q7, q8, q9⟩, q10, q11⟩ := child_ok hW hi hk hj hmf hL hF hR hRC hT hN1 hN2 c n m ct fs x y (y + tp) b hc hm hw2 hwb hxy (U := V + 60) (by omega) (by omega) (fun z hz => (hfs z hz).mono (by omega)) t2 (by omega) hci
    generalize imax g (kF S j 8) = g2 at eg ⊢
    generalize imin l (kF S j 8) = l2 at el ⊢
    generalize cChild L Fl (c, n) fs j i x y (y + tp) = R at q1 q2 q3 q4 q5 q6 q7 q9 ⊢
    generalize mFlows L' C' (m, ct) (fs.map toP) j (x + kF S i 12 + kF S j 10) (y + tp) (mBW m (kInner m i) j) b = T at q3 q4 q7 q8 q9 q10 q11 ⊢
    have hsR : SS S R.1.1 := hc.K q1
    have hsT : SS S T.1.1 := hm.K q10.1
    have hlo : kLower R.1.1 j = kF S j 9 := by
      unfold kLower
      rw [if_pos (by rw [hsR.flow, k3, hmf]; rfl), hsR.f j 9 rfl]
    have eA : fwAf R j (y + pl) g2 l2 (y + tp) = (R, y + (if kP T.1.1 j 3 = 0 then pl else tp + kP T.1.1 j 3), imax (if kP T.1.1 j 3 = 0 then g2 else 0) (kF S j 9), imin (if kP T.1.1 j 3 = 0 then l2 else 0) (kF S j 9)) := by
      unfold fwAf
      rw [hlo, q7]
      by_cases h : kP T.1.1 j 3 = 0
      · rw [if_pos h, if_pos h, if_pos h, if_pos h]
      · rw [if_neg h, if_neg h, if_neg h, if_neg h, Int32.add_assoc]
    have eB : mBkA T j pl g2 l2 tp = (T, (if kP T.1.1 j 3 = 0 then pl else tp + kP T.1.1 j 3), imax (if kP T.1.1 j 3 = 0 then g2 else 0) (kF S j 9), imin (if kP T.1.1 j 3 = 0 then l2 else 0) (kF S j 9)) := by
      unfold mBkA
      rw [hsT.f j 9 rfl]
    rw [eA, eB]
    have ry := ti_r tp
    refine ⟨⟨q1, q2, q3⟩, ⟨q4, by show R.2.length ≤ _; omega, fun z hz => (q6 z hz).mono (by omega)⟩, ⟨rfl, rfl, rfl⟩, ⟨?_, ?_, ?_⟩, q9, q10, q11⟩
    · show -(V + 1000 * ((1 + sz S j : Nat) : Int)) ≤ y.toInt + (if kP T.1.1 j 3 = 0 then pl else tp + kP T.1.1 j 3).toInt ∧ y.toInt + (if kP T.1.1 j 3 = 0 then pl else tp + kP T.1.1 j 3).toInt ≤ _
      by_cases h : kP T.1.1 j 3 = 0
      · rw [if_pos h]; omega
      · rw [if_neg h]
        have a1 : (y + tp - y).toInt = (y + tp).toInt - y.toInt := ti_sub (by omega) (by omega)
        rw [i32_e] at a1
        have a2 : (tp + kP T.1.1 j 3).toInt = tp.toInt + (kP T.1.1 j 3).toInt := ti_add (by omega) (by omega)
        omega
    · show 0 ≤ (imax (if kP T.1.1 j 3 = 0 then g2 else 0) (kF S j 9)).toInt ∧ (imax (if kP T.1.1 j 3 = 0 then g2 else 0) (kF S j 9)).toInt ≤ 40
      rw [ti_max]
      by_cases h : kP T.1.1 j 3 = 0
      · rw [if_pos h]; omega
      · rw [if_neg h, ti_0]; omega
    · show -40 ≤ (imin (if kP T.1.1 j 3 = 0 then l2 else 0) (kF S j 9)).toInt ∧ (imin (if kP T.1.1 j 3 = 0 then l2 else 0) (kF S j 9)).toInt ≤ 0
      rw [ti_min]
      by_cases h : kP T.1.1 j 3 = 0
      · rw [if_pos h]; omega
      · rw [if_neg h, ti_0]; omega
