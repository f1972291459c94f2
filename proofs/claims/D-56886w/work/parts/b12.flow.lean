/-! ===== the plain law: the flow of a block ===== -/
theorem width_eq {S : zCS} {i j : Nat} (hW : WS S) (hj : j < kN S) (hij : i < j) (hr : kRoot S j = false) {c m : zCS} (hc : SS S c) (hm : SS S m) (hi : i < kN S) (hw2 : kP c i 2 = kP m i 2) (hwb : WB i (kP c i 2)) : chW c j i = mBW m (kInner m i) j ∧ WB j (mBW m (kInner m i) j) := by
  have e : kTold S j = kF S j 6 := by unfold kTold; rw [if_neg (by rw [hr]; decide)]
  have hin := inner_eq hc hm hw2
  have hib := inner_b hc hW.1 hi hwb
  rw [hin] at hib
  have hs := sides_b hW.1 hj
  have hp := pad2_b hW.1 hj
  have hn := told_neg hW.1 hj
  have ht := told_b hW.1 hj
  have hN := hW.1.1
  unfold chW mBW
  rw [hc.told, hc.f j 12 rfl, hc.sides, hm.f j 6 rfl, hm.sides, hm.f j 12 rfl, hin, ← e]
  by_cases h : kTold S j = -1
  · rw [if_neg (fun q => q h), if_neg (hn.mp h), imax_comm]
    refine ⟨rfl, ?_⟩
    unfold WB
    rw [ti_max, ti_sub (by omega) (by omega)]
    omega
  · rw [if_pos h, if_pos (Decidable.byContradiction (fun q => h (hn.mpr q)))]
    refine ⟨rfl, ?_⟩
    have := ne_m1.mp h
    unfold WB
    omega
theorem kF_P (c : zCS) (i k : Nat) (v : Int32) (a b : Nat) : kF (kSetP c i k v) a b = kF c a b := rfl
/-- a child of a flow was laid -/
def CHR (S : zCS) (chk : Bool) (c : zCS) (n : Int32) (m : zCS) (ct : Int32) (fs : List F5) (j : Nat) (top : Int32) (b : Bool) (U : Int) (R : (zCS × Int32) × List F5) (T : MT × List P5) : Prop :=
  KEq c R.1.1 ∧ Fr (Dm S j) c R.1.1 ∧ ChOK S chk c R.1.1 T.1.1 j ∧ (R.2.map toP = T.2 ∧ R.2.length ≤ fs.length + sz S j ∧ ∀ z, z ∈ R.2 → FOk (U + 1000 * (sz S j : Nat)) z) ∧ kP R.1.1 j 3 = kP T.1.1 j 3 ∧ (0 ≤ (kP T.1.1 j 3).toInt ∧ top.toInt + (kP T.1.1 j 3).toInt ≤ U + HB S j) ∧ (chk = false → b = true → C1 S c m j → CTd n R.1.2 ct T.1.2)
/-- where a child lies -/
theorem offs_at {S m M : zCS} {i j : Nat} {x y : Int32} (hW : WS S) (hi : i < kN S) (hj : j ∈ kItemsOf S i) (hxy : (mCtx S i = true ∧ x = 0 ∧ y = 0) ∨ (mCtx S i = false ∧ kP m i 0 = x ∧ kP m i 1 = y)) (hM : Fr (Dm S j) m M) : offs S M j 0 = x ∧ offs S M j 1 = y := by
  have h9 := (hM i (not_self hW hi hj)).1
  have p1 := (items_mem hW hi hj).1
  rw [offs_p p1, offs_p p1]
  rcases hxy with ⟨h1, h2, h3⟩ | ⟨h1, h2, h3⟩
  · rw [if_pos h1, if_pos h1, h2, h3]; exact ⟨rfl, rfl⟩
  · rw [if_neg (by rw [h1]; decide), if_neg (by rw [h1]; decide), h9, h9, h2, h3]; exact ⟨rfl, rfl⟩
/-- a child that is no context -/
theorem child_fin {S : zCS} {chk : Bool} {j : Nat} (hW : WS S) (jN : j < kN S) (hcj : mCtx S j = false) {c c1 C m M1 : zCS} {fs fs' : List F5} {n n' ct ct' x y lf top v w : Int32} {b : Bool} {U : Int} {ps' : List P5} (hK1 : KEq c c1) (hF1 : Fr (Dm S j) c c1) (h1 : kP c1 j 0 = lf ∧ kP c1 j 1 = top - y) (h2 : kP c1 j 2 = w) (h25 : kF c1 j 25 = kF c j 25) (hsl1 : ∀ z, z ≠ j → sm c c1 z) (hsM : SS S M1) (hQ : CQF S chk c1 C M1 j v) (hb : 0 ≤ v.toInt ∧ top.toInt + v.toInt ≤ U + HB S j) (ht : -U ≤ top.toInt ∧ top.toInt ≤ U)
    (r5 : kP M1 j 0 = x + lf ∧ kP M1 j 1 = top) (r6 : kP M1 j 2 = w) (o : offs S (mH M1 j v) j 0 = x ∧ offs S (mH M1 j v) j 1 = y) (hci : chk = false → CInv S c j) (hfs : fs'.map toP = ps' ∧ fs'.length ≤ fs.length + sz S j ∧ ∀ z, z ∈ fs' → FOk (U + 1000 * (sz S j : Nat)) z) (hct : chk = false → b = true → C1 S c m j → CTd n n' ct ct') :
    CHR S chk c n m ct fs j top b U ((C, n'), fs') ((mH M1 j v, ct'), ps') := by
  obtain ⟨a1, a2, a3, a4, a5, a6, a7⟩ := hQ
  have hf7 := (fld hW.1 jN).2.1
  have hf7n := (f7_neg hW.1 jN).1
  have e3 : kP (mH M1 j v) j 3 = if kF S j 7 = -1 then v else kF S j 7 := by
    show kP (kSetP M1 j 3 _) j 3 = _
    rw [kP_s, hsM.f j 7 rfl]
    by_cases h7 : kF S j 7 = -1
    · rw [if_pos h7, if_neg (hf7n.mp h7)]
    · rw [if_neg h7, if_pos (Decidable.byContradiction (fun q => h7 (hf7n.mpr q)))]
  have hHB : 700 ≤ HB S j := by unfold HB; omega
  have b3 : 0 ≤ (kP (mH M1 j v) j 3).toInt ∧ top.toInt + (kP (mH M1 j v) j 3).toInt ≤ U + HB S j := by
    rw [e3]
    by_cases h7 : kF S j 7 = -1
    · rw [if_pos h7]; exact hb
    · rw [if_neg h7]
      have := ne_m1.mp h7
      omega
  have hLP : LPp S C (mH M1 j v) j := a1.st (fun z _ _ => sm.rf C z) (fun z _ hne => sm.P _ 3 _ hne) (Or.inr ⟨kP_n _ _ _ (by decide), kP_n _ _ _ (by decide)⟩)
  have e0 : kP C j 0 = lf := (a6.1 0 (by decide)).trans h1.1
  have e1 : kP C j 1 = top - y := (a6.1 1 (by decide)).trans h1.2
  have e2 : kP C j 2 = w := (a6.1 2 (by decide)).trans h2
  have m0 : kP (mH M1 j v) j 0 = x + lf := (kP_n _ _ _ (by decide)).trans r5.1
  have m1 : kP (mH M1 j v) j 1 = top := (kP_n _ _ _ (by decide)).trans r5.2
  have m2 : kP (mH M1 j v) j 2 = w := (kP_n _ _ _ (by decide)).trans r6
  refine ⟨hK1.trans a4, hF1.trans a5, ⟨⟨⟨?_, ?_⟩, ⟨e2.trans m2.symm, a2.trans e3.symm⟩, fun h => a7 h⟩, hLP, fun h9 => ?_⟩, hfs, a2.trans e3.symm, b3, hct⟩
  · rw [e0, o.1, m0, i32_e]
  · rw [e1, o.2, m1]
  · exact kept_of hW hcj (hci h9) (a6.2.trans h25) (fun q hq => ⟨(a3 h9 q hq).1.st (fun z hz => (hsl1 z (fun e => not_self hW jN hq (e ▸ hz))).sl) (fun z _ => sl.rf _ z), (a3 h9 q hq).2⟩)
theorem child_item {S : zCS} {chk : Bool} {f1 f2 j : Nat} {L : LayT} {L' : LM} (hW : WS S) (jN : j < kN S) (hcj : mCtx S j = true) (hL : LOK S chk f1 f2 L L') (hN1 : kN S ≤ f1 + j) (hN2 : kN S ≤ f2 + j)
    {c0 c m m0 : zCS} {n ct : Int32} {fs : List F5} {x y top lf w : Int32} {b : Bool} {U : Int} (hc : SS S c) (hm : SS S m) (g0 : Lt (Dm S j) c c0) (g1 : kP c0 j 0 = lf ∧ kP c0 j 1 = top - y) (g2 : ∀ z, z ≠ j → sm c c0 z) (gM : Lt (Dm S j) m m0) (hwj : WB j w) (hci : chk = false → CInv S c j) (hfs : ∀ z, z ∈ fs → FOk U z) (ht : -U ≤ top.toInt ∧ top.toInt ≤ U)
    (r5 : kP (L' (m0, ct) j w b).1 j 0 = x + lf ∧ kP (L' (m0, ct) j w b).1 j 1 = top) (r6 : kP (L' (m0, ct) j w b).1 j 2 = w) (o : offs S (L' (m0, ct) j w b).1 j 0 = x ∧ offs S (L' (m0, ct) j w b).1 j 1 = y) :
    CHR S chk c n m ct fs j top b U (L (c0, n) j w, fs) (L' (m0, ct) j w b, fs.map toP) := by
  obtain ⟨q1, q2, q3, q4, q5⟩ := hL c0 n m0 ct j w b (hc.K g0.1.1) (hm.K gM.1.1) jN hN1 hN2 hcj hwj (fun h9 => (hci h9).st hW jN (fun z _ hne => g2 z hne) (g0.2.2 j))
  generalize L (c0, n) j w = R at q1 q2 q3 q4 q5
  generalize L' (m0, ct) j w b = T at q1 q5 r5 r6 o
  obtain ⟨l1, l2, l3, l4, l5, l6⟩ := q1
  refine ⟨g0.1.1.trans q4, g0.2.1.trans q2, ⟨⟨⟨?_, ?_⟩, ⟨l2.trans r6.symm, l3⟩, l4⟩, l1, fun h9 => ⟨(l6 h9).1.st (fun z hz => g0.2.2 z) (fun z _ => sl.rf _ z), (l6 h9).2⟩⟩, ⟨rfl, Nat.le_add_right _ _, fun z hz => (hfs z hz).mono (by omega)⟩, l3, ⟨l5.1, ?_⟩, fun h9 hb hC1 => q5 h9 hb (fun z hz => (hC1 z hz).st (g0.2.2 z) (gM.2.2 z))⟩
  · show kP R.1 j 0 = kP T.1 j 0 - offs S T.1 j 0
    rw [o.1, q3.1, g1.1, r5.1, i32_e]
  · show kP R.1 j 1 = kP T.1 j 1 - offs S T.1 j 1
    rw [o.2, q3.2, g1.2, r5.2]
  · have := l5.2
    show top.toInt + (kP T.1 j 3).toInt ≤ U + HB S j
    omega
theorem child_text {S : zCS} {chk : Bool} {f2 j : Nat} {C' : CM} (hW : WS S) (jN : j < kN S) (hcj : mCtx S j = false) (h116 : kF S j 2 = 116) (hRC : RCP S f2 C') (hT : TXP S f2 C') (hN2 : kN S ≤ f2 + j)
    {c c1 m m1 : zCS} {n ct : Int32} {fs : List F5} {x y lf top w : Int32} {b : Bool} {U : Int} (hc : SS S c) (hsm1 : SS S m1) (hK1 : KEq c c1) (hF1 : Fr (Dm S j) c c1) (h1 : kP c1 j 0 = lf ∧ kP c1 j 1 = top - y) (h2 : kP c1 j 2 = w) (h25 : kF c1 j 25 = kF c j 25) (hsl1 : ∀ z, z ≠ j → sm c c1 z) (hm1 : kP m1 j 0 = x + lf ∧ kP m1 j 1 = top) (hm2 : kP m1 j 2 = w) (hU0 : 0 ≤ U) (hU : U + HB S j ≤ 900000) (hfs : ∀ z, z ∈ fs → FOk U z) (ht : -U ≤ top.toInt ∧ top.toInt ≤ U) (hlen : fs.length + sz S j ≤ 24) (hci : chk = false → CInv S c j)
    (o : offs S (mH (C' (m1, ct) (fs.map toP) j (x + lf) top b).1.1.1 j (C' (m1, ct) (fs.map toP) j (x + lf) top b).2) j 0 = x ∧ offs S (mH (C' (m1, ct) (fs.map toP) j (x + lf) top b).1.1.1 j (C' (m1, ct) (fs.map toP) j (x + lf) top b).2) j 1 = y) :
    CHR S chk c n m ct fs j top b U ((cLines c1 fs j (x + lf) top, n), fs) ((mH (C' (m1, ct) (fs.map toP) j (x + lf) top b).1.1.1 j (C' (m1, ct) (fs.map toP) j (x + lf) top b).2, (C' (m1, ct) (fs.map toP) j (x + lf) top b).1.1.2), (C' (m1, ct) (fs.map toP) j (x + lf) top b).1.2) := by
  obtain ⟨q1, q2, q3, -, -⟩ := hRC (m1, ct) (fs.map toP) j (x + lf) top b hsm1 jN hN2
  have e := hT (m1, ct) (fs.map toP) j (x + lf) top b hsm1 jN hN2 h116
  obtain ⟨t1, t2, t3⟩ := text_ok (chk := chk) hW jN h116 (hc.K hK1) hsm1 (h2.trans hm2.symm) (fs := fs) (x + lf) top hU0 (by unfold HB at hU; omega) hfs ht (by omega)
  have e1 : (C' (m1, ct) (fs.map toP) j (x + lf) top b).1.1.1 = mSL m1 j (mTxt m1 (fs.map toP) j (x + lf) top).1 := by rw [e]
  have e2 : (C' (m1, ct) (fs.map toP) j (x + lf) top b).2 = (mTxt m1 (fs.map toP) j (x + lf) top).2 - top + kF S j 12 := by rw [e]
  have e3 : (C' (m1, ct) (fs.map toP) j (x + lf) top b).1.1.2 = ct := by rw [e]
  have e4 : (C' (m1, ct) (fs.map toP) j (x + lf) top b).1.2 = fs.map toP := by rw [e]
  rw [← e1, ← e2] at t1
  rw [← e2] at t2 t3
  clear e1 e2 e
  rw [e3, e4]
  generalize C' (m1, ct) (fs.map toP) j (x + lf) top b = T at q1 q2 q3 t1 t2 t3 o
  have hHB : 700 ≤ HB S j := by unfold HB; omega
  exact child_fin hW jN hcj hK1 hF1 h1 h2 h25 hsl1 (hsm1.K q1.1) t1 ⟨t2, by omega⟩ ht ⟨(q3.1 0).trans hm1.1, (q3.1 1).trans hm1.2⟩ ((q3.1 2).trans hm2) o hci ⟨rfl, Nat.le_add_right _ _, fun z hz => (hfs z hz).mono (by omega)⟩ (fun _ _ _ => CTd.rf n ct)
theorem child_block {S : zCS} {chk : Bool} {f1 f2 j : Nat} {Fl : FlT} {C' : CM} (hW : WS S) (jN : j < kN S) (hcj : mCtx S j = false) (h98 : kF S j 2 = 98) (hF : FLK S chk f1 f2 Fl C') (hRC : RCP S f2 C') (hN1 : kN S ≤ f1 + j) (hN2 : kN S ≤ f2 + j)
    {c c1 m m1 : zCS} {n ct : Int32} {fs : List F5} {x y lf top w : Int32} {b : Bool} {U : Int} (hc : SS S c) (hsm1 : SS S m1) (hK1 : KEq c c1) (hF1 : Fr (Dm S j) c c1) (h1 : kP c1 j 0 = lf ∧ kP c1 j 1 = top - y) (h2 : kP c1 j 2 = w) (h25 : kF c1 j 25 = kF c j 25) (hsl1 : ∀ z, z ≠ j → sm c c1 z) (hslm : ∀ z, z ≠ j → sm m m1 z) (hwj : WB j w) (hm1 : kP m1 j 0 = x + lf ∧ kP m1 j 1 = top) (hm2 : kP m1 j 2 = w) (hU0 : 0 ≤ U) (hU : U + HB S j ≤ 900000) (hfs : ∀ z, z ∈ fs → FOk U z) (ht : -U ≤ top.toInt ∧ top.toInt ≤ U) (hlen : fs.length + sz S j ≤ 24) (hci : chk = false → CInv S c j)
    (o : offs S (mH (C' (m1, ct) (fs.map toP) j (x + lf) top b).1.1.1 j (C' (m1, ct) (fs.map toP) j (x + lf) top b).2) j 0 = x ∧ offs S (mH (C' (m1, ct) (fs.map toP) j (x + lf) top b).1.1.1 j (C' (m1, ct) (fs.map toP) j (x + lf) top b).2) j 1 = y) :
    CHR S chk c n m ct fs j top b U (Fl (c1, n) fs j (x + lf) top) ((mH (C' (m1, ct) (fs.map toP) j (x + lf) top b).1.1.1 j (C' (m1, ct) (fs.map toP) j (x + lf) top b).2, (C' (m1, ct) (fs.map toP) j (x + lf) top b).1.1.2), (C' (m1, ct) (fs.map toP) j (x + lf) top b).1.2) := by
  obtain ⟨q1, q2, q3, -, -⟩ := hRC (m1, ct) (fs.map toP) j (x + lf) top b hsm1 jN hN2
  have hzj : ∀ q z, q ∈ kItemsOf S j → Dm S q z → z ≠ j := fun q z hq hz e => not_self hW jN hq (e ▸ hz)
  obtain ⟨u1, u2, u5, u6⟩ := hF c1 n m1 ct fs j (x + lf) top b U (hc.K hK1) hsm1 jN hN1 hN2 h98 (h2.trans hm2.symm) (by rw [h2]; exact hwj) (Or.inr ⟨hcj, hm1.1, hm1.2⟩) hU0 hU hfs ht hlen (fun h9 q hq => by
    obtain ⟨v1, v2, v3, v4⟩ := items_mem hW jN hq
    intro z hz hkz
    rw [(hsl1 z (hzj q z hq hz)).2.1] at hkz
    exact ((hci h9) z (Dm.down v2 v1 hz) hkz).st (fun y9 hy9 _ => hsl1 y9 (hzj q y9 hq (hz.trans hy9))) (hsl1 z (hzj q z hq hz)).sl)
  have u6' : chk = false → b = true → C1 S c m j → CTd n (Fl (c1, n) fs j (x + lf) top).1.2 ct (C' (m1, ct) (fs.map toP) j (x + lf) top b).1.1.2 := fun h9 hb hC1 => u6 h9 hb (fun q hq z hz => by
    obtain ⟨v1, v2, v3, v4⟩ := items_mem hW jN hq
    exact (hC1 z (Dm.down v2 v1 hz)).st (hsl1 z (hzj q z hq hz)).sl (hslm z (hzj q z hq hz)).sl)
  clear u6
  generalize C' (m1, ct) (fs.map toP) j (x + lf) top b = T at q1 q2 q3 u1 u2 u5 u6' o
  generalize Fl (c1, n) fs j (x + lf) top = R at u1 u2 u6'
  exact child_fin hW jN hcj hK1 hF1 h1 h2 h25 hsl1 (hsm1.K q1.1) u1 u5 ht ⟨(q3.1 0).trans hm1.1, (q3.1 1).trans hm1.2⟩ ((q3.1 2).trans hm2) o hci u2 u6'
theorem child_ok {S : zCS} {chk : Bool} {f1 f2 i j : Nat} {L : LayT} {L' : LM} {Fl : FlT} {C' : CM} (hW : WS S) (hi : i < kN S) (hk : kF S i 2 = 98) (hj : j ∈ kItemsOf S i) (hmf : mFloat S j = false) (hL : LOK S chk f1 f2 L L') (hF : FLK S chk f1 f2 Fl C') (hR : RLP S f2 L') (hRC : RCP S f2 C') (hT : TXP S f2 C') (hN1 : kN S ≤ f1 + 1 + i) (hN2 : kN S ≤ f2 + 1 + i)
    (c : zCS) (n : Int32) (m : zCS) (ct : Int32) (fs : List F5) (x y top : Int32) (b : Bool) (hc : SS S c) (hm : SS S m) (hw2 : kP c i 2 = kP m i 2) (hwb : WB i (kP c i 2)) (hxy : (mCtx S i = true ∧ x = 0 ∧ y = 0) ∨ (mCtx S i = false ∧ kP m i 0 = x ∧ kP m i 1 = y)) {U : Int} (hU0 : 0 ≤ U) (hU : U + HB S j ≤ 900000) (hfs : ∀ z, z ∈ fs → FOk U z) (ht : -U ≤ top.toInt ∧ top.toInt ≤ U) (hlen : fs.length + sz S j ≤ 24) (hci : chk = false → CInv S c j) :
    CHR S chk c n m ct fs j top b U (cChild L Fl (c, n) fs j i x y top) (mFlows L' C' (m, ct) (fs.map toP) j (x + kF S i 12 + kF S j 10) top (mBW m (kInner m i) j) b) ∧ MQe m (mFlows L' C' (m, ct) (fs.map toP) j (x + kF S i 12 + kF S j 10) top (mBW m (kInner m i) j) b).1.1 ∧ Fr (Dm S j) m (mFlows L' C' (m, ct) (fs.map toP) j (x + kF S i 12 + kF S j 10) top (mBW m (kInner m i) j) b).1.1 := by
  obtain ⟨p1, p2, p3, jN⟩ := items_mem hW hi hj
  obtain ⟨k1, k2, k3, k4, k5⟩ := block_kinds hW hi hk p1 p2
  have hcx := k5 hmf
  obtain ⟨ew, hwj⟩ := width_eq hW jN p3 k4 hc hm hi hw2 hwb
  have eR : cChild L Fl (c, n) fs j i x y top = cChild2 L Fl c n fs j i x y top (mBW m (kInner m i) j) (kF S i 12 + kF S j 10) := by
    unfold cChild
    rw [ew, hc.f i 12 rfl, hc.f j 10 rfl]
  rw [eR, Int32.add_assoc x]
  obtain ⟨r1, r2, -, -, r5, r6⟩ := RK.Flows hR hRC jN (show kN S ≤ f2 + j by omega) (m, ct) (fs.map toP) (x + (kF S i 12 + kF S j 10)) top (mBW m (kInner m i) j) b hm
  refine ⟨?_, r1, r2⟩
  clear eR ew r1
  generalize mBW m (kInner m i) j = w at hwj r2 r5 r6 ⊢
  generalize kF S i 12 + kF S j 10 = lf at r2 r5 r6 ⊢
  have o := offs_at hW hi hj hxy r2
  clear r2
  have g0 : Lt (Dm S j) c (kSetP (kSetP c j 0 lf) j 1 (top - y)) := (Lt.P c 0 lf (Dm.rf S j) (by decide) (by decide)).trans (Lt.P _ 1 _ (Dm.rf S j) (by decide) (by decide))
  have g1 : kP (kSetP (kSetP c j 0 lf) j 1 (top - y)) j 0 = lf ∧ kP (kSetP (kSetP c j 0 lf) j 1 (top - y)) j 1 = top - y := ⟨(kP_n _ _ _ (by decide)).trans (kP_s _ _ _ _), kP_s _ _ _ _⟩
  have g2 : ∀ z, z ≠ j → sm c (kSetP (kSetP c j 0 lf) j 1 (top - y)) z := fun z hz => (sm.P c 0 lf hz).trans (sm.P _ 1 _ hz)
  have gM : Lt (Dm S j) m (mXY m j (x + lf) top) := (Lt.P m 0 (x + lf) (Dm.rf S j) (by decide) (by decide)).trans (Lt.P _ 1 _ (Dm.rf S j) (by decide) (by decide))
  have gM1 : kP (mXY m j (x + lf) top) j 0 = x + lf ∧ kP (mXY m j (x + lf) top) j 1 = top := ⟨(kP_n _ _ _ (by decide)).trans (kP_s _ _ _ _), kP_s _ _ _ _⟩
  have gM2 : ∀ z, z ≠ j → sm m (mXY m j (x + lf) top) z := fun z hz => (sm.P m 0 _ hz).trans (sm.P _ 1 _ hz)
  have hkj : kItems c j = kItems S j := congrFun hc.itms j
  have htj : kText c j = kText S j := congrFun hc.text j
  have hmj : mCtx m j = mCtx S j := congrFun hm.ctx j
  unfold cChild2
  unfold mFlows at r5 r6 o ⊢
  rw [hkj, htj]
  rw [show mCtx (m, ct).1 j = mCtx S j from hmj, hcx] at r5 r6 o ⊢
  generalize hc0 : kSetP (kSetP c j 0 lf) j 1 (top - y) = c0 at g0 g1 g2 ⊢
  generalize hm0 : mXY m j (x + lf) top = m0 at gM gM1 gM2
  have hm0' : mXY (m, ct).1 j (x + lf) top = m0 := hm0
  rw [hm0'] at r5 r6 o
  clear hc0 hm0 hm0' hkj htj hmj
  cases hit : kItems S j with
  | true =>
    rw [hit, if_pos rfl] at r5 r6 o
    rw [if_pos rfl, if_pos rfl]
    exact child_item hW jN (hcx.trans hit) hL (by omega) (by omega) hc hm g0 g1 g2 gM hwj hci hfs ht r5 r6 o
  | false =>
    rw [hit, if_neg Bool.false_ne_true] at r5 r6 o
    rw [if_neg (show ¬ false = true from Bool.false_ne_true), if_neg Bool.false_ne_true]
    have hcj := hcx.trans hit
    have hsm1 : SS S (kSetP m0 j 2 w) := (hm.K gM.1.1).setP j 2 w
    have hK1 : KEq c (kSetP c0 j 2 w) := g0.1.1.trans (KEq.setP _ _ _ _)
    have hF1 : Fr (Dm S j) c (kSetP c0 j 2 w) := g0.2.1.trans (Fr.P _ 2 w (Dm.rf S j))
    have h1 : kP (kSetP c0 j 2 w) j 0 = lf ∧ kP (kSetP c0 j 2 w) j 1 = top - y := ⟨(kP_n _ _ _ (by decide)).trans g1.1, (kP_n _ _ _ (by decide)).trans g1.2⟩
    have h25 : kF (kSetP c0 j 2 w) j 25 = kF c j 25 := (kF_P c0 j 2 w j 25).trans (g0.2.2 j).2.1
    have hsl1 : ∀ z, z ≠ j → sm c (kSetP c0 j 2 w) z := fun z hz => (g2 z hz).trans (sm.P _ 2 _ hz)
    have hslm : ∀ z, z ≠ j → sm m (kSetP m0 j 2 w) z := fun z hz => (gM2 z hz).trans (sm.P _ 2 _ hz)
    have hm1 : kP (kSetP m0 j 2 w) j 0 = x + lf ∧ kP (kSetP m0 j 2 w) j 1 = top := ⟨(kP_n _ _ _ (by decide)).trans gM1.1, (kP_n _ _ _ (by decide)).trans gM1.2⟩
    cases htx : kText S j with
    | true =>
      have ht116 : kF S j 2 = 116 := by unfold kText at htx; exact of_decide_eq_true htx
      rw [if_pos rfl]
      exact child_text hW jN hcj ht116 hRC hT (by omega) hc hsm1 hK1 hF1 h1 (kP_s _ _ _ _) h25 hsl1 hm1 (kP_s _ _ _ _) hU0 hU hfs ht hlen hci o
    | false =>
      have hb98 : kF S j 2 = 98 := by
        have h9 : kF S j 2 = 98 ∨ kF S j 2 = 116 ∨ kF S j 2 = 102 ∨ kF S j 2 = 103 := (hW.1.2 j jN).2.2.2.2 2
        unfold kText at htx
        unfold kItems at hit
        rw [decide_eq_false_iff_not] at htx
        rw [Bool.or_eq_false_iff, decide_eq_false_iff_not, decide_eq_false_iff_not] at hit
        rcases h9 with h | h | h | h
        · exact h
        · exact absurd h htx
        · exact absurd h hit.1
        · exact absurd h hit.2
      rw [if_neg (by decide)]
      exact child_block hW jN hcj hb98 hF hRC (by omega) (by omega) hc hsm1 hK1 hF1 h1 (kP_s _ _ _ _) h25 hsl1 hslm hwj hm1 (kP_s _ _ _ _) hU0 hU hfs ht hlen hci o
