/-! ===== the plain law: a float of a block ===== -/
theorem i32_h (a k x : Int32) : a + k - x = a - x + k := by
  rw [Int32.sub_eq_add_neg, Int32.sub_eq_add_neg, Int32.add_assoc, Int32.add_comm k, Int32.add_assoc]
theorem flAt_eq (fs : List F5) (top : Int32) : flAt fs top = mFlY (fs.map toP) top := by
  unfold flAt mFlY
  rw [List.length_map, List.getElem?_map]
  cases fs[fs.length - 1]? with
  | none => rfl
  | some z => rfl
theorem flAt_b {U : Int} {fs : List F5} (hfs : ∀ z, z ∈ fs → FOk U z) {top : Int32} (h : top.toInt ≤ U) : top.toInt ≤ (flAt fs top).toInt ∧ (flAt fs top).toInt ≤ U := by
  unfold flAt
  cases e : fs[fs.length - 1]? with
  | none => exact ⟨Int.le_refl _, h⟩
  | some z =>
    have hz := hfs z (List.mem_of_getElem? e)
    unfold FOk at hz
    show top.toInt ≤ (imax top z.2.1).toInt ∧ _
    rw [ti_max]
    omega
theorem float_ok {S : zCS} {chk : Bool} {f1 f2 i j : Nat} {L : LayT} {L' : LM} (hW : WS S) (hi : i < kN S) (hk : kF S i 2 = 98) (hj : j ∈ kItemsOf S i) (hmf : mFloat S j = true) (hL : LOK S chk f1 f2 L L') (hR : RLP S f2 L') (hN1 : kN S ≤ f1 + 1 + i) (hN2 : kN S ≤ f2 + 1 + i)
    (c : zCS) (n : Int32) (m : zCS) (ct : Int32) (fs : List F5) (x y top : Int32) (b : Bool) (hc : SS S c) (hm : SS S m) (hw2 : kP c i 2 = kP m i 2) (hwb : WB i (kP c i 2)) (hxy : (mCtx S i = true ∧ x = 0 ∧ y = 0) ∨ (mCtx S i = false ∧ kP m i 0 = x ∧ kP m i 1 = y)) {U : Int} (hU0 : 0 ≤ U) (hU : U + HB S j ≤ 900000) (hfs : ∀ z, z ∈ fs → FOk U z) (ht : -U ≤ top.toInt ∧ top.toInt ≤ U) (hci : chk = false → CInv S c j) :
    (KEq c (cFloat L (c, n) fs j i x y top).1.1 ∧ Fr (Dm S j) c (cFloat L (c, n) fs j i x y top).1.1 ∧ ChOK S chk c (cFloat L (c, n) fs j i x y top).1.1 (mFloats L' (m, ct) (fs.map toP) j top (x + kF S i 12) (x + kF S i 12 + kInner m i) b).1.1 j ∧
    ((cFloat L (c, n) fs j i x y top).2.map toP = (mFloats L' (m, ct) (fs.map toP) j top (x + kF S i 12) (x + kF S i 12 + kInner m i) b).2 ∧ (cFloat L (c, n) fs j i x y top).2.length ≤ fs.length + 1 ∧ ∀ z, z ∈ (cFloat L (c, n) fs j i x y top).2 → FOk (U + HB S j + 100) z) ∧
    (chk = false → b = true → C1 S c m j → CTd n (cFloat L (c, n) fs j i x y top).1.2 ct (mFloats L' (m, ct) (fs.map toP) j top (x + kF S i 12) (x + kF S i 12 + kInner m i) b).1.2)) ∧ MQe m (mFloats L' (m, ct) (fs.map toP) j top (x + kF S i 12) (x + kF S i 12 + kInner m i) b).1.1 ∧ Fr (Dm S j) m (mFloats L' (m, ct) (fs.map toP) j top (x + kF S i 12) (x + kF S i 12 + kInner m i) b).1.1 := by
  obtain ⟨p1, p2, p3, jN⟩ := items_mem hW hi hj
  obtain ⟨k1, k2, k3, k4, k5⟩ := block_kinds hW hi hk p1 p2
  have hfl : kFlow S j = false := by rw [k3, hmf]; rfl
  have hcj := mfl_ctx hmf
  have hns := not_self hW hi hj
  have hin := inner_eq hc hm hw2
  have hib := inner_b hc hW.1 hi hwb
  rw [hin] at hib
  have hob := over_b hW.1 jN
  have hsz := sz_le hW.1 jN
  obtain ⟨z1, z2, -, -⟩ := RK.Floats hR jN (show kN S ≤ f2 + j by omega) hcj (m, ct) (fs.map toP) top (x + kF S i 12) (x + kF S i 12 + kInner m i) b hm
  refine ⟨?_, z1, z2⟩
  have o := offs_at hW hi hj hxy z2
  clear z1 z2
  have ei : imax 0 (x + kF S i 12 + kInner m i - (x + kF S i 12)) = kInner m i := by
    rw [i32_e]
    exact Int32.toInt_inj.mp (by rw [ti_max, ti_0]; omega)
  have ew : cFit c j (kInner c i - kSides c j) = cFit S j (kInner m i - kSides S j) := by rw [hc.fit, hc.sides, hin]
  have ewm : cFit m j (imax 0 (x + kF S i 12 + kInner m i - (x + kF S i 12)) - kSides m j) = cFit S j (kInner m i - kSides S j) := by rw [hm.fit, hm.sides, ei]
  have hwj : WB j (cFit S j (kInner m i - kSides S j)) := WB.fit hW.1 jN _
  have eR : cFloat L (c, n) fs j i x y top = cFloat2 (L (c, n) j (cFit S j (kInner m i - kSides S j))).1 (L (c, n) j (cFit S j (kInner m i - kSides S j))).2 fs j i x y top := by
    unfold cFloat
    rw [ew]
  have eT : mFloats L' (m, ct) (fs.map toP) j top (x + kF S i 12) (x + kF S i 12 + kInner m i) b = (((mFl1 (L' (m, ct) j (cFit S j (kInner m i - kSides S j)) b).1 (fs.map toP) j top (x + kF S i 12) (x + kF S i 12 + kInner m i)).1, (L' (m, ct) j (cFit S j (kInner m i - kSides S j)) b).2), (mFl1 (L' (m, ct) j (cFit S j (kInner m i - kSides S j)) b).1 (fs.map toP) j top (x + kF S i 12) (x + kF S i 12 + kInner m i)).2) := by
    unfold mFloats
    rw [ewm]
  rw [eT] at o ⊢
  rw [eR]
  obtain ⟨q1, q2, q3, q4, q5⟩ := hL c n m ct j (cFit S j (kInner m i - kSides S j)) b hc hm jN (by omega) (by omega) hcj hwj hci
  obtain ⟨r1, r2, r3, r4, r5, r6⟩ := hR (m, ct) j (cFit S j (kInner m i - kSides S j)) b hm jN (by omega) hcj
  clear eR eT ew ewm
  generalize cFit S j (kInner m i - kSides S j) = w at q1 q2 q3 q4 q5 r1 r2 r3 r4 o ⊢
  generalize L (c, n) j w = R at q1 q2 q3 q4 q5 ⊢
  generalize L' (m, ct) j w b = T at q1 q5 r1 r2 r3 r4 o ⊢
  obtain ⟨l1, l2, l3, l4, l5, l6⟩ := q1
  have hsR : SS S R.1 := hc.K q4
  have hsT : SS S T.1 := hm.K r1.1
  have hinR : kInner R.1 i = kInner m i := inner_eq hsR hm (((q2 i hns).1 2).trans hw2)
  -- how high, how wide
  have eh : kP R.1 j 3 + kEnds R.1 j = mWhole T.1 j := by
    unfold mWhole
    rw [hsT.over, hsT.under, hsR.ends, l3]
    unfold kEnds
    rw [upper_ctx hfl, lower_ctx hfl, i32_b]
  have ewd : kP R.1 j 2 + kSides R.1 j = mWide T.1 j := by
    unfold mWide
    rw [hsR.sides, hsT.sides, l2, r3]
  have hhb : (mWhole T.1 j).toInt = (kP T.1 j 3).toInt + ((mOver S j 8).toInt + (mOver S j 9).toInt) := by
    have e0 := l5.2
    unfold HB at e0
    unfold mWhole
    rw [hsT.over, hsT.under]
    rw [ti_add (by rw [ti_add (by omega) (by omega)]; omega) (by rw [ti_add (by omega) (by omega)]; omega), ti_add (by omega) (by omega)]
    omega
  obtain ⟨y1, y2⟩ := flAt_b hfs ht.2
  have hU9 : U ≤ 1000000 := by have : 0 ≤ HB S j := by { unfold HB; omega }; omega
  obtain ⟨e1, e2, e3⟩ := fl_eq hU9 hfs (imax 1 (mWhole T.1 j)) (x + kF S i 12) (x + kF S i 12 + kInner m i) (mWide T.1 j) 25 (flAt fs top) (by omega)
  have eG : flG R.1 fs j i x top = (mFlA T.1 (fs.map toP) j top (x + kF S i 12) (x + kF S i 12 + kInner m i), cEd fs (mFlA T.1 (fs.map toP) j top (x + kF S i 12) (x + kF S i 12 + kInner m i)) (imax 1 (mWhole T.1 j)) (x + kF S i 12) (x + kF S i 12 + kInner m i)) := by
    unfold flG mFlA
    rw [eh, ewd, hsR.f i 12 rfl, hinR, e1, flAt_eq]
  rw [flAt_eq] at e2 e3 y1 y2
  have hA : -U ≤ (mFlA T.1 (fs.map toP) j top (x + kF S i 12) (x + kF S i 12 + kInner m i)).toInt ∧ (mFlA T.1 (fs.map toP) j top (x + kF S i 12) (x + kF S i 12 + kInner m i)).toInt ≤ U + 1 := by
    unfold mFlA
    omega
  have eF : flFrom R.1 fs j i x top = mFlX T.1 (fs.map toP) j (x + kF S i 12) (x + kF S i 12 + kInner m i) (mFlA T.1 (fs.map toP) j top (x + kF S i 12) (x + kF S i 12 + kInner m i)) := by
    unfold flFrom mFlX
    rw [eG, hsR.f j 16 rfl, hsT.f j 16 rfl, ewd, cEd_eq hU9 hfs]
  unfold mFl1 at o ⊢
  unfold cFloat2
  rw [eF, eG]
  show KEq c (cPut R.1 j (mFlX T.1 (fs.map toP) j (x + kF S i 12) (x + kF S i 12 + kInner m i) (mFlA T.1 (fs.map toP) j top (x + kF S i 12) (x + kF S i 12 + kInner m i)) - x) (mFlA T.1 (fs.map toP) j top (x + kF S i 12) (x + kF S i 12 + kInner m i) - y)) ∧ _
  rw [ewd, eh]
  clear e1 e2 e3 eG eF
  generalize mFlX T.1 (fs.map toP) j (x + kF S i 12) (x + kF S i 12 + kInner m i) (mFlA T.1 (fs.map toP) j top (x + kF S i 12) (x + kF S i 12 + kInner m i)) = X at o ⊢
  generalize mFlA T.1 (fs.map toP) j top (x + kF S i 12) (x + kF S i 12 + kInner m i) = A at o hA ⊢
  have hP : Lt (Dm S j) R.1 (cPut R.1 j (X - x) (A - y)) := (Lt.P R.1 0 _ (Dm.rf S j) (by decide) (by decide)).trans (Lt.P _ 1 _ (Dm.rf S j) (by decide) (by decide))
  have hPm : ∀ z, z ≠ j → sm R.1 (cPut R.1 j (X - x) (A - y)) z := fun z hz => (sm.P R.1 0 _ hz).trans (sm.P _ 1 _ hz)
  have hM : Lt (Dm S j) T.1 (mFl2 T.1 (fs.map toP) j X A).1 := (Lt.P T.1 0 _ (Dm.rf S j) (by decide) (by decide)).trans (Lt.P _ 1 _ (Dm.rf S j) (by decide) (by decide))
  have hMm : ∀ z, z ≠ j → sm T.1 (mFl2 T.1 (fs.map toP) j X A).1 z := fun z hz => (sm.P T.1 0 _ hz).trans (sm.P _ 1 _ hz)
  have c0 : kP (cPut R.1 j (X - x) (A - y)) j 0 = X - x + kF S j 10 := by
    show kP (kSetP (kSetP R.1 j 0 (X - x + kF R.1 j 10)) j 1 _) j 0 = _
    rw [kP_n _ _ _ (by decide), kP_s, hsR.f j 10 rfl]
  have c1 : kP (cPut R.1 j (X - x) (A - y)) j 1 = A - y + mOver S j 8 := by
    show kP (kSetP (kSetP R.1 j 0 _) j 1 (A - y + kUpper R.1 j)) j 1 = _
    rw [kP_s, hsR.upper, upper_ctx hfl]
  have c3 : kP (cPut R.1 j (X - x) (A - y)) j 3 = kP R.1 j 3 := (kP_n _ _ _ (by decide)).trans (kP_n _ _ _ (by decide))
  have m0 : kP (mFl2 T.1 (fs.map toP) j X A).1 j 0 = X + kF S j 10 := by
    show kP (kSetP (kSetP T.1 j 0 (X + kF T.1 j 10)) j 1 _) j 0 = _
    rw [kP_n _ _ _ (by decide), kP_s, hsT.f j 10 rfl]
  have m1 : kP (mFl2 T.1 (fs.map toP) j X A).1 j 1 = A + mOver S j 8 := by
    show kP (kSetP (kSetP T.1 j 0 _) j 1 (A + mOver T.1 j 8)) j 1 = _
    rw [kP_s, hsT.over]
  have m3 : kP (mFl2 T.1 (fs.map toP) j X A).1 j 3 = kP T.1 j 3 := (kP_n _ _ _ (by decide)).trans (kP_n _ _ _ (by decide))
  refine ⟨q4.trans hP.1.1, q2.trans hP.2.1, ⟨⟨⟨?_, ?_⟩, ⟨?_, ?_⟩, fun ht9 => ?_⟩, l1.st (fun z _ hne => hPm z hne) (fun z _ hne => hMm z hne) (Or.inl hcj), fun h9 => ⟨(l6 h9).1.st (fun z _ => sl.rf _ z) (fun z _ => hP.2.2 z), (l6 h9).2.st hW jN (fun z _ hne => hPm z hne) (hP.2.2 j)⟩⟩, ⟨?_, ?_, fun z hz => ?_⟩, q5⟩
  · show kP (cPut R.1 j (X - x) (A - y)) j 0 = kP (mFl2 T.1 (fs.map toP) j X A).1 j 0 - offs S (mFl2 T.1 (fs.map toP) j X A).1 j 0
    rw [show offs S (mFl2 T.1 (fs.map toP) j X A).1 j 0 = x from o.1, c0, m0, i32_h]
  · show kP (cPut R.1 j (X - x) (A - y)) j 1 = kP (mFl2 T.1 (fs.map toP) j X A).1 j 1 - offs S (mFl2 T.1 (fs.map toP) j X A).1 j 1
    rw [show offs S (mFl2 T.1 (fs.map toP) j X A).1 j 1 = y from o.2, c1, m1, i32_h]
  · exact (((hP.2.2 j).1.1).trans l2).trans (((hM.2.2 j).1.1).trans r3).symm
  · exact (c3.trans l3).trans m3.symm
  · show LE S (kLn (cPut R.1 j (X - x) (A - y)) j) (kLn (mFl2 T.1 (fs.map toP) j X A).1 j) j
    rw [(hP.2.2 j).2.2, (hM.2.2 j).2.2]
    exact l4 ht9
  · show (fs ++ [_]).map toP = fs.map toP ++ [_]
    rw [List.map_append, hsR.f j 16 rfl, hsT.f j 16 rfl]
    rfl
  · show (fs ++ [_]).length ≤ _
    rw [List.length_append]
    exact Nat.le_refl _
  · have hHB := l5.2
    have hl5 := l5.1
    rcases List.mem_append.mp hz with hz | hz
    · exact (hfs z hz).mono (by unfold HB; omega)
    · rw [List.mem_singleton.mp hz]
      unfold FOk
      show (-(U + HB S j + 100) ≤ A.toInt ∧ A.toInt ≤ U + HB S j + 100) ∧ -(U + HB S j + 100) ≤ A.toInt + (mWhole T.1 j).toInt ∧ A.toInt + (mWhole T.1 j).toInt ≤ U + HB S j + 100
      rw [hhb]
      omega
