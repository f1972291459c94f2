/-! ===== the plain law: the flow of a block, whole ===== -/
theorem txp_ok {S : zCS} {f : Nat} {L' : LM} {C' : CM} : TXP S (f + 1) (mCon L' C') := fun s ps i x y b hs _ _ h116 => by
  unfold mCon
  have e : kF s.1 i 2 = 116 := (hs.f i 2 rfl).trans h116
  rw [if_neg (by rw [e]; decide), if_pos e, hs.f i 12 rfl]
theorem flow_v {P g l y p : Int32} {V : Int} (hV : V ≤ 900000) (hV0 : 0 ≤ V) (hy : -V ≤ y.toInt ∧ y.toInt ≤ V) (hpb : PB V y (P, g, l)) (hp : 0 ≤ p.toInt ∧ p.toInt ≤ 20) :
    imax 0 (y + P + g + l - (y + p)) + 2 * p = imax (P + g + l) p + p ∧ 0 ≤ (imax (P + g + l) p + p).toInt ∧ (y.toInt + p.toInt ≤ V + 20 → y.toInt + (imax (P + g + l) p + p).toInt ≤ V + 80) := by
  obtain ⟨b1, b2, b3⟩ := hpb
  have b1' : -V ≤ y.toInt + P.toInt ∧ y.toInt + P.toInt ≤ V + 20 := b1
  have b2' : 0 ≤ g.toInt ∧ g.toInt ≤ 40 := b2
  have b3' : -40 ≤ l.toInt ∧ l.toInt ≤ 0 := b3
  have ea : y + P + g + l - (y + p) = P + g + l - p := by rw [Int32.add_assoc y, Int32.add_assoc y, i32_f]
  have e1 : (P + g + l).toInt = P.toInt + g.toInt + l.toInt := by rw [ti_add (by rw [ti_add (by omega) (by omega)]; omega) (by rw [ti_add (by omega) (by omega)]; omega), ti_add (by omega) (by omega)]
  have e2 : (P + g + l - p).toInt = P.toInt + g.toInt + l.toInt - p.toInt := by rw [ti_sub (by omega) (by omega), e1]
  have e3 : (2 * p).toInt = 2 * p.toInt := by rw [two_i, ti_add (by omega) (by omega)]; omega
  have e4 : (imax (P + g + l) p + p).toInt = max (P.toInt + g.toInt + l.toInt) p.toInt + p.toInt := by rw [ti_add (by rw [ti_max]; omega) (by rw [ti_max]; omega), ti_max, e1]
  rw [ea]
  refine ⟨Int32.toInt_inj.mp ?_, by omega, fun _ => by omega⟩
  rw [ti_add (by rw [ti_max, e3, ti_0]; omega) (by rw [ti_max, e3, ti_0]; omega), ti_max, ti_0, e2, e3, e4]
  omega
theorem flow_ok {S : zCS} {chk : Bool} {f1 f2 : Nat} {L : LayT} {L' : LM} {Fl : FlT} {C' : CM} (hW : WS S) (hL : LOK S chk f1 f2 L L') (hF : FLK S chk f1 f2 Fl C') (hR : RLP S f2 L') (hRC : RCP S f2 C') (hT : TXP S f2 C') : FLK S chk (f1 + 1) (f2 + 1) (fun s fs i x y => cFlow L Fl s fs i x y) (mCon L' C') := by
  intro c n m ct fs i x y b U hc hm hi hN1 hN2 hk hw2 hwb hxy hU0 hU hfs hy hlen hci
  have hsw : sW S (kCh S i) = sz S i := (sz_eq hW.1 hi).symm
  have eHB : HB S i = 1000 * ((1 + sz S i : Nat) : Int) - 300 := rfl
  have hp := (fld hW.1 hi).2.2.2.2.2.2.1
  have eM : mCon L' C' (m, ct) (fs.map toP) i x y b = mBlock L' C' (m, ct) (fs.map toP) i x y b := by
    unfold mCon
    rw [if_pos (show kF m i 2 = 98 from (hm.f i 2 rfl).trans hk)]
  rw [eM]
  have hK := kids_ok hW hi hk hL hF hR hRC hT hN1 hN2 x y (kInner m i) b (kCh S i) c n m ct fs (kF S i 12) 0 0 U hc hm (hW.1.nd hi) (fun j hj => hj) hw2 hwb hxy rfl hU0 (by rw [hsw]; omega) hfs hy ⟨⟨by show _ ≤ y.toInt + (kF S i 12).toInt; omega, by show y.toInt + (kF S i 12).toInt ≤ _; omega⟩, ⟨show (0 : Int) ≤ (0 : Int32).toInt by decide, show (0 : Int32).toInt ≤ 40 by decide⟩, show -40 ≤ (0 : Int32).toInt by decide, show (0 : Int32).toInt ≤ 0 by decide⟩ (by rw [hsw]; exact hlen) (fun h9 j hj hlf => hci h9 j (mem_items hW (hW.1.ch hi hj).2.2 hlf))
  have eA : cFlowA L Fl (c, n) fs i x y = (kCh S i).foldl (fwS L Fl i x y) (((c, n), fs), y + kF S i 12, 0, 0) := by
    unfold cFlowA
    rw [show kCh (c, n).1 i = kCh S i from congrFun hc.ch i, show kF (c, n).1 i 12 = kF S i 12 from hc.f i 12 rfl]
  have eB : mBlkA L' C' (m, ct) (fs.map toP) i x y b = (kCh S i).foldl (mBkS L' C' (x + kF S i 12) (kInner m i) y b) (((m, ct), fs.map toP), kF S i 12, 0, 0) := by
    unfold mBlkA
    rw [show kCh (m, ct).1 i = kCh S i from congrFun hm.ch i, show kF (m, ct).1 i 12 = kF S i 12 from hm.f i 12 rfl]
  have eR : cFlow L Fl (c, n) fs i x y = ((cSH (cFlowA L Fl (c, n) fs i x y).1.1.1 i (imax 0 ((cFlowA L Fl (c, n) fs i x y).2.1 + (cFlowA L Fl (c, n) fs i x y).2.2.1 + (cFlowA L Fl (c, n) fs i x y).2.2.2 - (y + kF S i 12))), (cFlowA L Fl (c, n) fs i x y).1.1.2), (cFlowA L Fl (c, n) fs i x y).1.2) := by
    unfold cFlow
    rw [show kF (c, n).1 i 12 = kF S i 12 from hc.f i 12 rfl]
  have eT : mBlock L' C' (m, ct) (fs.map toP) i x y b = ((mBlkA L' C' (m, ct) (fs.map toP) i x y b).1, imax ((mBlkA L' C' (m, ct) (fs.map toP) i x y b).2.1 + (mBlkA L' C' (m, ct) (fs.map toP) i x y b).2.2.1 + (mBlkA L' C' (m, ct) (fs.map toP) i x y b).2.2.2) (kF S i 12) + kF S i 12) := by
    unfold mBlock
    rw [show kF (m, ct).1 i 12 = kF S i 12 from hm.f i 12 rfl]
  show CQF S chk c (cFlow L Fl (c, n) fs i x y).1.1 (mBlock L' C' (m, ct) (fs.map toP) i x y b).1.1.1 i (mBlock L' C' (m, ct) (fs.map toP) i x y b).2 ∧ ((cFlow L Fl (c, n) fs i x y).2.map toP = (mBlock L' C' (m, ct) (fs.map toP) i x y b).1.2 ∧ (cFlow L Fl (c, n) fs i x y).2.length ≤ fs.length + sz S i ∧ ∀ z, z ∈ (cFlow L Fl (c, n) fs i x y).2 → FOk (U + 1000 * (sz S i : Nat)) z) ∧ (0 ≤ (mBlock L' C' (m, ct) (fs.map toP) i x y b).2.toInt ∧ y.toInt + (mBlock L' C' (m, ct) (fs.map toP) i x y b).2.toInt ≤ U + HB S i) ∧ (chk = false → b = true → (∀ j, j ∈ kItemsOf S i → C1 S c m j) → CTd n (cFlow L Fl (c, n) fs i x y).1.2 ct (mBlock L' C' (m, ct) (fs.map toP) i x y b).1.1.2)
  rw [eR, eT]
  rw [← eA, ← eB] at hK
  clear eA eB eR eT eM
  generalize cFlowA L Fl (c, n) fs i x y = R at hK ⊢
  generalize mBlkA L' C' (m, ct) (fs.map toP) i x y b = T at hK ⊢
  obtain ⟨⟨i1, i2, i3⟩, ⟨i4, i5, i6⟩, ⟨e1, e2, e3⟩, i8, i9, i10, i11⟩ := hK
  rw [hsw] at i5 i6 i8
  rw [e1, e2, e3]
  have hv := flow_v (P := T.2.1) (g := T.2.2.1) (l := T.2.2.2) (p := kF S i 12) (V := U + 1000 * ((sz S i : Nat) : Int)) (by omega) (by omega) (by omega) i8 hp
  obtain ⟨v1, v2, v3⟩ := hv
  have hsR : SS S R.1.1.1 := hc.K i1
  have hni : ¬ ∃ j, j ∈ kCh S i ∧ kLifted S j = false ∧ Dm S j i := fun ⟨j, h1, h2, h3⟩ => not_self hW hi (mem_items hW (hW.1.ch hi h1).2.2 h2) h3
  have f0 := i2 i hni
  have hsm : ∀ z (v : Int32), z ≠ i → sm R.1.1.1 (cSH R.1.1.1 i v) z := fun z v hz => sm.P _ 3 _ hz
  have hch : ∀ j, j ∈ kItemsOf S i → ∀ v, ChOK S chk c (cSH R.1.1.1 i v) T.1.1.1 j := fun j hj v => by
    obtain ⟨a1, a2, a3, a4⟩ := items_mem hW hi hj
    exact (i3 j (hW.2.1 j i a1).2.1 a2).st hW a4 a1 (fun z _ => sl.rf c z) (fun z hz => hsm z v (fun e => not_self hW hi hj (e ▸ hz))) (fun z _ => sm.rf _ z) (Or.inr ⟨rfl, rfl⟩)
  refine ⟨⟨LPp.of hW (fun j hj => ⟨(hch j hj _).1, (hch j hj _).2.1⟩), ?_, fun h9 j hj => (hch j hj _).2.2 h9, i1.trans (KEq.SH _ _ _), (i2.mono (fun z hz => by
    obtain ⟨j, h1, h2, h3⟩ := hz
    exact Dm.down h2 (hW.1.ch hi h1).2.2 h3)).trans (Fr.P _ 3 _ (Dm.rf S i)), ⟨fun k hk3 => (kP_n _ _ _ hk3).trans (f0.1 k), f0.2.1⟩, fun ht => ?_⟩, ⟨i4, i5, i6⟩, ⟨v2, ?_⟩, fun h9 hb hC1 => i9 h9 hb (fun j hj hlf => hC1 j (mem_items hW (hW.1.ch hi hj).2.2 hlf))⟩
  · show kP (kSetP R.1.1.1 i 3 _) i 3 = _
    rw [kP_s, hsR.f i 7 rfl, hsR.f i 12 rfl, v1]
  · unfold kText at ht
    rw [hk] at ht
    exact absurd ht (by decide)
  · have := v3 (by omega)
    show y.toInt + (imax (T.2.1 + T.2.2.1 + T.2.2.2) (kF S i 12) + kF S i 12).toInt ≤ U + HB S i
    omega
