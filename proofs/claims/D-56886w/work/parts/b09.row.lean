/-! ===== the plain law: rows and grids ===== -/
/-- a child that was laid and put -/
def ChOK (S : zCS) (chk : Bool) (c C M : zCS) (j : Nat) : Prop := Geo S C M j ∧ LPp S C M j ∧ (chk = false → KQ S c C j ∧ CInv S C j)
theorem ChOK.st {S c d C C' M M' : zCS} (hW : WS S) {chk : Bool} {i j : Nat} (hj : j < kN S) (hp : kPar S j = some i) (h : ChOK S chk c C M j) (h0 : ∀ x, Dm S j x → sl d c x) (h1 : ∀ x, Dm S j x → sm C C' x) (h2 : ∀ x, Dm S j x → sm M M' x) (h3 : mCtx S i = true ∨ (kP M' i 0 = kP M i 0 ∧ kP M' i 1 = kP M i 1)) : ChOK S chk d C' M' j := by
  obtain ⟨a1, a2, a3⟩ := h
  have m1 := h2 j (Dm.rf S j)
  have c1 := h1 j (Dm.rf S j)
  refine ⟨a1.st c1 m1 ?_ ?_, a2.st (fun x hx _ => h1 x hx) (fun x hx _ => h2 x hx) (Or.inr ⟨m1.1 0, m1.1 1⟩), fun hk => ⟨(a3 hk).1.st h0 (fun x hx => (h1 x hx).sl), (a3 hk).2.st hW hj (fun x hx _ => h1 x hx) c1.sl⟩⟩
  · rw [offs_p hp, offs_p hp]
    rcases h3 with h | h
    · rw [if_pos h, if_pos h]
    · rw [h.1]
  · rw [offs_p hp, offs_p hp]
    rcases h3 with h | h
    · rw [if_pos h, if_pos h]
    · rw [h.2]
theorem not_item {S : zCS} (hW : WS S) {i j z : Nat} (hi : i < kN S) (hj : j ∈ kItemsOf S i) (hz : Dm S j z) (hne : z ≠ j) : z ∉ kItemsOf S i := fun hm => by
  have h1 := (items_mem hW hi hm).1
  obtain ⟨a1, a2, a3, a4⟩ := items_mem hW hi hj
  rcases hz.cases with e | ⟨p, b1, b2, b3⟩
  · exact hne e
  · rw [h1] at b1
    cases b1
    have := Dm.le hW.1 hi b3
    omega
theorem not_self {S : zCS} (hW : WS S) {i j : Nat} (hi : i < kN S) (hj : j ∈ kItemsOf S i) : ¬ Dm S j i := fun h => by
  obtain ⟨a1, a2, a3, a4⟩ := items_mem hW hi hj
  have := Dm.le hW.1 hi h
  omega
theorem ctx_items {S : zCS} {i : Nat} (hk : kItems S i = true) : mCtx S i = true := by
  unfold mCtx
  unfold kItems at hk
  rw [hk]; simp
theorem nums_list (es : List Nat) {k j : Nat} (hj : j ∈ es) : ∃ q, q ∈ nums es k ∧ q.2 = j := by
  rw [← nums_map es k] at hj
  obtain ⟨q, h1, h2⟩ := List.mem_map.mp hj
  exact ⟨q, h1, h2⟩
theorem chunk_ok {S : zCS} {chk : Bool} {f1 f2 i : Nat} {L : LayT} {L' : LM} (hW : WS S) (hi : i < kN S) (hk : kItems S i = true) (hL : LOK S chk f1 f2 L L') (hR : RLP S f2 L') (hN1 : kN S ≤ f1 + 1 + i) (hN2 : kN S ≤ f2 + 1 + i)
    (wd dx dx' : Nat × Nat → Int32) (top : Int32) (fA : (zCS × Int32) × Int32 × Int32 → Nat × Nat → (zCS × Int32) × Int32 × Int32) (gB : Nat → Int32) (b : Bool) (fG : zCS × Int32 → Nat × Nat → zCS × Int32)
    (hfA : ∀ s q, SS S s.1.1 → fA s q = ((cPut (L s.1 q.2 (wd q)).1 q.2 s.2.1 top, (L s.1 q.2 (wd q)).2), s.2.1 + dx q, imax s.2.2 (kP (L s.1 q.2 (wd q)).1 q.2 3 + kEnds S q.2)))
    (rs : List Nat) (r0 : Nat) (c : zCS) (n : Int32) (m : zCS) (ct x : Int32) (hc : SS S c) (hm : SS S m) (hn : rs.Nodup) (hrs : ∀ j, j ∈ rs → j ∈ kItemsOf S i) (hg : ∀ t j, rs[t]? = some j → gB (r0 + t) = wd (t, j)) (hd : ∀ t j, rs[t]? = some j → dx (t, j) = dx' (r0 + t, j))
    (hfG : ∀ p q, SS S p.1 → q ∈ nums rs r0 → kP p.1 q.2 2 = gB q.1 → fG p q = (kSetP (kSetP p.1 q.2 0 (p.2 + kF S q.2 10)) q.2 1 (top + mOver S q.2 8), p.2 + dx' q))
    (hwb : ∀ q, q ∈ nums rs 0 → WB q.2 (wd q)) (hci : chk = false → ∀ j, j ∈ rs → CInv S c j) :
    ((nums rs 0).foldl fA ((c, n), x, 0)).2.2 = ((nums rs r0).foldl (mR1 L' b gB) ((m, ct), 0)).2 ∧ KEq c (cStrs ((nums rs 0).foldl fA ((c, n), x, 0)).1.1 rs ((nums rs 0).foldl fA ((c, n), x, 0)).2.2) ∧
    (Fr (fun z => ∃ j, j ∈ rs ∧ Dm S j z) c (cStrs ((nums rs 0).foldl fA ((c, n), x, 0)).1.1 rs ((nums rs 0).foldl fA ((c, n), x, 0)).2.2) ∧ Fr (fun z => ∃ j, j ∈ rs ∧ Dm S j z) m ((nums rs r0).foldl fG ((mRn L' b gB (m, ct) rs r0).1.1, x)).1) ∧
    (∀ j, j ∈ rs → ChOK S chk c (cStrs ((nums rs 0).foldl fA ((c, n), x, 0)).1.1 rs ((nums rs 0).foldl fA ((c, n), x, 0)).2.2) ((nums rs r0).foldl fG ((mRn L' b gB (m, ct) rs r0).1.1, x)).1 j) ∧
    (0 ≤ ((nums rs r0).foldl (mR1 L' b gB) ((m, ct), 0)).2.toInt ∧ ((nums rs r0).foldl (mR1 L' b gB) ((m, ct), 0)).2.toInt ≤ 1000 * ((rs.map (fun j => 1 + sz S j)).sum : Nat)) ∧
    (chk = false → b = true → (∀ j, j ∈ rs → C1 S c m j) → CTd n ((nums rs 0).foldl fA ((c, n), x, 0)).1.2 ct (mRn L' b gB (m, ct) rs r0).1.2) := by
  obtain ⟨i1, ⟨i2, i2m⟩, ⟨i3, i3m⟩, i4, i5, i6⟩ := run_ok hW hi hk hL hR hN1 hN2 wd dx top fA gB b hfA rs 0 r0 c n m ct x 0 hc hm hn hrs (fun t j h => by rw [Nat.zero_add]; exact hg t j h) hwb hci (by decide)
  unfold mRn
  generalize (nums rs 0).foldl fA ((c, n), x, 0) = A at i1 i2 i3 i4 i6 ⊢
  generalize (nums rs r0).foldl (mR1 L' b gB) ((m, ct), 0) = B at i1 i2m i3m i4 i5 i6 ⊢
  have hsA : SS S A.1.1 := hc.K i2
  have hsB : SS S B.1.1 := hm.K i2m.1
  have hfl : ∀ j, j ∈ rs → kFlow S j = false := fun j hj => by
    obtain ⟨a1, a2, -, -⟩ := items_mem hW hi (hrs j hj)
    exact flow_item a1 a2 hk
  obtain ⟨s1, s2, s3, s4⟩ := strs_at (S := S) (h := A.2.2) rs A.1.1 hsA hn hfl
  obtain ⟨t2, t3, t4⟩ := R2_at hW.1 (h := B.2) rs B.1.1 hsB hn (fun j hj => (items_mem hW hi (hrs j hj)).2.2.2)
  have hM2K : KEq B.1.1 (rs.foldl (mR2 B.2) B.1.1) := (MQe.fold (fun c : zCS => c) (mR2 B.2) (fun c j => MQe.R2 _ c j) rs B.1.1).1
  generalize hC9 : cStrs A.1.1 rs A.2.2 = C at s1 s2 s3 s4 ⊢
  generalize hM9 : rs.foldl (mR2 B.2) B.1.1 = M2 at t2 t3 t4 hM2K ⊢
  have hsM2 : SS S M2 := hsB.K hM2K
  have hw2 : ∀ q, q ∈ nums rs r0 → kP M2 q.2 2 = gB q.1 := fun q hq => by
    obtain ⟨a1, a2, a3⟩ := nums_gx hq
    have hq2 : (q.1 - r0, q.2) ∈ nums rs 0 := by
      have := nums_in (k := 0) a3
      rw [Nat.zero_add] at this
      exact this
    have h9 := (i4 _ hq2).2.1
    have hg9 := hg _ _ a3
    rw [show r0 + (q.1 - r0) = q.1 by omega] at hg9
    rw [(t3 q.2).1.1.1, hg9]
    exact h9
  -- the third pass, of q in the list alone
  have hpos : (∀ z, z ∉ rs → sm M2 ((nums rs r0).foldl fG (M2, x)).1 z) ∧ (∀ z, sl M2 ((nums rs r0).foldl fG (M2, x)).1 z ∧ kP ((nums rs r0).foldl fG (M2, x)).1 z 3 = kP M2 z 3) ∧ ∀ j, j ∈ rs → kP ((nums rs r0).foldl fG (M2, x)).1 j 0 = xp dx' (nums rs r0) x j + kF S j 10 ∧ kP ((nums rs r0).foldl fG (M2, x)).1 j 1 = top + mOver S j 8 := by
    have hcong : ∀ (l : List (Nat × Nat)) (p : zCS × Int32), (∀ q, q ∈ l → q ∈ nums rs r0) → SS S p.1 → (∀ q, q ∈ nums rs r0 → kP p.1 q.2 2 = gB q.1) → l.foldl fG p = l.foldl (fun p q => (kSetP (kSetP p.1 q.2 0 (p.2 + kF S q.2 10)) q.2 1 (top + mOver S q.2 8), p.2 + dx' q)) p := by
      intro l
      induction l with
      | nil => intro p _ _ _; rfl
      | cons q l ihl =>
        intro p hl hp hw
        rw [List.foldl_cons, List.foldl_cons, hfG p q hp (hl q List.mem_cons_self) (hw q (hl q List.mem_cons_self))]
        refine ihl _ (fun q2 h2 => hl q2 (List.mem_cons_of_mem _ h2)) ((hp.setP q.2 0 _).setP q.2 1 _) (fun q2 h2 => ?_)
        have hsl := ((sl.P p.1 q.2 q2.2 0 (p.2 + kF S q.2 10) (by decide) (by decide)).trans (sl.P _ q.2 q2.2 1 (top + mOver S q.2 8) (by decide) (by decide))).1.1
        exact hsl.trans (hw q2 h2)
    rw [hcong _ (M2, x) (fun q h => h) hsM2 hw2]
    exact pos_at (S := S) (fun q => gB q.1) dx' top _ (fun p q _ _ => rfl) rs r0 M2 x hsM2 hn hw2
  obtain ⟨p1, p2, p3⟩ := hpos
  generalize hM3 : ((nums rs r0).foldl fG (M2, x)).1 = M3 at p1 p2 p3 ⊢
  have hxp : ∀ j, xp dx' (nums rs r0) x j = xp dx (nums rs 0) x j := fun j => (xp_shift rs 0 r0 x j (fun t e he => by rw [Nat.zero_add]; exact hd t e he)).symm
  refine ⟨i1, i2.trans s1, ⟨i3.trans (fun z hz => s2 z (fun hm => hz ⟨z, hm, Dm.rf S z⟩)), (i3m.trans (fun z hz => t2 z (fun hm => hz ⟨z, hm, Dm.rf S z⟩))).trans (fun z hz => p1 z (fun hm => hz ⟨z, hm, Dm.rf S z⟩))⟩, fun j hj => ?_, ⟨i5.1, ?_⟩, i6⟩
  · obtain ⟨q, hq, rfl⟩ := nums_list rs (k := 0) hj
    obtain ⟨⟨l1, l2, l3, l4, l5, l6⟩, r2, r3, r4⟩ := i4 q hq
    obtain ⟨a1, a2, a3, a4⟩ := items_mem hW hi (hrs q.2 hj)
    have hz : ∀ z, Dm S q.2 z → z ≠ q.2 → z ∉ rs := fun z hz hne hm => not_item hW hi (hrs q.2 hj) hz hne (hrs z hm)
    have hCz : ∀ z, Dm S q.2 z → z ≠ q.2 → sm A.1.1 C z := fun z h1 h2 => s2 z (hz z h1 h2)
    have hMz : ∀ z, Dm S q.2 z → z ≠ q.2 → sm B.1.1 M3 z := fun z h1 h2 => (t2 z (hz z h1 h2)).trans (p1 z (hz z h1 h2))
    have ho : ∀ a, offs S M3 q.2 a = 0 := fun a => by rw [offs_p a1, if_pos (ctx_items hk)]
    have hfl' := upper_ctx (hfl q.2 hj)
    refine ⟨⟨⟨?_, ?_⟩, ⟨?_, ?_⟩, fun ht => ?_⟩, l1.st hCz hMz (Or.inl (ctx_item a1 a2 hk)), fun hk9 => ⟨(l6 hk9).1.st (fun z _ => sl.rf c z) (fun z _ => (s3 z).1), (l6 hk9).2.st hW a4 hCz (s3 q.2).1⟩⟩
    · rw [(s3 q.2).2.1, r3, (p3 q.2 hj).1, hxp, ho, Int32.sub_zero]
    · rw [(s3 q.2).2.2, r4, (p3 q.2 hj).2, ho, Int32.sub_zero, hfl']
    · rw [(s3 q.2).1.1.1, l2, (p2 q.2).1.1.1, (t3 q.2).1.1.1, r2]
    · rw [s4 q.2 hj, (p2 q.2).2, t4 q.2 hj, l3, i1]
    · rw [(s3 q.2).1.2.2, (p2 q.2).1.2.2, (t3 q.2).1.2.2]; exact l4 ht
  · have := i5.2; rw [ti_0] at this; omega
/-- what a box holds was laid -/
def CQ (S : zCS) (chk : Bool) (c C M : zCS) (i : Nat) (v : Int32) : Prop := LPp S C M i ∧ kP C i 3 = (if kF S i 7 = -1 then v else kF S i 7) ∧ (0 ≤ v.toInt ∧ v.toInt ≤ HB S i) ∧ (chk = false → ∀ j, j ∈ kItemsOf S i → KQ S c C j ∧ CInv S C j) ∧ KEq c C ∧ Fr (Dm S i) c C ∧ ((∀ k, k ≠ 3 → kP C i k = kP c i k) ∧ kF C i 25 = kF c i 25) ∧ (kText S i = true → LE S (kLn C i) (kLn M i) i)
theorem CQ.of {S : zCS} (hW : WS S) {chk : Bool} {c C M : zCS} {i : Nat} {v h : Int32} (hi : i < kN S) (hk : kItems S i = true) (hc : SS S c) (hK : KEq c C) (hF : Fr (fun z => ∃ j, j ∈ kItemsOf S i ∧ Dm S j z) c C) (hCh : ∀ j, j ∈ kItemsOf S i → ChOK S chk c C M j) (hv : v = h + 2 * kF S i 12) (hb : 0 ≤ h.toInt ∧ h.toInt ≤ 1000 * (sz S i : Nat)) : CQ S chk c (cSH C i h) M i v := by
  have hni : ¬ ∃ j, j ∈ kItemsOf S i ∧ Dm S j i := fun ⟨j, hj, hd⟩ => not_self hW hi hj hd
  have hsC := hc.K hK
  have hsm : ∀ z, z ≠ i → sm C (cSH C i h) z := fun z hz => sm.P _ 3 _ hz
  have hzi : ∀ j, j ∈ kItemsOf S i → ∀ z, Dm S j z → z ≠ i := fun j hj z hz e => not_self hW hi hj (e ▸ hz)
  have hch2 : ∀ j, j ∈ kItemsOf S i → ChOK S chk c (cSH C i h) M j := fun j hj => by
    obtain ⟨a1, a2, a3, a4⟩ := items_mem hW hi hj
    exact (hCh j hj).st hW a4 a1 (fun z _ => sl.rf c z) (fun z hz => hsm z (hzi j hj z hz)) (fun z _ => sm.rf M z) (Or.inl (ctx_items hk))
  have hp := pad2_b hW.1 hi
  have hs := sz_le hW.1 hi
  have f0 := hF i hni
  refine ⟨LPp.of hW (fun j hj => ⟨(hch2 j hj).1, (hch2 j hj).2.1⟩), ?_, ?_, fun hk9 j hj => (hch2 j hj).2.2 hk9, hK.trans (KEq.SH _ _ _), (hF.mono (fun z hz => by
    obtain ⟨j, hj, hd⟩ := hz
    obtain ⟨a1, a2, -, -⟩ := items_mem hW hi hj
    exact Dm.down a2 a1 hd)).trans (Fr.P _ 3 _ (Dm.rf S i)), ⟨fun k hk3 => (kP_n _ _ _ hk3).trans (f0.1 k), f0.2.1⟩, fun ht => ?_⟩
  · show kP (kSetP C i 3 _) i 3 = _
    rw [kP_s, hsC.f i 7 rfl, hsC.f i 12 rfl, hv]
  · rw [hv, ti_add (by omega) (by omega)]
    unfold HB
    omega
  · unfold kText at ht
    unfold kItems at hk
    rw [of_decide_eq_true ht] at hk
    exact absurd hk (by decide)
theorem row_ok {S : zCS} {chk : Bool} {f1 f2 i : Nat} {L : LayT} {L' : LM} (hW : WS S) (hi : i < kN S) (hk : kItems S i = true) (hL : LOK S chk f1 f2 L L') (hKL : ∀ s j w, KEq s.1 (L s j w).1) (hR : RLP S f2 L') (hN1 : kN S ≤ f1 + 1 + i) (hN2 : kN S ≤ f2 + 1 + i) (c : zCS) (n : Int32) (m : zCS) (ct : Int32) (b : Bool) (hc : SS S c) (hm : SS S m) (hw2 : kP c i 2 = kP m i 2) (hwb : WB i (kP c i 2)) (hci : chk = false → ∀ j, j ∈ kItemsOf S i → CInv S c j) :
    CQ S chk c (cRow L (c, n) i).1 (mRow L' (m, ct) i b).1.1 i (mRow L' (m, ct) i b).2 ∧ (chk = false → b = true → (∀ j, j ∈ kItemsOf S i → C1 S c m j) → CTd n (cRow L (c, n) i).2 ct (mRow L' (m, ct) i b).1.2) := by
  have hrw := rowW hW hc hm hi hw2 hwb
  have hin : ∀ t j, (kItemsOf S i)[t]? = some j → (t, j) ∈ nums (kItemsOf S i) 0 := fun t j h => by have := nums_in (k := 0) h; rw [Nat.zero_add] at this; exact this
  have hfA : ∀ s q, SS S s.1.1 → rowB L i (cRowW c i) s q = ((cPut (L s.1 q.2 (cRowW c i q.1)).1 q.2 s.2.1 (kF S i 12), (L s.1 q.2 (cRowW c i q.1)).2), s.2.1 + (cRowW c i q.1 + kSides S q.2), imax s.2.2 (kP (L s.1 q.2 (cRowW c i q.1)).1 q.2 3 + kEnds S q.2)) := fun s q hs => by
    have h1 := hs.K (hKL s.1 q.2 (cRowW c i q.1))
    unfold rowB
    rw [h1.f i 12 rfl]
    have h2 := h1.K (KEq.Put (L s.1 q.2 (cRowW c i q.1)).1 q.2 s.2.1 (kF S i 12))
    rw [h2.sides, h2.ends]
    have h3 : kP (cPut (L s.1 q.2 (cRowW c i q.1)).1 q.2 s.2.1 (kF S i 12)) q.2 3 = kP (L s.1 q.2 (cRowW c i q.1)).1 q.2 3 := (kP_n _ _ _ (by decide)).trans (kP_n _ _ _ (by decide))
    rw [h3]
  have hmx : ∀ (x : Int32) (M : zCS), (kItemsOf S i).foldl (mRx i) (M, x) = (nums (kItemsOf S i) 0).foldl (fun p q => mRx i p q.2) (M, x) := fun x M => by
    have : (kItemsOf S i).foldl (mRx i) (M, x) = ((nums (kItemsOf S i) 0).map (fun q => q.2)).foldl (mRx i) (M, x) := by rw [nums_map]
    rw [this, List.foldl_map]
  obtain ⟨a1, a2, ⟨a3, -⟩, a4, a5, a6⟩ := chunk_ok hW hi hk hL hR hN1 hN2 (fun q => cRowW c i q.1) (fun q => cRowW c i q.1 + kSides S q.2) (fun q => cRowW c i q.1 + kSides S q.2) (kF S i 12) (rowB L i (cRowW c i)) (mRowW m i) b (fun p q => mRx i p q.2) hfA (kItemsOf S i) 0 c n m ct (kF S i 12) hc hm (items_nd hW hi) (fun j h => h)
    (fun t j h => by rw [Nat.zero_add]; exact ((hrw _ (hin t j h)).1).symm) (fun t j h => by rw [Nat.zero_add])
    (fun p q hp hq hw => by
      show mRx i p q.2 = _
      unfold mRx
      rw [hp.f q.2 10 rfl, hp.f i 12 rfl, hp.over, hw, hp.sides, (hrw q hq).1])
    (fun q hq => (hrw q hq).1 ▸ (hrw q hq).2) hci
  have eC : cRow L (c, n) i = (cSH (cStrs ((nums (kItemsOf S i) 0).foldl (rowB L i (cRowW c i)) ((c, n), kF S i 12, 0)).1.1 (kItemsOf S i) ((nums (kItemsOf S i) 0).foldl (rowB L i (cRowW c i)) ((c, n), kF S i 12, 0)).2.2) i ((nums (kItemsOf S i) 0).foldl (rowB L i (cRowW c i)) ((c, n), kF S i 12, 0)).2.2, ((nums (kItemsOf S i) 0).foldl (rowB L i (cRowW c i)) ((c, n), kF S i 12, 0)).1.2) := by
    unfold cRow rowE
    rw [congrFun hc.items i, hc.f i 12 rfl]
  have eM : mRow L' (m, ct) i b = ((((nums (kItemsOf S i) 0).foldl (fun p q => mRx i p q.2) ((mRn L' b (mRowW m i) (m, ct) (kItemsOf S i) 0).1.1, kF S i 12)).1, (mRn L' b (mRowW m i) (m, ct) (kItemsOf S i) 0).1.2), ((nums (kItemsOf S i) 0).foldl (mR1 L' b (mRowW m i)) ((m, ct), 0)).2 + 2 * kF S i 12) := by
    unfold mRow
    rw [congrFun hm.items i, hm.f i 12 rfl, hmx]
    rfl
  rw [eC, eM]
  have hsum := sz_items hW.1 hi
  refine ⟨?_, a6⟩
  rw [a1] at a2 a3 a4 ⊢
  exact CQ.of hW hi hk hc a2 a3 a4 rfl ⟨a5.1, by omega⟩
