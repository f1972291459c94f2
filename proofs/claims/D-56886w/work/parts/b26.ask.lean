/-! ===== the plain law: the answers ===== -/
/-- the place of a code among the law's handlers -/
def kap (l : List Nat) (n : Nat) : Nat := if n = 0 then 0 else l.idxOf n + 1
/-- the law takes these two answers for one -/
def AG (l : List Nat) (r s : Nat × Value) : Prop := s.1 = kap l r.1 ∧ (r.1 = 0 → r.2 = s.2)
theorem LG.geo {S c m : zCS} (hW : WS S) (h : LG S c m) {x : Nat} (hx : x < kN S) (h0 : x ≠ 0) (hl : kLifted S x = false) : Geo S c m x := by
  obtain ⟨r, r1, r2, r3⟩ := rt_ex hW x x (Nat.le_refl _) hx
  refine (h r (by omega) r1).1 x r2 (fun e => ?_)
  subst e
  rcases r1 with r1 | r1
  · exact h0 r1
  · rw [hl] at r1; cases r1
theorem LG.wh {S c m : zCS} (hW : WS S) (h : LG S c m) {x : Nat} (hx : x < kN S) : kP c x 2 = kP m x 2 ∧ kP c x 3 = kP m x 3 ∧ (kText S x = true → LE S (kLn c x) (kLn m x) x) := by
  obtain ⟨r, r1, r2, r3⟩ := rt_ex hW x x (Nat.le_refl _) hx
  obtain ⟨q1, ⟨q2, q3⟩, q4, -⟩ := h r (by omega) r1
  by_cases e : x = r
  · rw [e]; exact ⟨q2, q3, q4⟩
  · obtain ⟨-, ⟨g1, g2⟩, g3⟩ := q1 x r2 e
    exact ⟨g1, g2, g3⟩
theorem SS.shifted {S c : zCS} (h : SS S c) (i : Nat) : kShifted c i = kShifted S i := by unfold kShifted; rw [h.root, h.f i 17 rfl]
theorem kXY_eq {S c m : zCS} (hW : WS S) (hc : SS S c) (hm : SS S m) (h : LG S c m) {a : Nat} (ha : a = 0 ∨ a = 1) : ∀ (f i : Nat), i < kN S → kXY a f c i = mPt a f m i := by
  intro f
  induction f with
  | zero => intro i _; rfl
  | succ f ih =>
    intro i hi
    unfold kXY mPt
    rw [hc.par, hm.par]
    cases hp : kPar S i with
    | none => rfl
    | some p =>
      have hpi := hW.1.par hi hp
      have h0 : i ≠ 0 := by omega
      have hr : kRoot S i = false := by unfold kRoot; rw [hp]; rfl
      have k18 : kF c i (18 + a) = kF m i (18 + a) := by
        rcases ha with h | h
        · subst h; rw [hc.f i 18 rfl, hm.f i 18 rfl]
        · subst h; rw [hc.f i 19 rfl, hm.f i 19 rfl]
      show (if kLifted c i = true then kXY a f c (kHold c i) + kF c i (18 + a) else kXY a f c p + kP c i a + (if kShifted c i = true then kF c i (18 + a) else 0)) = (if kLifted m i = true then mPt a f m (kHold m i) + kF m i (18 + a) else mPt a f m p + (kP m i a - (if mCtx m p = true then 0 else kP m p a) + (if kF m i 17 = 114 then kF m i (18 + a) else 0)))
      rw [hc.lifted, hm.lifted, hc.hold, hm.hold, hm.ctx, hc.shifted, k18]
      cases hl : kLifted S i with
      | true =>
        rw [if_pos rfl, if_pos rfl, ih _ (by have := kHold_lt hW.1 hi hr; omega)]
      | false =>
        rw [if_neg Bool.false_ne_true, if_neg Bool.false_ne_true, ih p (by omega), Int32.add_assoc]
        have hg := (h.geo hW hi h0 hl).1
        have e1 : kP c i a = kP m i a - (if mCtx S p = true then 0 else kP m p a) := by
          rcases ha with h | h
          · subst h; rw [hg.1, offs_p hp]
          · subst h; rw [hg.2, offs_p hp]
        have e2 : (if kShifted S i = true then kF m i (18 + a) else 0) = if kF m i 17 = 114 then kF m i (18 + a) else 0 := by
          unfold kShifted
          rw [hr, hm.f i 17 rfl]
          by_cases h9 : kF S i 17 = 114
          · rw [if_pos h9, if_pos (by rw [h9]; rfl)]
          · rw [if_neg h9, if_neg (by simp [h9])]
        rw [e1, e2]
theorem inN {n : Int32} {N : Nat} (hN : N ≤ 1000) (h : btw n 0 (nI N - 1) = true) : n.toNatClampNeg < N := by
  obtain ⟨i, h1, h2⟩ := btw_idx hN h
  subst h2
  rw [nI_clamp (by omega)]
  exact h1
theorem J.two {c m : zCS} (h : J c m) : ∃ S, JB S c m ∧ ((kLw c = -1 ∧ kLw m = 0) ∨ ((kLw c ≠ -1 ∧ kLw m ≠ 0) ∧ LG S c m)) := by
  obtain ⟨S, hB, hL⟩ := h
  refine ⟨S, hB, hL.imp id (fun h => ⟨⟨ne_m1.mpr (by have := h.1; omega), (by rw [h.2.1]; decide)⟩, h.2.2.1⟩)⟩
theorem JB.n {S c m : zCS} (h : JB S c m) : kN m = kN c ∧ kN c = kN S ∧ kN c ≤ 24 := ⟨h.1.2.2.n.trans h.1.2.1.n.symm, h.1.2.1.n, by rw [h.1.2.1.n]; exact h.1.1.1.1⟩
theorem a_laid {c m : zCS} (hJ : J c m) (n : Int32) (f g : Nat → Int32) (hfg : ∀ S, JB S c m → LG S c m → ∀ i, i < kN S → f i = g i) : AG [1, 3] (pLaid c n (fun i => (0, .int (f i)))) (mGet m n g) := by
  obtain ⟨S, hB, hL⟩ := hJ.two
  obtain ⟨n1, n2, n3⟩ := hB.n
  unfold pLaid pBox mGet mNow
  rw [n1]
  by_cases hn : btw n 0 (nI (kN c) - 1) = true
  · rw [if_pos hn, if_pos hn]
    dsimp only
    rcases hL with ⟨h1, h2⟩ | ⟨⟨h1, h2⟩, h3⟩
    · rw [if_pos h1, if_pos h2]; exact ⟨rfl, fun h => by cases h⟩
    · rw [if_neg h1, if_neg h2]
      refine ⟨rfl, fun _ => ?_⟩
      show Value.int (f n.toNatClampNeg) = Value.int (g n.toNatClampNeg)
      rw [hfg S hB h3 _ (by rw [← n2]; exact inN (by omega) hn)]
  · rw [if_neg hn, if_neg hn]; exact ⟨rfl, fun h => by cases h⟩
theorem a_xy {c m : zCS} (hJ : J c m) (n : Int32) {a : Nat} (ha : a = 0 ∨ a = 1) : AG [1, 3] (pLaid c n (fun i => (0, .int (kXY a 24 c i)))) (mGet m n (fun i => mPt a 24 m i)) :=
  a_laid hJ n _ _ (fun S hB hL i hi => kXY_eq hB.1.1 hB.1.2.1 hB.1.2.2 hL ha 24 i hi)
theorem a_w {c m : zCS} (hJ : J c m) (n : Int32) : AG [1, 3] (pLaid c n (fun i => (0, .int (kP c i 2)))) (mGet m n (fun i => kP m i 2)) :=
  a_laid hJ n _ _ (fun S hB hL i hi => (hL.wh hB.1.1 hi).1)
theorem a_h {c m : zCS} (hJ : J c m) (n : Int32) : AG [1, 3] (pLaid c n (fun i => (0, .int (kP c i 3)))) (mGet m n (fun i => kP m i 3)) :=
  a_laid hJ n _ _ (fun S hB hL i hi => (hL.wh hB.1.1 hi).2.1)
theorem a_box {c m : zCS} (hJ : J c m) (n : Int32) (l : Bool) : AG [1] (pBox c n (fun i => (0, .int (cW c i l)))) (pBox m n (fun i => (0, .int (cW m i l)))) := by
  obtain ⟨S, hB, hL⟩ := hJ.two
  obtain ⟨n1, n2, n3⟩ := hB.n
  unfold pBox
  rw [n1]
  by_cases hn : btw n 0 (nI (kN c) - 1) = true
  · rw [if_pos hn, if_pos hn, hB.1.2.1.cw, hB.1.2.2.cw]; exact ⟨rfl, fun _ => rfl⟩
  · rw [if_neg hn, if_neg hn]; exact ⟨rfl, fun h => by cases h⟩
theorem JB.ln {S c m : zCS} (h : JB S c m) (hL : LG S c m) {x : Nat} (hx : x < kN S) : kLn c x = kLn m x := by
  cases ht : kText S x with
  | true => exact ((hL.wh h.1.1 hx).2.2 ht).1
  | false => rw [(h.2.2.1 x ht).2.1, (h.2.2.1 x ht).2.2]
theorem a_lines {c m : zCS} (hJ : J c m) (n : Int32) : AG [1, 3, 4] (pText c n (fun i => (0, .int (nI (kLn c i).length)))) (nLines m n) := by
  obtain ⟨S, hB, hL⟩ := hJ.two
  obtain ⟨n1, n2, n3⟩ := hB.n
  unfold pText pLaid pBox nLines nTx mNow
  rw [n1]
  by_cases hn : btw n 0 (nI (kN c) - 1) = true
  · rw [if_pos hn, if_pos hn]
    dsimp only
    rcases hL with ⟨h1, h2⟩ | ⟨⟨h1, h2⟩, h3⟩
    · rw [if_pos h1, if_pos h2, if_neg (by decide)]; exact ⟨rfl, fun h => by cases h⟩
    · rw [if_neg h1, if_neg h2, if_pos rfl]
      have hi : n.toNatClampNeg < kN S := by rw [← n2]; exact inN (by omega) hn
      rw [hB.ln h3 hi, hB.1.2.2.f _ 2 rfl, hB.1.2.1.text]
      unfold kText
      by_cases ht : kF S n.toNatClampNeg 2 = 116
      · rw [if_pos ht, if_pos (decide_eq_true ht)]; exact ⟨rfl, fun _ => rfl⟩
      · rw [if_neg ht, if_neg (by rw [decide_eq_false ht]; exact Bool.false_ne_true)]; exact ⟨rfl, fun h => by cases h⟩
  · rw [if_neg hn, if_neg hn, if_neg (by decide)]; exact ⟨rfl, fun h => by cases h⟩
theorem a_line {c m : zCS} (hJ : J c m) (n k : Int32) (g : Int32 × Int32 × Int32 → Int32) : AG [1, 3, 4, 5] (pLine c n k (fun i j => (0, .int (g (lnAt c i j))))) (nLine m n k g) := by
  obtain ⟨S, hB, hL⟩ := hJ.two
  obtain ⟨n1, n2, n3⟩ := hB.n
  unfold pLine pText pLaid pBox nLine nLi nTx mNow
  rw [n1]
  by_cases hn : btw n 0 (nI (kN c) - 1) = true
  · rw [if_pos hn, if_pos hn]
    dsimp only
    rcases hL with ⟨h1, h2⟩ | ⟨⟨h1, h2⟩, h3⟩
    · have e9 : (if (2 : Nat) = 0 then (if kF m n.toNatClampNeg 2 = 116 then 0 else 3) else 2) = 2 := if_neg (by decide)
      rw [if_pos h1, if_pos h2, e9, if_neg (by decide)]; exact ⟨rfl, fun h => by cases h⟩
    · rw [if_neg h1, if_neg h2, if_pos rfl]
      have hi : n.toNatClampNeg < kN S := by rw [← n2]; exact inN (by omega) hn
      have el : ∀ j, lnAt c n.toNatClampNeg j = lnAt m n.toNatClampNeg j := fun j => by unfold lnAt; rw [hB.ln h3 hi]
      rw [hB.ln h3 hi, hB.1.2.2.f _ 2 rfl, hB.1.2.1.text, el]
      unfold kText
      by_cases ht : kF S n.toNatClampNeg 2 = 116
      · rw [if_pos ht, if_pos (decide_eq_true ht), if_pos rfl]
        by_cases hk : btw k 0 (nI (kLn m n.toNatClampNeg).length - 1) = true
        · rw [if_pos hk, if_pos hk]; exact ⟨rfl, fun _ => rfl⟩
        · rw [if_neg hk, if_neg hk]; exact ⟨rfl, fun h => by cases h⟩
      · rw [if_neg ht, if_neg (by rw [decide_eq_false ht]; exact Bool.false_ne_true), if_neg (by decide)]; exact ⟨rfl, fun h => by cases h⟩
  · have e9 : (if (1 : Nat) = 0 then (if kF m n.toNatClampNeg 2 = 116 then 0 else 3) else 1) = 1 := if_neg (by decide)
    rw [if_neg hn, if_neg hn, e9, if_neg (by decide)]; exact ⟨rfl, fun h => by cases h⟩
theorem range_mem {α : Type} {f g : α → Nat → α} (n : Nat) (a : α) (h : ∀ a i, i < n → f a i = g a i) : (List.range n).foldl f a = (List.range n).foldl g a := fold_mem _ a (fun a x hx => h a x (List.mem_range.mp hx))
theorem a_hit {c m : zCS} (hJ : J c m) (x y : Int32) : AG [3, 5] (pHit c x y) (nHit m x y) := by
  obtain ⟨S, hB, hL⟩ := hJ.two
  obtain ⟨n1, n2, n3⟩ := hB.n
  unfold pHit nHit
  rcases hL with ⟨h1, h2⟩ | ⟨⟨h1, h2⟩, h3⟩
  · rw [if_pos h1, if_pos h2]; exact ⟨rfl, fun h => by cases h⟩
  · rw [if_neg h1, if_neg h2]
    have e : (List.range (kN c)).foldl (hitS c x y) none = (List.range (kN m)).foldl (nHitS m x y) none := by
      rw [n1, n2]
      refine range_mem _ none (fun b j hj => ?_)
      have e0 := kXY_eq hB.1.1 hB.1.2.1 hB.1.2.2 h3 (Or.inl rfl) 24 j hj
      have e1 := kXY_eq hB.1.1 hB.1.2.1 hB.1.2.2 h3 (Or.inr rfl) 24 j hj
      obtain ⟨w1, w2, -⟩ := h3.wh hB.1.1 hj
      unfold hitS nHitS nIns
      rw [e0, e1, w1, w2, (hB.2.1 j).1]
      cases b with
      | none => rfl
      | some q =>
        show (if _ then (if kF m j 20 < kF c q 20 then some q else some j) else some q) = (if _ then (if kF m j 20 < kF m q 20 then some q else some j) else some q)
        rw [(hB.2.1 q).1]
    rw [e]
    cases (List.range (kN m)).foldl (nHitS m x y) none with
    | none => exact ⟨rfl, fun h => by cases h⟩
    | some j => exact ⟨rfl, fun _ => rfl⟩
theorem a_area {c m : zCS} (hJ : J c m) : AG [3] (pArea c) (nArea m) := by
  obtain ⟨S, hB, hL⟩ := hJ.two
  obtain ⟨n1, n2, n3⟩ := hB.n
  unfold pArea nArea
  rcases hL with ⟨h1, h2⟩ | ⟨⟨h1, h2⟩, h3⟩
  · rw [if_pos h1, if_pos h2]; exact ⟨rfl, fun h => by cases h⟩
  · rw [if_neg h1, if_neg h2]
    refine ⟨rfl, fun _ => congrArg Value.long ?_⟩
    rw [n1, n2]
    exact range_mem _ _ (fun b j hj => by rw [(h3.wh hB.1.1 hj).1, (h3.wh hB.1.1 hj).2.1])
theorem a_fill {c m : zCS} (hJ : J c m) : AG [3, 6] (pFilled c) (nFil m) := by
  obtain ⟨S, hB, hL⟩ := hJ.two
  obtain ⟨n1, n2, n3⟩ := hB.n
  unfold pFilled nFil
  rcases hL with ⟨h1, h2⟩ | ⟨⟨h1, h2⟩, h3⟩
  · rw [if_pos h1, if_pos h2]; exact ⟨rfl, fun h => by cases h⟩
  · rw [if_neg h1, if_neg h2]
    have hw := h3.wh hB.1.1 hB.1.1.2.2.1
    have es : pSum c = pSum m := by
      unfold pSum
      rw [n1, n2]
      exact range_mem _ _ (fun b j hj => by unfold pSW; rw [hB.1.2.1.wd, hB.1.2.2.wd])
    rw [hw.1, hw.2.1, es, Int32.mul_comm 10]
    by_cases h0 : kP m 0 2 * kP m 0 3 = 0
    · rw [if_pos h0, if_pos h0]; exact ⟨rfl, fun h => by cases h⟩
    · rw [if_neg h0, if_neg h0]; exact ⟨rfl, fun _ => rfl⟩
theorem a_mean {c m : zCS} (hJ : J c m) : AG [3, 6] (pMean c) (nMean m) := by
  obtain ⟨S, hB, hL⟩ := hJ.two
  obtain ⟨n1, n2, n3⟩ := hB.n
  unfold pMean nMean
  rcases hL with ⟨h1, h2⟩ | ⟨⟨h1, h2⟩, h3⟩
  · rw [if_pos h1, if_pos h2]; exact ⟨rfl, fun h => by cases h⟩
  · rw [if_neg h1, if_neg h2]
    have es : ∀ (l : List Nat) (p : Int32 × Int32), (∀ j, j ∈ l → j < kN S) → l.foldl (pMS c) p = ((l.foldl (nMS m) (p.2, p.1)).2, (l.foldl (nMS m) (p.2, p.1)).1) := by
      intro l
      induction l with
      | nil => intro p _; rfl
      | cons j l ih =>
        intro p hl
        rw [List.foldl_cons, List.foldl_cons, ih _ (fun q hq => hl q (List.mem_cons_of_mem _ hq))]
        have e : nMS m (p.2, p.1) j = ((pMS c p j).2, (pMS c p j).1) := by
          unfold nMS pMS
          rw [if_neg h2, hB.ln h3 (hl j List.mem_cons_self), hB.1.2.1.wd, hB.1.2.2.wd]
        rw [e]
    have e := es (List.range (kN c)) (0, 0) (fun j hj => by rw [← n2]; exact List.mem_range.mp hj)
    have e' : pMM c = ((nMM m).2, (nMM m).1) := by
      unfold pMM nMM
      rw [n1]
      exact e
    rw [e']
    by_cases h0 : (nMM m).2 = 0
    · rw [if_pos h0, if_pos h0]; exact ⟨rfl, fun h => by cases h⟩
    · rw [if_neg h0, if_neg h0]; exact ⟨rfl, fun _ => rfl⟩
