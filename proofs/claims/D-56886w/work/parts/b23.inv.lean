/-! ===== the plain law: the invariant of a pair of states ===== -/
def JB (S c m : zCS) : Prop := (WS S ∧ SS S c ∧ SS S m) ∧ (∀ i, kF c i 20 = kF m i 20 ∧ kF c i 22 = kF m i 22) ∧ (∀ x, kText S x = false → kWd S x = [] ∧ kLn c x = [] ∧ kLn m x = []) ∧ (kP c 0 0 = 0 ∧ kP c 0 1 = 0) ∧ CA S c ∧ CB S c m ∧ kCt c = kCt m ∧ (∀ i, 0 ≤ (kF c i 3).toInt ∧ (kF c i 3).toInt ≤ 7) ∧ kF c 0 2 = 98
def JL (S c m : zCS) : Prop := (kLw c = -1 ∧ kLw m = 0) ∨ ((0 ≤ (kLw c).toInt ∧ (kLw c).toInt ≤ 400) ∧ kLw m = 1 ∧ LG S c m ∧ ∀ m' ct, SS S m' → LG S c (mAllL M24 (m', ct) (kLw c)).1)
def J (c m : zCS) : Prop := ∃ S, JB S c m ∧ JL S c m
theorem touch_w {c : zCS} (hW : WS (stt c)) {i : Nat} (hi : i < kN c) : TCd (-1) (-1) c i (kTouch c i) := by
  have hN : kN c ≤ 24 := hW.1.1
  obtain ⟨a1, a2, a3, a4, a5⟩ := tch_at 24 i (kULw c (-1)) (fun i p h1 h2 => (hW.1.2 i h1).1 p h2) (by omega) hi
  exact ⟨a1, a2, a3, a4, fun y => ⟨fun h => (a5 y).1 (An.par (S := c) (S1 := kULw c (-1)) (fun _ _ h => h) h), fun h => (a5 y).2 (fun q => h (An.par (S := kULw c (-1)) (S1 := c) (fun _ _ h => h) q))⟩⟩
theorem mark_w {c : zCS} (hW : WS (stt c)) {i : Nat} (hi : i < kN c) : TCd 1 0 c i (mMark c i) := by
  have hN : kN c ≤ 24 := hW.1.1
  obtain ⟨a1, a2, a3, ⟨-, a4⟩, a5⟩ := mrk_at 24 i c (fun i p h1 h2 => (hW.1.2 i h1).1 p h2) (by omega) hi
  exact ⟨a1, a2, a3, ⟨rfl, a4⟩, a5⟩
theorem An.stt {c : zCS} {x y : Nat} : An (stt c) x y ↔ An c x y := ⟨fun h => An.par (S := Pilot.CColumnarPressLaw_law_r6471_6693c1.stt c) (S1 := c) (fun _ _ h => h) h, fun h => An.par (S := c) (S1 := Pilot.CColumnarPressLaw_law_r6471_6693c1.stt c) (fun _ _ h => h) h⟩
/-- a change at and above box i, then marked -/
theorem J.chg {S c m c1 m1 : zCS} {i : Nat} (hJ : JB S c m) (h1 : stt m1 = stt c1) (hW1 : WS (stt c1)) (hN : kN S ≤ kN c1) (hi : i < kN c1)
    (ha : ∀ y, y < kN S → ¬ An (stt c1) y i → (∀ k, k ≠ 25 → kF c1 y k = kF c y k) ∧ kPar c1 y = kPar c y ∧ kCh c1 y = kCh c y ∧ kWd c1 y = kWd c y)
    (hp : ∀ y p, kPar c y = some p → kPar c1 y = some p) (hb : ∀ y p, kPar c1 y = some p → kPar c y = some p ∨ An (stt c1) p i) (hk : ∀ y, y < kN S → kF c1 y 2 = kF c y 2)
    (hd : ∀ y, y < kN S → (∀ k, kP c1 y k = kP c y k) ∧ kF c1 y 25 = kF c y 25 ∧ kLn c1 y = kLn c y) (hdm : ∀ y, y < kN S → (∀ k, kP m1 y k = kP m y k) ∧ kF m1 y 25 = kF m y 25)
    (hnew : ∀ y, kN S ≤ y → y < kN c1 → An (stt c1) y i) (h20 : ∀ i, kF c1 i 20 = kF m1 i 20 ∧ kF c1 i 22 = kF m1 i 22) (htx : ∀ x, kText (stt c1) x = false → kWd (stt c1) x = [] ∧ kLn c1 x = [] ∧ kLn m1 x = []) (hct : kCt c1 = kCt m1) (hdp : ∀ i, 0 ≤ (kF c1 i 3).toInt ∧ (kF c1 i 3).toInt ≤ 7) : J (kTouch c1 i) (mMark m1 i) := by
  obtain ⟨⟨hW, hc, hm⟩, -, -, h00, hCA, hCB, -, -, h98⟩ := hJ
  have hNm : kN m1 = kN c1 := show kN (stt m1) = kN (stt c1) by rw [h1]
  have tc := touch_w hW1 hi
  have tm := mark_w (c := m1) (by rw [h1]; exact hW1) (by rw [hNm]; exact hi)
  obtain ⟨-, c2, ⟨c3, c4⟩, ⟨c5, c6⟩, c7⟩ := tc
  obtain ⟨-, m2, ⟨m3, m4⟩, ⟨m5, m6⟩, m7⟩ := tm
  have sc := touch_w hW1 hi |>.st
  have sm9 := (mark_w (c := m1) (by rw [h1]; exact hW1) (by rw [hNm]; exact hi)).st
  have hAn : ∀ y, An m1 y i ↔ An (stt c1) y i := fun y => by rw [← An.stt (c := m1), h1]
  have hAc : ∀ y, An c1 y i ↔ An (stt c1) y i := fun y => An.stt.symm
  refine ⟨stt c1, ⟨⟨hW1, sc, sm9.trans h1⟩, fun j => ?_, fun x hx => ?_, ?_, fun x hx hkx => ?_, fun x hx => ?_, by rw [c6, m6, hct], fun j => by rw [c2 j 3 (by decide)]; exact hdp j, by rw [c2 0 2 (by decide), hk 0 hW.2.2.1]; exact h98⟩, Or.inl ⟨c5, m5⟩⟩
  · rw [c2 j 20 (by decide), c2 j 22 (by decide), m2 j 20 (by decide), m2 j 22 (by decide)]; exact h20 j
  · rw [c4, m4]; exact htx x hx
  · rw [c3, (hd 0 hW.2.2.1).1, (hd 0 hW.2.2.1).1]; exact h00
  · have hn : ¬ An (stt c1) x i := fun q => hkx ((c7 x).1 ((hAc x).mpr q))
    have hxS : x < kN S := Decidable.byContradiction (fun q => hn (hnew x (Nat.le_of_not_lt q) hx))
    rw [(c7 x).2 (fun q => hn ((hAc x).mp q)), (hd x hxS).2.1] at hkx
    have hpS : ∀ y p, kPar S y = some p → kPar (stt c1) y = some p := fun y p h => hp y p (by rw [hc.par]; exact h)
    have hny : ∀ y, An S x y → y < kN S ∧ ¬ An (stt c1) y i := fun y hy => ⟨An.lt hW hxS hy, fun q => hn ((An.par hpS hy).trans q)⟩
    refine (hCA x hxS hkx).move hW hc.self hxS hN (fun y hy => ?_) (fun y p h1 h2 => ?_) (fun y p hy hyp => ?_) (fun y hy => ?_)
    · obtain ⟨y1, y2⟩ := hny y hy
      obtain ⟨q1, q2, q3, q4⟩ := ha y y1 y2
      refine ⟨fun k => ?_, q2.trans (congrFun hc.par y), q3.trans (congrFun hc.ch y), q4.trans (congrFun hc.wd y)⟩
      have e1 : kF S y k = kF (stt c) y k := by rw [show stt c = S from hc]
      rw [e1]
      show (if k = 22 then (97 : Int32) else if k = 20 ∨ k = 25 then 0 else kF c1 y k) = (if k = 22 then (97 : Int32) else if k = 20 ∨ k = 25 then 0 else kF c y k)
      by_cases h9 : k = 25
      · rw [h9]; rfl
      · rw [q1 k h9]
    · rcases hb y p h1 with h3 | h3
      · rw [← hc.par]; exact h3
      · exact absurd h3 (hny p h2).2
    · have hpl : p < kN S := by
        have := hW.1.par (hny y hy).1 hyp
        have := (hny y hy).1
        omega
      have e1 : kF S p 2 = kF c p 2 := (hc.f p 2 rfl).symm
      rw [e1]
      exact hk p hpl
    · obtain ⟨y1, y2⟩ := hny y hy
      obtain ⟨d1, d2, d3⟩ := hd y y1
      exact ⟨fun k => by rw [c3]; exact d1 k, ((c7 y).2 (fun q => y2 ((hAc y).mp q))).trans d2, by rw [c4]; exact d3⟩
  · rcases Classical.em (An (stt c1) x i) with hn | hn
    · refine Or.inl ⟨(c7 x).1 ((hAc x).mpr hn), ?_⟩
      rw [(m7 x).1 ((hAn x).mpr hn)]
      decide
    · have hxS : x < kN S := Decidable.byContradiction (fun q => hn (hnew x (Nat.le_of_not_lt q) hx))
      have h9 := hCB x hxS
      unfold C1x at h9 ⊢
      rw [(c7 x).2 (fun q => hn ((hAc x).mp q)), (hd x hxS).2.1, (m7 x).2 (fun q => hn ((hAn x).mp q)), (hdm x hxS).2, m3, (hdm x hxS).1]
      exact h9
/-- fields of box i alone -/
def FS (i : Nat) (c c1 : zCS) : Prop := (kN c1 = kN c ∧ kPar c1 = kPar c ∧ kCh c1 = kCh c ∧ kWd c1 = kWd c) ∧ (kP c1 = kP c ∧ kLn c1 = kLn c ∧ kCt c1 = kCt c) ∧ (∀ y k, y ≠ i → kF c1 y k = kF c y k) ∧ ∀ y, kF c1 y 25 = kF c y 25 ∧ kF c1 y 2 = kF c y 2 ∧ kF c1 y 3 = kF c y 3
theorem FS.rf (i : Nat) (c : zCS) : FS i c c := ⟨⟨rfl, rfl, rfl, rfl⟩, ⟨rfl, rfl, rfl⟩, fun _ _ _ => rfl, fun _ => ⟨rfl, rfl, rfl⟩⟩
theorem kF_k (c : zCS) (i k : Nat) (v : Int32) (y b : Nat) (h : b ≠ k) : kF (kSetF c i k v) y b = kF c y b := by
  by_cases e : y = i
  · subst e; exact up2_b (kF c) y v h
  · exact up2_a (kF c) k b v e
theorem FS.set {i : Nat} {c c1 : zCS} (h : FS i c c1) (k : Nat) (v : Int32) (h1 : k ≠ 25) (h2 : k ≠ 2) (h3 : k ≠ 3) : FS i c (kSetF c1 i k v) := by
  obtain ⟨a1, a2, a3, a4⟩ := h
  exact ⟨a1, a2, fun y b hy => (kF_a c1 k b v hy).trans (a3 y b hy), fun y => ⟨(kF_k c1 i k v y 25 (Ne.symm h1)).trans (a4 y).1, (kF_k c1 i k v y 2 (Ne.symm h2)).trans (a4 y).2.1, (kF_k c1 i k v y 3 (Ne.symm h3)).trans (a4 y).2.2⟩⟩
/-- two states with the same tree -/
def PR (c m : zCS) : Prop := stt m = stt c ∧ ∀ i, kF c i 20 = kF m i 20 ∧ kF c i 22 = kF m i 22
theorem PR.set {c m : zCS} (h : PR c m) (i k : Nat) (v : Int32) : PR (kSetF c i k v) (kSetF m i k v) := by
  obtain ⟨h1, h2⟩ := h
  have hF : ∀ y b, (if b = 22 then (97 : Int32) else if b = 20 ∨ b = 25 then 0 else kF m y b) = (if b = 22 then (97 : Int32) else if b = 20 ∨ b = 25 then 0 else kF c y b) := fun y b => show kF (stt m) y b = kF (stt c) y b by rw [h1]
  have e : (fun y b => if b = 22 then (97 : Int32) else if b = 20 ∨ b = 25 then 0 else kF (kSetF m i k v) y b) = fun y b => if b = 22 then (97 : Int32) else if b = 20 ∨ b = 25 then 0 else kF (kSetF c i k v) y b := by
    funext y b
    by_cases hb : b = k
    · subst hb
      by_cases hy : y = i
      · subst hy; rw [kF_s, kF_s]
      · rw [kF_a _ _ _ _ hy, kF_a _ _ _ _ hy]; exact hF y b
    · rw [kF_k _ _ _ _ _ _ hb, kF_k _ _ _ _ _ _ hb]; exact hF y b
  refine ⟨?_, fun y => ?_⟩
  · unfold stt
    rw [e]
    show (kN m, (fun _ => 0), (fun _ => 0), _, kPar m, kCh m, kWd m, _, _, _, _) = _
    have n1 : kN m = kN c := show kN (stt m) = kN (stt c) by rw [h1]
    have n2 : kPar m = kPar c := show kPar (stt m) = kPar (stt c) by rw [h1]
    have n3 : kCh m = kCh c := show kCh (stt m) = kCh (stt c) by rw [h1]
    have n4 : kWd m = kWd c := show kWd (stt m) = kWd (stt c) by rw [h1]
    rw [n1, n2, n3, n4]
    rfl
  · have hh : ∀ b, kF c y b = kF m y b → kF (kSetF c i k v) y b = kF (kSetF m i k v) y b := fun b hb => by
      by_cases hk : b = k
      · subst hk
        by_cases hy : y = i
        · subst hy; rw [kF_s, kF_s]
        · rw [kF_a _ _ _ _ hy, kF_a _ _ _ _ hy]; exact hb
      · rw [kF_k _ _ _ _ _ _ hk, kF_k _ _ _ _ _ _ hk]; exact hb
    exact ⟨hh 20 (h2 y).1, hh 22 (h2 y).2⟩
theorem JB.pr {S c m : zCS} (h : JB S c m) : PR c m := ⟨h.1.2.2.trans h.1.2.1.symm, h.2.1⟩
theorem J.set {c m c1 m1 : zCS} {i : Nat} (hJ : J c m) (hi : i < kN c) (f1 : FS i c c1) (f2 : FS i m m1) (hP : PR c1 m1) (hK : KWf (kTouch c1 i)) : J (kTouch c1 i) (mMark m1 i) := by
  obtain ⟨S, hB, -⟩ := hJ
  have hB' := hB
  obtain ⟨⟨hW, hc, hm⟩, h20, htx, h00, hCA, hCB, hct, hdp, -⟩ := hB
  obtain ⟨⟨a1, a2, a3, a4⟩, ⟨a5, a6, a7⟩, a8, a9⟩ := f1
  obtain ⟨⟨b1, b2, b3, b4⟩, ⟨b5, b6, b7⟩, b8, b9⟩ := f2
  have hpar : kPar (stt c1) = kPar S := a2.trans hc.par
  have hch : kCh (stt c1) = kCh S := a3.trans hc.ch
  have hkd : ∀ y, kF (stt c1) y 2 = kF S y 2 := fun y => (a9 y).2.1.trans (hc.f y 2 rfl)
  have hn1 : kN (stt c1) = kN S := a1.trans hc.n
  have hst1 : stt (kTouch c1 i) = stt c1 := by
    have : ∀ (f : Nat) (j : Nat) (d : zCS), stt (tchF f d j) = stt d := by
      intro f
      induction f with
      | zero => intro j d; rfl
      | succ f ih =>
        intro j d
        unfold tchF
        cases kPar d j with
        | none => exact stt_K (KEq.setF d j (-1))
        | some p => exact (ih p _).trans (stt_K (KEq.setF d j (-1)))
    exact this 24 i (kULw c1 (-1))
  have hW1 : WS (stt c1) := by
    refine ⟨hst1 ▸ hK.st, fun x p h => ?_, by rw [hn1]; exact hW.2.2.1, fun j hj => ?_⟩
    · rw [hpar] at h
      rw [hn1, hch, hkd]
      exact hW.2.1 x p h
    · rw [hpar]; exact hW.2.2.2 j (by rw [← hn1]; exact hj)
  refine J.chg hB' hP.1 hW1 (by rw [a1, hc.n]; exact Nat.le_refl _) (by rw [a1]; exact hi) (fun y _ hy => ?_) (fun y p h => by rw [a2]; exact h) (fun y p h => Or.inl (by rw [← a2]; exact h)) (fun y _ => (a9 y).2.1) (fun y _ => ⟨fun k => by rw [a5], (a9 y).1, by rw [a6]⟩) (fun y _ => ⟨fun k => by rw [b5], (b9 y).1⟩) (fun y h1 h2 => by rw [a1, hc.n] at h2; omega) hP.2 (fun x hx => ?_) (by rw [a7, b7, hct]) (fun y => by rw [(a9 y).2.2]; exact hdp y)
  · have hne : y ≠ i := fun e => hy (e ▸ An.rf _ y)
    exact ⟨fun k _ => a8 y k hne, by rw [a2], by rw [a3], by rw [a4]⟩
  · have hx' : kText S x = false := by
      unfold kText at hx ⊢
      rw [hkd x] at hx
      exact hx
    have := htx x hx'
    rw [a6, b6]
    exact ⟨(congrFun (a4.trans hc.wd) x).trans this.1, this.2⟩
