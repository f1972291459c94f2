/-! ===== the plain law: counts of one state ===== -/
def ZB (k : Nat) (c : zCS) : Prop := (∀ x, (kLn c x).length ≤ (kWd c x).length) ∧ kN c + wsum c ≤ k
theorem ZB.le {k n : Nat} {c : zCS} (h : ZB k c) (hk : k ≤ n) : ZB n c := ⟨h.1, Nat.le_trans h.2 hk⟩
theorem ZB.of {k : Nat} {c c' : zCS} (h : ZB k c) (hn : kN c' = kN c) (hw : kWd c' = kWd c) (hl : ∀ x, (kLn c x).length ≤ (kWd c x).length → (kLn c' x).length ≤ (kWd c x).length) : ZB k c' := by
  refine ⟨fun x => by rw [hw]; exact hl x (h.1 x), ?_⟩
  unfold wsum
  rw [hn, hw]
  exact h.2
theorem ZB.Z {k : Nat} {c : zCS} : ZB k (kZ c) ↔ ZB k c := Iff.rfl
theorem ZB.ofZ {k : Nat} {c d : zCS} (h : kZ c = kZ d) (hJ : ZB k d) : ZB k c := ZB.Z.mp (h ▸ ZB.Z.mpr hJ)
theorem ZB.um {k : Nat} {c : zCS} (h : ZB k c) : UM c ≤ k := by
  have h1 := sum_le2 (List.range (kN c)) (uA c) (fun x => 1 + (kWd c x).length) (fun x _ => by unfold uA; have := h.1 x; omega)
  rw [sum_add2 (List.range (kN c)) (fun _ => 1) (fun x => (kWd c x).length), sum_one] at h1
  have := h.2
  unfold wsum at this
  unfold UM
  omega
theorem tch_3 : ∀ (f i : Nat) (c : zCS), (kN (tchF f c i) = kN c ∧ kWd (tchF f c i) = kWd c) ∧ kLn (tchF f c i) = kLn c := by
  intro f
  induction f with
  | zero => intro i c; exact ⟨⟨rfl, rfl⟩, rfl⟩
  | succ f ih =>
    intro i c
    unfold tchF
    cases kPar c i with
    | none => exact ⟨⟨rfl, rfl⟩, rfl⟩
    | some p => exact ih p (kSetF c i 25 (-1))
theorem mrk_3 : ∀ (f i : Nat) (c : zCS), (kN (mrkF f c i) = kN c ∧ kWd (mrkF f c i) = kWd c) ∧ kLn (mrkF f c i) = kLn c := by
  intro f
  induction f with
  | zero => intro i c; exact ⟨⟨rfl, rfl⟩, rfl⟩
  | succ f ih =>
    intro i c
    unfold mrkF
    cases kPar c i with
    | none => exact ⟨⟨rfl, rfl⟩, rfl⟩
    | some p => exact ih p (kSetF c i 25 1)
theorem ZB.touch {k i : Nat} {c : zCS} (h : ZB k c) : ZB k (kTouch c i) := by
  obtain ⟨⟨a1, a2⟩, a3⟩ := tch_3 24 i (kULw c (-1))
  exact h.of a1 a2 (fun x hx => by show (kLn (tchF 24 (kULw c (-1)) i) x).length ≤ _; rw [a3]; exact hx)
theorem ZB.mark {k i : Nat} {c : zCS} (h : ZB k c) : ZB k (mMark c i) := by
  obtain ⟨⟨a1, a2⟩, a3⟩ := mrk_3 24 i c
  exact h.of a1 a2 (fun x hx => by show (kLn (mrkF 24 c i) x).length ≤ _; rw [a3]; exact hx)
theorem ZB.setF {k i b : Nat} {v : Int32} {c : zCS} (h : ZB k c) : ZB k (kSetF c i b v) := h
theorem ZB.pSt {k : Nat} {c : zCS} (h : ZB k c) (n : Int32) (ok : Bool) (k0 : Nat) (u : Nat → zCS) (hu : ∀ i, ZB k (u i)) : ZB k (pSt c n ok k0 u).2 := by
  unfold Pilot.CColumnarPressLaw_law_r6471_6693c1.pSt
  split
  · split
    · exact hu _
    · exact h
  · exact h
theorem ZB.lay {k : Nat} {c : zCS} (h : ZB k c) (w : Int32) : ZB k (pLayOut c w).2 := by
  unfold pLayOut
  split
  · have t := TW.All false (c, 0) w
    exact h.of t.1.n t.1.2.2.2.2.2.1 (fun x hx => t.2 x hx)
  · exact h
theorem ZB.mlay {k : Nat} {c : zCS} (h : ZB k c) (ct w : Int32) : ZB k (mLayOut c ct w).2.1 := by
  unfold mLayOut
  split
  · have t := TW.mAll (c, 0) w
    exact h.of t.1.n t.1.2.2.2.2.2.1 (fun x hx => t.2 x hx)
  · exact h
theorem wsum_word {c : zCS} {i : Nat} {v : Int32} (hi : i < kN c) : wsum (kAddW c i v) = wsum c + 1 := by
  have e : ∀ N, ((List.range N).map (fun x => (if x = i then kWd c i ++ [v] else kWd c x).length)).sum = ((List.range N).map (fun x => (kWd c x).length)).sum + (if i < N then 1 else 0) := by
    intro N
    induction N with
    | zero => simp
    | succ N ih =>
      rw [List.range_succ, List.map_append, List.map_append, List.sum_append, List.sum_append, ih]
      show _ + ((if N = i then kWd c i ++ [v] else kWd c N).length + 0) = _ + ((kWd c N).length + 0) + _
      by_cases h1 : N = i
      · subst h1
        rw [if_pos rfl, List.length_append, if_neg (Nat.lt_irrefl _), if_pos (Nat.lt_succ_self _)]
        show _ + 0 + (_ + 1 + 0) = _
        omega
      · rw [if_neg h1]
        by_cases h2 : i < N
        · rw [if_pos h2, if_pos (by omega)]; omega
        · rw [if_neg h2, if_neg (by omega)]; omega
  have := e (kN c)
  rw [if_pos hi] at this
  exact this
theorem ZB.word {k i : Nat} {v : Int32} {c : zCS} (h : ZB k c) (hi : i < kN c) : ZB (k + 1) (kAddW c i v) := by
  refine ⟨fun x => ?_, ?_⟩
  · show (kLn c x).length ≤ (if x = i then kWd c i ++ [v] else kWd c x).length
    have := h.1 x
    by_cases e : x = i
    · rw [if_pos e, List.length_append]; rw [e] at this ⊢; omega
    · rw [if_neg e]; exact this
  · have := h.2
    show kN c + wsum (kAddW c i v) ≤ k + 1
    rw [wsum_word hi]
    omega
theorem wsum_more {c d : zCS} (hn : kN d = kN c + 1) (hw : ∀ x, x < kN c → kWd d x = kWd c x) (h0 : kWd d (kN c) = []) : wsum d = wsum c := by
  unfold wsum
  rw [hn, List.range_succ, List.map_append, List.sum_append]
  have e1 : (List.range (kN c)).map (fun x => (kWd d x).length) = (List.range (kN c)).map (fun x => (kWd c x).length) := List.map_congr_left (fun x hx => by rw [hw x (List.mem_range.mp hx)])
  rw [e1]
  show _ + ((kWd d (kN c)).length + 0) = _
  rw [h0]
  rfl
theorem ZB.add {k p : Nat} {kd : Int32} {A : Nat → Nat} {c : zCS} (h : ZB k c) : ZB (k + 1) (kAddA c p kd A) := by
  refine ⟨fun x => ?_, ?_⟩
  · show (if x = kN c then [] else kLn c x).length ≤ (if x = kN c then [] else kWd c x).length
    by_cases e : x = kN c
    · rw [if_pos e, if_pos e]; exact Nat.le_refl _
    · rw [if_neg e, if_neg e]; exact h.1 x
  · rw [wsum_more (c := c) (d := kAddA c p kd A) rfl (fun x hx => if_neg (by omega)) (if_pos rfl)]
    have := h.2
    show kN c + 1 + wsum c ≤ k + 1
    omega
theorem ZB.madd {k p : Nat} {kd : Int32} {A : Nat → Nat} {c : zCS} (h : ZB k c) : ZB (k + 1) (mAddA c p kd A) := by
  refine ⟨fun x => ?_, ?_⟩
  · show (if x = kN c then [] else kLn c x).length ≤ (if x = kN c then [] else kWd c x).length
    by_cases e : x = kN c
    · rw [if_pos e, if_pos e]; exact Nat.le_refl _
    · rw [if_neg e, if_neg e]; exact h.1 x
  · rw [wsum_more (c := c) (d := mAddA c p kd A) rfl (fun x hx => if_neg (by omega)) (if_pos rfl)]
    have := h.2
    show kN c + 1 + wsum c ≤ k + 1
    omega
theorem ZB.pAdd {k : Nat} {c : zCS} (h : ZB k c) (n kd : Int32) : ZB (k + 1) (pAdd c n kd).2 := by
  unfold Pilot.CColumnarPressLaw_law_r6471_6693c1.pAdd
  split
  · split
    · split
      · split
        · exact h.add.touch
        · exact h.le (Nat.le_succ _)
      · exact h.le (Nat.le_succ _)
    · exact h.le (Nat.le_succ _)
  · exact h.le (Nat.le_succ _)
theorem ZB.pWord {k : Nat} {c : zCS} (h : ZB k c) (hN : kN c ≤ 24) (n v : Int32) : ZB (k + 1) (pWord c n v).2 := by
  unfold Pilot.CColumnarPressLaw_law_r6471_6693c1.pWord
  split
  · rename_i hn
    split
    · split
      · split
        · exact (h.word (inN (by omega) hn)).touch
        · exact h.le (Nat.le_succ _)
      · exact h.le (Nat.le_succ _)
    · exact h.le (Nat.le_succ _)
  · exact h.le (Nat.le_succ _)
theorem ZB.nWord {k : Nat} {c : zCS} (h : ZB k c) (hN : kN c ≤ 24) (n v : Int32) : ZB (k + 1) (nWord c n v).2 := by
  unfold Pilot.CColumnarPressLaw_law_r6471_6693c1.nWord
  split
  · rename_i hn
    split
    · split
      · split
        · exact (h.word (inN (by omega) hn)).mark
        · exact h.le (Nat.le_succ _)
      · exact h.le (Nat.le_succ _)
    · exact h.le (Nat.le_succ _)
  · exact h.le (Nat.le_succ _)
theorem ZB.c0 (A : Nat → Nat) : ZB 1 (pC0 A) := ⟨fun _ => Nat.le_refl _, Nat.le_refl _⟩
theorem ZB.m0 (A : Nat → Nat) : ZB 1 (mC0 A) := ⟨fun _ => Nat.le_refl _, Nat.le_refl _⟩
/-- the cost of a question, of a layout, on both sides, when there were p changes -/
def CC (p : Nat) : Nat := 2 * (9000 * (p + 1) + 280 * ((p + 1) * (p + 2))) + 10000
theorem CC_mono {p q : Nat} (h : p ≤ q) : CC p ≤ CC q := by
  have : (p + 1) * (p + 2) ≤ (q + 1) * (q + 2) := Nat.mul_le_mul (by omega) (by omega)
  unfold CC
  omega
theorem CC_all {p q : Nat} (h : p + q ≤ 24) : 1000 * p + q * CC p ≤ 4700000 := by
  have h1 : ∀ p, p < 25 → 1000 * p + (24 - p) * CC p ≤ 4700000 := by decide
  have h2 := h1 p (by omega)
  have h3 : q * CC p ≤ (24 - p) * CC p := Nat.mul_le_mul_right _ (by omega)
  omega
theorem la_cc {p : Nat} {S c : zCS} (hW : WS S) (hc : SS S c) (h : ZB (p + 1) c) : 2 * LA c + 10000 ≤ CC p := by
  have h1 := LA_b hW
  have e : wsum S = wsum c := by unfold wsum; rw [hc.n, hc.wd]
  rw [e, ← hc.n, ← LA_S hc] at h1
  have h2 := h.2
  have h3 : kN c * (kN c + 1) ≤ (p + 1) * (p + 2) := Nat.mul_le_mul (by omega) (by omega)
  unfold CC
  omega
theorem km_cc {p : Nat} {S c : zCS} (hW : WS S) (hc : SS S c) (h : ZB (p + 1) c) : 2 * KM c + 10000 ≤ CC p := by
  have h1 := KM_b hW.1
  rw [← hc.n, ← KM_S hc] at h1
  have h2 := h.2
  have h3 : kN c * (kN c + 1) ≤ (p + 1) * (p + 2) := Nat.mul_le_mul (by omega) (by omega)
  unfold CC
  omega
