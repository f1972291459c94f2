/-! ===== the plain law: the widths of a row's items agree, and are bounded ===== -/
theorem SS.rwa {S c : zCS} (h : SS S c) : rwA c = rwA S := by funext p q; unfold rwA; rw [h.cw, h.sides]
theorem SS.grow {S c : zCS} (h : SS S c) : cGrow c = cGrow S := by subst h; rfl
theorem SS.p1 {S c : zCS} (h : SS S c) : mP1 c = mP1 S := by subst h; rfl
theorem SS.p2 {S c : zCS} (h : SS S c) : mP2 c = mP2 S := by subst h; rfl
theorem SS.s3 {S c : zCS} (h : SS S c) : mS3 c = mS3 S := by subst h; rfl
theorem SS.shp {S c : zCS} (h : SS S c) : shP c = shP S := by subst h; rfl
theorem SS.shGo {S c : zCS} (h : SS S c) (es : List Nat) (inner : Int32) (bd g : Nat → Int32) : ∀ (f : Nat) (b : Nat → Bool), mShGo c es inner bd g f b = mShGo S es inner bd g f b := by
  intro f
  induction f with
  | zero => intro b; rfl
  | succ f ih => intro b; unfold mShGo; rw [h.p1, h.p2, h.s3, ih]
theorem SS.bds {S c : zCS} (h : SS S c) : mBds c = mBds S := by
  funext es g
  unfold mBds
  have e : mBd c g = mBd S g := by funext f q; unfold mBd; rw [h.cw]
  rw [e]
theorem SS.shrunk {S c : zCS} (h : SS S c) : mShrunk c = mShrunk S := by
  funext es inner g
  unfold mShrunk
  rw [h.bds, h.shGo]
theorem nums_gx {es : List Nat} : ∀ {k : Nat} {q : Nat × Nat}, q ∈ nums es k → k ≤ q.1 ∧ q.1 < k + es.length ∧ es[q.1 - k]? = some q.2 := by
  induction es with
  | nil => intro k q h; exact absurd h List.not_mem_nil
  | cons e es ih =>
    intro k q h
    rcases List.mem_cons.mp h with e9 | h
    · rw [e9, List.length_cons]
      exact ⟨Nat.le_refl _, by omega, by show (e :: es)[k - k]? = some e; rw [Nat.sub_self]; rfl⟩
    · obtain ⟨a1, a2, a3⟩ := ih h
      rw [List.length_cons]
      refine ⟨by omega, by omega, ?_⟩
      rw [show q.1 - k = (q.1 - (k + 1)) + 1 by omega]
      exact a3
theorem nums_in {es : List Nat} {k j x : Nat} (h : es[j]? = some x) : (k + j, x) ∈ nums es k := by
  induction es generalizing k j with
  | nil => cases h
  | cons e es ih =>
    cases j with
    | zero => cases h; exact List.mem_cons_self
    | succ j =>
      have := ih (k := k + 1) (j := j) h
      rw [show k + 1 + j = k + (j + 1) by omega] at this
      exact List.mem_cons_of_mem _ this
theorem rwA_at (S : zCS) : ∀ (es : List Nat) (k : Nat) (p : (Nat → Int32) × Int32), (∀ j, j ∈ es → 0 ≤ (cW S j false + kSides S j).toInt ∧ (cW S j false + kSides S j).toInt ≤ 33600) → -100000000 + 33600 * (es.length : Int) ≤ p.2.toInt → p.2.toInt ≤ 100000000 →
    (∀ q, q ∈ nums es k → ((nums es k).foldl (rwA S) p).1 q.1 = cW S q.2 false) ∧ (∀ j, j < k → ((nums es k).foldl (rwA S) p).1 j = p.1 j) ∧ p.2.toInt - 33600 * (es.length : Int) ≤ ((nums es k).foldl (rwA S) p).2.toInt ∧ ((nums es k).foldl (rwA S) p).2.toInt ≤ p.2.toInt := by
  intro es
  induction es with
  | nil => intro k p _ h1 h2; exact ⟨fun q h => absurd h List.not_mem_nil, fun _ _ => rfl, by show p.2.toInt - 33600 * ((0 : Nat) : Int) ≤ p.2.toInt; omega, Int.le_refl _⟩
  | cons e es ih =>
    intro k p hb h1 h2
    rw [List.length_cons] at h1 ⊢
    have he := hb e List.mem_cons_self
    have e1 : (p.2 - (cW S e false + kSides S e)).toInt = p.2.toInt - (cW S e false + kSides S e).toInt := ti_sub (by omega) (by omega)
    obtain ⟨i1, i2, i3, i4⟩ := ih (k + 1) (upd p.1 k (cW S e false), p.2 - (cW S e false + kSides S e)) (fun j hj => hb j (List.mem_cons_of_mem _ hj)) (by show _ ≤ (p.2 - (cW S e false + kSides S e)).toInt; omega) (by show (p.2 - (cW S e false + kSides S e)).toInt ≤ _; omega)
    have i3' : (p.2 - (cW S e false + kSides S e)).toInt - 33600 * (es.length : Int) ≤ ((nums (e :: es) k).foldl (rwA S) p).2.toInt := i3
    have i4' : ((nums (e :: es) k).foldl (rwA S) p).2.toInt ≤ (p.2 - (cW S e false + kSides S e)).toInt := i4
    refine ⟨fun q hq => ?_, fun j hj => ?_, by omega, by omega⟩
    · rcases List.mem_cons.mp hq with e9 | hq
      · rw [e9]; exact (i2 k (by omega)).trans (upd_s _ _ _)
      · exact i1 q hq
    · exact (i2 j (by omega)).trans (upd_n _ _ (by omega))
theorem bds_at (S : zCS) (g : Nat → Int32) : ∀ (es : List Nat) (k : Nat) (f : Nat → Int32), (∀ q, q ∈ nums es k → ((nums es k).foldl (mBd S g) f) q.1 = imin (cW S q.2 true) (g q.1)) ∧ ∀ j, j < k → ((nums es k).foldl (mBd S g) f) j = f j := by
  intro es
  induction es with
  | nil => intro k f; exact ⟨fun q h => absurd h List.not_mem_nil, fun _ _ => rfl⟩
  | cons e es ih =>
    intro k f
    obtain ⟨i1, i2⟩ := ih (k + 1) (upd f k (imin (cW S e true) (g k)))
    refine ⟨fun q hq => ?_, fun j hj => (i2 j (by omega)).trans (upd_n _ _ (by omega))⟩
    rcases List.mem_cons.mp hq with e9 | hq
    · rw [e9]; exact (i2 k (by omega)).trans (upd_s _ _ _)
    · exact i1 q hq
/-- what is lacking, and the weights' sum -/
theorem shLk_b (S : zCS) (b : Nat → Bool) (bd g : Nat → Int32) : ∀ (es : List Nat) (k : Nat) (a s : Int32), (∀ q, q ∈ nums es k → (0 ≤ ((if b q.1 = true then bd q.1 else g q.1) + kSides S q.2).toInt ∧ ((if b q.1 = true then bd q.1 else g q.1) + kSides S q.2).toInt ≤ 33680) ∧ 0 ≤ (lsW S b g q).toInt ∧ (lsW S b g q).toInt ≤ 302400) →
    -900000 ≤ a.toInt → a.toInt + 33680 * (es.length : Int) ≤ 900000 → 0 ≤ s.toInt → s.toInt + 302400 * (es.length : Int) ≤ 8000000 →
    (a.toInt ≤ ((nums es k).foldl (shLk S b bd g) (a, s)).1.toInt ∧ ((nums es k).foldl (shLk S b bd g) (a, s)).1.toInt ≤ a.toInt + 33680 * (es.length : Int)) ∧ s.toInt ≤ ((nums es k).foldl (shLk S b bd g) (a, s)).2.toInt ∧ ∀ q, q ∈ nums es k → (lsW S b g q).toInt ≤ ((nums es k).foldl (shLk S b bd g) (a, s)).2.toInt := by
  intro es
  induction es with
  | nil => intro k a s _ h1 h2 h3 h4; exact ⟨⟨Int.le_refl _, by show a.toInt ≤ a.toInt + 33680 * ((0 : Nat) : Int); omega⟩, Int.le_refl _, fun q h => absurd h List.not_mem_nil⟩
  | cons e es ih =>
    intro k a s hb h1 h2 h3 h4
    rw [List.length_cons] at h2 h4 ⊢
    obtain ⟨b1, b2⟩ := hb (k, e) List.mem_cons_self
    have b1' : 0 ≤ ((if b k = true then bd k else g k) + kSides S e).toInt ∧ ((if b k = true then bd k else g k) + kSides S e).toInt ≤ 33680 := b1
    have e1 : (a + ((if b k = true then bd k else g k) + kSides S e)).toInt = a.toInt + ((if b k = true then bd k else g k) + kSides S e).toInt := ti_add (by omega) (by omega)
    have e2 : (s + lsW S b g (k, e)).toInt = s.toInt + (lsW S b g (k, e)).toInt := ti_add (by omega) (by omega)
    obtain ⟨⟨i1, i2⟩, i3, i4⟩ := ih (k + 1) (a + ((if b k = true then bd k else g k) + kSides S e)) (s + lsW S b g (k, e)) (fun q hq => hb q (List.mem_cons_of_mem _ hq)) (by omega) (by omega) (by omega) (by omega)
    have i1' : (a + ((if b k = true then bd k else g k) + kSides S e)).toInt ≤ ((nums (e :: es) k).foldl (shLk S b bd g) (a, s)).1.toInt := i1
    have i2' : ((nums (e :: es) k).foldl (shLk S b bd g) (a, s)).1.toInt ≤ (a + ((if b k = true then bd k else g k) + kSides S e)).toInt + 33680 * (es.length : Int) := i2
    have i3' : (s + lsW S b g (k, e)).toInt ≤ ((nums (e :: es) k).foldl (shLk S b bd g) (a, s)).2.toInt := i3
    refine ⟨⟨by omega, by omega⟩, by omega, fun q hq => ?_⟩
    rcases List.mem_cons.mp hq with e9 | hq
    · rw [e9]; omega
    · exact i4 q hq
def mB (bd : Nat → Int32) (n : Nat) (w : Nat → Int32) : Prop := ∀ j, j < n → (bd j).toInt ≤ (w j).toInt ∧ (w j).toInt ≤ 950000
theorem mP2_b (S : zCS) (b : Nat → Bool) (bd g : Nat → Int32) (lack wt : Int32) (n : Nat) : ∀ (es : List Nat) (k : Nat) (w : Nat → Int32) (b' : Nat → Bool) (mo : Bool) (lf : Int32), k + es.length ≤ n →
    (∀ q, q ∈ nums es k → b' q.1 = b q.1) → (∀ q, q ∈ nums es k → b q.1 = false → w q.1 = g q.1) → (∀ q, q ∈ nums es k → b q.1 = false → (mLoss S g lack wt q).toInt.natAbs ≤ 900000 ∧ 0 ≤ (g q.1).toInt ∧ (g q.1).toInt ≤ 33600) → (mo = false → mB bd n w) →
    ((nums es k).foldl (mS2 S bd g lack wt) (w, b', mo, lf)).2.2.1 = false → mB bd n ((nums es k).foldl (mS2 S bd g lack wt) (w, b', mo, lf)).1 := by
  intro es
  induction es with
  | nil => intro k w b' mo lf _ _ _ _ h4 h5; exact h4 h5
  | cons e es ih =>
    intro k w b' mo lf hk h1 h2 h3 h4
    rw [List.length_cons] at hk
    have q1 := h1 (k, e) List.mem_cons_self
    cases hb : b k with
    | true =>
      have fR2 : (nums (e :: es) k).foldl (mS2 S bd g lack wt) (w, b', mo, lf) = (nums es (k + 1)).foldl (mS2 S bd g lack wt) (w, b', mo, lf) := by
        show (nums es (k + 1)).foldl (mS2 S bd g lack wt) (mS2 S bd g lack wt (w, b', mo, lf) (k, e)) = _
        unfold mS2
        rw [if_pos (show b' k = true from q1.trans hb)]
      rw [fR2]
      exact ih (k + 1) w b' mo lf (by omega) (fun q hq => h1 q (List.mem_cons_of_mem _ hq)) (fun q hq => h2 q (List.mem_cons_of_mem _ hq)) (fun q hq => h3 q (List.mem_cons_of_mem _ hq)) h4
    | false =>
      have hwk := h2 (k, e) List.mem_cons_self hb
      obtain ⟨l1, l2, l3⟩ := h3 (k, e) List.mem_cons_self hb
      have l2' : 0 ≤ (g k).toInt := l2
      have l3' : (g k).toInt ≤ 33600 := l3
      have e1 : (g k - mLoss S g lack wt (k, e)).toInt = (g k).toInt - (mLoss S g lack wt (k, e)).toInt := ti_sub (by omega) (by omega)
      have fR2 : (nums (e :: es) k).foldl (mS2 S bd g lack wt) (w, b', mo, lf) = (nums es (k + 1)).foldl (mS2 S bd g lack wt) (upd w k (g k - mLoss S g lack wt (k, e)), ub b' k (decide (g k - mLoss S g lack wt (k, e) < bd k)), mo || decide (g k - mLoss S g lack wt (k, e) < bd k), lf - mLoss S g lack wt (k, e)) := by
        show (nums es (k + 1)).foldl (mS2 S bd g lack wt) (mS2 S bd g lack wt (w, b', mo, lf) (k, e)) = _
        rw [mS2_f (q1.trans hb) hwk]
      rw [fR2]
      refine ih (k + 1) _ _ _ _ (by omega) (fun q hq => ?_) (fun q hq hq2 => ?_) (fun q hq => h3 q (List.mem_cons_of_mem _ hq)) (fun hm j hj => ?_)
      · have := (nums_gx hq).1
        rw [ub_n _ _ (by omega)]; exact h1 q (List.mem_cons_of_mem _ hq)
      · have := (nums_gx hq).1
        rw [upd_n _ _ (by omega)]; exact h2 q (List.mem_cons_of_mem _ hq) hq2
      · rw [Bool.or_eq_false_iff] at hm
        by_cases hj2 : j = k
        · subst hj2
          rw [upd_s]
          have := ti_le.mp (Int32.not_lt.mp (of_decide_eq_false hm.2))
          omega
        · rw [upd_n _ _ hj2]; exact h4 hm.1 j hj
theorem mS3_b (S : zCS) (b : Nat → Bool) (bd g : Nat → Int32) (n : Nat) (hbd : ∀ j, j < n → 0 ≤ (bd j).toInt) : ∀ (es : List Nat) (k : Nat) (p : (Nat → Int32) × Int32), k + es.length ≤ n → mB bd n p.1 → mB bd n ((nums es k).foldl (mS3 S b bd g) p).1 := by
  intro es
  induction es with
  | nil => intro k p _ h; exact h
  | cons e es ih =>
    intro k p hk h
    rw [List.length_cons] at hk
    refine ih (k + 1) (mS3 S b bd g p (k, e)) (by omega) ?_
    unfold mS3
    split
    · exact h
    · split
      · exact h
      · rename_i hx
        intro j hj
        show (bd j).toInt ≤ (upd p.1 k (p.1 k - 1) j).toInt ∧ (upd p.1 k (p.1 k - 1) j).toInt ≤ 950000
        by_cases hj2 : j = k
        · subst hj2
          have h1 := h j hj
          have h2 := hbd j hj
          have h3 : ¬ p.1 j ≤ bd j := fun h9 => hx (Or.inr (Or.inr h9))
          have h4 : (bd j).toInt < (p.1 j).toInt := ti_lt.mp (Int32.not_le.mp h3)
          rw [upd_s, ti_sub (by rw [ti_1]; omega) (by rw [ti_1]; omega), ti_1]
          omega
        · rw [upd_n _ _ hj2]; exact h j hj
/-- items with their bases and bounds -/
def RB (S : zCS) (es : List Nat) (bd g : Nat → Int32) : Prop := ∀ q, q ∈ nums es 0 → (0 ≤ (g q.1).toInt ∧ (g q.1).toInt ≤ 33600) ∧ (0 ≤ (bd q.1).toInt ∧ (bd q.1).toInt ≤ (g q.1).toInt) ∧ (0 ≤ (kSides S q.2).toInt ∧ (kSides S q.2).toInt ≤ 80) ∧ 0 ≤ (kF S q.2 14).toInt ∧ (kF S q.2 14).toInt ≤ 9
theorem RB.wt {S : zCS} {es : List Nat} {bd g : Nat → Int32} (h : RB S es bd g) {q : Nat × Nat} (hq : q ∈ nums es 0) : (kF S q.2 14 * g q.1).toInt = (kF S q.2 14).toInt * (g q.1).toInt ∧ 0 ≤ (kF S q.2 14 * g q.1).toInt ∧ (kF S q.2 14 * g q.1).toInt ≤ 302400 := by
  obtain ⟨⟨a1, a2⟩, -, -, a3, a4⟩ := h q hq
  have h1 : (0 : Int) ≤ (kF S q.2 14).toInt * (g q.1).toInt := Int.mul_nonneg a3 a1
  have h2 : (kF S q.2 14).toInt * (g q.1).toInt ≤ 9 * 33600 := Int.mul_le_mul a4 a2 a1 (by decide)
  have e := ti_mul (a := kF S q.2 14) (b := g q.1) (by omega) (by omega)
  exact ⟨e, by omega, by omega⟩
theorem RB.lk {S : zCS} {es : List Nat} {bd g : Nat → Int32} (h : RB S es bd g) (b : Nat → Bool) : ∀ q, q ∈ nums es 0 → (0 ≤ ((if b q.1 = true then bd q.1 else g q.1) + kSides S q.2).toInt ∧ ((if b q.1 = true then bd q.1 else g q.1) + kSides S q.2).toInt ≤ 33680) ∧ 0 ≤ (lsW S b g q).toInt ∧ (lsW S b g q).toInt ≤ 302400 := by
  intro q hq
  obtain ⟨a1, a2, a3, -⟩ := h q hq
  have hw := h.wt hq
  refine ⟨?_, ?_⟩
  · split
    · rw [ti_add (by omega) (by omega)]; omega
    · rw [ti_add (by omega) (by omega)]; omega
  · unfold lsW
    split
    · exact ⟨by decide, by decide⟩
    · exact ⟨hw.2.1, hw.2.2⟩
theorem neg_i {x : Int32} (h0 : 0 ≤ x.toInt) (h1 : x.toInt ≤ 2000000000) : (-x).toInt = -x.toInt := by
  rw [Int32.toInt_neg]; exact Int.bmod_eq_of_le (by omega) (by omega)
theorem RB.shP {S : zCS} {es : List Nat} {bd g : Nat → Int32} (h : RB S es bd g) (hl : es.length ≤ 24) {inner : Int32} (h0 : 0 ≤ inner.toInt) (h1 : inner.toInt ≤ 808320) (b : Nat → Bool) :
    (shP S es b bd g inner).1.toInt.natAbs ≤ 900000 ∧ 0 ≤ (shP S es b bd g inner).2.toInt ∧ ∀ q, q ∈ nums es 0 → (lsW S b g q).toInt ≤ (shP S es b bd g inner).2.toInt := by
  have hn := neg_i h0 (by omega)
  obtain ⟨⟨a1, a2⟩, a3, a4⟩ := shLk_b S b bd g es 0 (-inner) 0 (h.lk b) (by omega) (by omega) (by decide) (by rw [ti_0]; omega)
  unfold Pilot.CColumnarPressLaw_law_r6471_6693c1.shP
  exact ⟨by omega, by rw [ti_0] at a3; exact a3, a4⟩
theorem mSh_b {S : zCS} {es : List Nat} {bd g : Nat → Int32} (h : RB S es bd g) (hl : es.length ≤ 24) {inner : Int32} (h0 : 0 ≤ inner.toInt) (h1 : inner.toInt ≤ 808320) : ∀ (f : Nat) (b : Nat → Bool) (j : Nat), j < es.length → 0 ≤ (mShGo S es inner bd g f b j).toInt ∧ (mShGo S es inner bd g f b j).toInt ≤ 950000 := by
  have hq : ∀ j, j < es.length → ∃ x, (j, x) ∈ nums es 0 := fun j hj => by
    have := nums_in (es := es) (k := 0) (j := j) (x := es[j]) (List.getElem?_eq_getElem hj)
    rw [Nat.zero_add] at this
    exact ⟨_, this⟩
  intro f
  induction f with
  | zero =>
    intro b j hj
    show 0 ≤ (0 : Int32).toInt ∧ (0 : Int32).toInt ≤ 950000
    exact ⟨by decide, by decide⟩
  | succ f ih =>
    intro b j hj
    obtain ⟨p1, p2⟩ := sh_1 S b bd g es 0 (fun _ => 0) (-inner) 0
    have hP : (mP1 S es inner b bd g).2 = shP S es b bd g inner := p1
    have hPw : ∀ j, j < es.length → (mP1 S es inner b bd g).1 j = if b j = true then bd j else g j := fun j hj => by
      have := p2 j
      rw [if_pos (by omega)] at this
      exact this
    obtain ⟨s1, s2, s3⟩ := h.shP hl h0 h1 b
    have hB1 : mB bd es.length (mP1 S es inner b bd g).1 := fun j hj => by
      obtain ⟨x, hx⟩ := hq j hj
      obtain ⟨a1, a2, -⟩ := h (j, x) hx
      rw [hPw j hj]
      have a1' : 0 ≤ (g j).toInt ∧ (g j).toInt ≤ 33600 := a1
      have a2' : 0 ≤ (bd j).toInt ∧ (bd j).toInt ≤ (g j).toInt := a2
      split
      · omega
      · omega
    have hbd : ∀ j, j < es.length → 0 ≤ (bd j).toInt := fun j hj => by
      obtain ⟨x, hx⟩ := hq j hj
      exact (h (j, x) hx).2.1.1
    have fin : ∀ w, mB bd es.length w → 0 ≤ (w j).toInt ∧ (w j).toInt ≤ 950000 := fun w hw => by
      have := hw j hj; have := hbd j hj; omega
    unfold mShGo
    rw [hP]
    by_cases hz : (shP S es b bd g inner).2 = 0
    · rw [if_pos hz]; exact fin _ hB1
    · rw [if_neg hz]
      have hpos : 0 < (shP S es b bd g inner).2.toInt := by
        have : (shP S es b bd g inner).2.toInt ≠ 0 := fun e => hz (Int32.toInt_inj.mp e)
        omega
      cases hm : (mP2 S es inner b bd g).2.2.1 with
      | true => rw [if_pos rfl]; exact ih _ j hj
      | false =>
        rw [if_neg (by decide)]
        refine fin _ (mS3_b S b bd g es.length hbd es 0 _ (by omega) ?_)
        have hM2 : mP2 S es inner b bd g = (nums es 0).foldl (mS2 S bd g (shP S es b bd g inner).1 (shP S es b bd g inner).2) ((mP1 S es inner b bd g).1, b, false, (shP S es b bd g inner).1) := by unfold mP2; rw [hP]
        rw [hM2] at hm ⊢
        refine mP2_b S b bd g _ _ es.length es 0 _ b false _ (by omega) (fun _ _ => rfl) (fun q hq2 hb => ?_) (fun q hq2 hb => ?_) (fun _ => hB1) hm
        · rw [hPw q.1 (by have := (nums_gx hq2).2.1; omega), if_neg (by rw [hb]; decide)]
        · have hw := h.wt hq2
          have hs := s3 q hq2
          have hls : lsW S b g q = kF S q.2 14 * g q.1 := by unfold lsW; rw [if_neg (by rw [hb]; decide)]
          rw [hls] at hs
          have := part_abs (lack := (shP S es b bd g inner).1) hw.2.1 hs hpos
          exact ⟨Nat.le_trans this s1, (h q hq2).1⟩
theorem mSh_eq {S : zCS} {es : List Nat} {g : Nat → Int32} (h : RB S es (mBds S es g) g) (hl : es.length ≤ 24) {inner : Int32} (h0 : 0 ≤ inner.toInt) (h1 : inner.toInt ≤ 808320) {j : Nat} (hj : j < es.length) : cShrink S es inner g j = mShrunk S es inner g j ∧ 0 ≤ (mShrunk S es inner g j).toInt ∧ (mShrunk S es inner g j).toInt ≤ 950000 :=
  ⟨shrink_eq S es inner g (fun q hq => ti_le.mpr (by rw [ti_0]; exact (h.wt hq).2.1)) (fun b => ti_le.mpr (by rw [ti_0]; exact (h.shP hl h0 h1 b).2.1)) hj, mSh_b h hl h0 h1 _ _ j hj⟩

theorem gSum_b (S : zCS) : ∀ (es : List Nat) (s : Int32) (n : Nat), (∀ j, j ∈ es → 0 ≤ (kF S j 13).toInt ∧ (kF S j 13).toInt ≤ 9) → 0 ≤ s.toInt → s.toInt ≤ 9 * (n : Int) → n + es.length ≤ 24 → s.toInt ≤ (es.foldl (fun s j => s + kF S j 13) s).toInt ∧ ∀ j, j ∈ es → (kF S j 13).toInt ≤ (es.foldl (fun s j => s + kF S j 13) s).toInt := by
  intro es
  induction es with
  | nil => intro s n _ h1 h2 h3; exact ⟨Int.le_refl _, fun j h => absurd h List.not_mem_nil⟩
  | cons e es ih =>
    intro s n hb h1 h2 h3
    rw [List.length_cons] at h3
    have he := hb e List.mem_cons_self
    have e1 : (s + kF S e 13).toInt = s.toInt + (kF S e 13).toInt := ti_add (by omega) (by omega)
    obtain ⟨i1, i2⟩ := ih (s + kF S e 13) (n + 1) (fun j hj => hb j (List.mem_cons_of_mem _ hj)) (by omega) (by omega) (by omega)
    have i1' : (s + kF S e 13).toInt ≤ ((e :: es).foldl (fun s j => s + kF S j 13) s).toInt := i1
    refine ⟨by omega, fun j hj => ?_⟩
    rcases List.mem_cons.mp hj with e9 | hj
    · rw [e9]; omega
    · exact i2 j hj
theorem gr1_at (S : zCS) (free sum : Int32) : ∀ (es : List Nat) (k : Nat) (p : (Nat → Int32) × Int32), (∀ q, q ∈ nums es k → ((nums es k).foldl (gr1 S free sum) p).1 q.1 = p.1 q.1 + free * kF S q.2 13 / sum) ∧ ∀ j, j < k → ((nums es k).foldl (gr1 S free sum) p).1 j = p.1 j := by
  intro es
  induction es with
  | nil => intro k p; exact ⟨fun q h => absurd h List.not_mem_nil, fun _ _ => rfl⟩
  | cons e es ih =>
    intro k p
    obtain ⟨i1, i2⟩ := ih (k + 1) (gr1 S free sum p (k, e))
    refine ⟨fun q hq => ?_, fun j hj => (i2 j (by omega)).trans (upd_n _ _ (by omega))⟩
    rcases List.mem_cons.mp hq with e9 | hq
    · rw [e9]; exact (i2 k (by omega)).trans (upd_s _ _ _)
    · refine (i1 q hq).trans ?_
      have := (nums_gx hq).1
      show (upd p.1 k _ q.1) + _ = _
      rw [upd_n _ _ (by omega)]
theorem gr2_at (S : zCS) : ∀ (es : List Nat) (k : Nat) (p : (Nat → Int32) × Int32), (∀ j, ((nums es k).foldl (gr2 S) p).1 j = p.1 j ∨ ((nums es k).foldl (gr2 S) p).1 j = p.1 j + 1) ∧ ∀ j, j < k → ((nums es k).foldl (gr2 S) p).1 j = p.1 j := by
  intro es
  induction es with
  | nil => intro k p; exact ⟨fun _ => Or.inl rfl, fun _ _ => rfl⟩
  | cons e es ih =>
    intro k p
    obtain ⟨i1, i2⟩ := ih (k + 1) (gr2 S p (k, e))
    have hg : ∀ j, (gr2 S p (k, e)).1 j = if j = k then ((gr2 S p (k, e)).1 k) else p.1 j := fun j => by
      by_cases hj : j = k
      · rw [hj, if_pos rfl]
      · rw [if_neg hj]
        unfold gr2
        split
        · rfl
        · split
          · rfl
          · exact upd_n _ _ hj
    have hk : (gr2 S p (k, e)).1 k = p.1 k ∨ (gr2 S p (k, e)).1 k = p.1 k + 1 := by
      unfold gr2
      split
      · exact Or.inl rfl
      · split
        · exact Or.inl rfl
        · exact Or.inr (upd_s _ _ _)
    refine ⟨fun j => ?_, fun j hj => (i2 j (by omega)).trans (by rw [hg j, if_neg (by omega)])⟩
    by_cases hj : j = k
    · subst hj
      have := i2 j (by omega)
      have e9 : ((nums (e :: es) j).foldl (gr2 S) p).1 j = (gr2 S p (j, e)).1 j := this
      rw [e9]; exact hk
    · have := i1 j
      rw [hg j, if_neg hj] at this
      exact this
theorem grow_b {S : zCS} {es : List Nat} {g : Nat → Int32} {free : Int32} (hl : es.length ≤ 24) (h13 : ∀ j, j ∈ es → 0 ≤ (kF S j 13).toInt ∧ (kF S j 13).toInt ≤ 9) (hg : ∀ q, q ∈ nums es 0 → 0 ≤ (g q.1).toInt ∧ (g q.1).toInt ≤ 33600) (h0 : 0 ≤ free.toInt) (h1 : free.toInt ≤ 100000000) : ∀ q, q ∈ nums es 0 → 0 ≤ (cGrow S es free g q.1).toInt ∧ (cGrow S es free g q.1).toInt ≤ 33601 + free.toInt := by
  intro q hq
  obtain ⟨s1, s2⟩ := gSum_b S es 0 0 h13 (by decide) (by decide) (by omega)
  have hgq := hg q hq
  have hc1 : 0 ≤ ((cGrow1 S es free g).1 q.1).toInt ∧ ((cGrow1 S es free g).1 q.1).toInt ≤ 33600 + free.toInt := by
    unfold cGrow1
    split
    · show 0 ≤ (g q.1).toInt ∧ (g q.1).toInt ≤ _
      omega
    · rename_i hs
      have hp : 0 < (gSum S es).toInt := by have := ti_lt.mp (Int32.not_le.mp hs); rw [ti_0] at this; exact this
      have hj := nums_mem hq
      have hb := part_pos (free := free) (w := kF S q.2 13) (s := gSum S es) h0 (by omega) (h13 _ hj).1 (h13 _ hj).2 (s2 _ hj) hp
      rw [(gr1_at S free (gSum S es) es 0 (g, if gSum S es = 0 then 0 else free)).1 q hq]
      show 0 ≤ (g q.1 + _).toInt ∧ _
      rw [ti_add (by show _ ≤ (g q.1).toInt + _; omega) (by show (g q.1).toInt + _ ≤ _; omega)]
      show 0 ≤ (g q.1).toInt + _ ∧ (g q.1).toInt + _ ≤ _
      omega
  unfold cGrow
  rcases (gr2_at S es 0 (cGrow1 S es free g)).1 q.1 with e | e
  · rw [e]; omega
  · rw [e, ti_add (by rw [ti_1]; omega) (by rw [ti_1]; omega), ti_1]; omega
theorem inner_eq {S c m : zCS} (hc : SS S c) (hm : SS S m) {i : Nat} (h : kP c i 2 = kP m i 2) : kInner c i = kInner m i := by
  unfold kInner
  rw [hc.f i 12 rfl, hm.f i 12 rfl, h]
/-- the widths of a row's items -/
theorem rowW {S c m : zCS} (hW : WS S) (hc : SS S c) (hm : SS S m) {i : Nat} (hi : i < kN S) (hw2 : kP c i 2 = kP m i 2) (hwb : WB i (kP c i 2)) : ∀ q, q ∈ nums (kItemsOf S i) 0 → cRowW c i q.1 = mRowW m i q.1 ∧ WB q.2 (mRowW m i q.1) := by
  intro q hq
  have hK := hW.1
  have hl := items_len hW hi
  have hn := hK.1
  have hin := inner_b hc hK hi hwb
  have hie := inner_eq hc hm hw2
  have hit : ∀ j, j ∈ kItemsOf S i → i < j ∧ j < kN S := fun j hj => ⟨(items_mem hW hi hj).2.2.1, (items_mem hW hi hj).2.2.2⟩
  have hqj := hit _ (nums_mem hq)
  have hcs : ∀ j, j ∈ kItemsOf S i → 0 ≤ (cW S j false + kSides S j).toInt ∧ (cW S j false + kSides S j).toInt ≤ 33600 := fun j hj => by
    have h1 := cW_b hK (hit j hj).2 false
    have h2 := sides_b hK (hit j hj).2
    have h3 := sz_le hK (hit j hj).2
    rw [ti_add (by omega) (by omega)]
    omega
  obtain ⟨r1, -, r3, r4⟩ := rwA_at S (kItemsOf S i) 0 (fun _ => 0, kInner c i) hcs (by show _ ≤ (kInner c i).toInt; omega) (by show (kInner c i).toInt ≤ _; omega)
  have r3' : (kInner c i).toInt - 33600 * ((kItemsOf S i).length : Int) ≤ ((nums (kItemsOf S i) 0).foldl (rwA S) (fun _ => 0, kInner c i)).2.toInt := r3
  have r4' : ((nums (kItemsOf S i) 0).foldl (rwA S) (fun _ => 0, kInner c i)).2.toInt ≤ (kInner c i).toInt := r4
  have hgb : ∀ q, q ∈ nums (kItemsOf S i) 0 → 0 ≤ (((nums (kItemsOf S i) 0).foldl (rwA S) (fun _ => 0, kInner c i)).1 q.1).toInt ∧ (((nums (kItemsOf S i) 0).foldl (rwA S) (fun _ => 0, kInner c i)).1 q.1).toInt ≤ 33600 := fun q hq => by
    rw [r1 q hq]
    have h1 := cW_b hK (hit _ (nums_mem hq)).2 false
    have h3 := sz_le hK (hit _ (nums_mem hq)).2
    omega
  unfold cRowW mRowW
  rw [congrFun hc.items i, congrFun hm.items i, hc.rwa, hm.rwa, hc.grow, hm.grow, ← hie]
  generalize (nums (kItemsOf S i) 0).foldl (rwA S) (fun _ => 0, kInner c i) = F at r1 r3' r4' hgb ⊢
  by_cases hp : 0 < F.2
  · rw [if_pos hp, if_pos hp]
    have hp' := ti_lt.mp hp
    rw [ti_0] at hp'
    have hb := grow_b (S := S) (free := F.2) hl (fun j hj => (fld hK (hit j hj).2).2.2.2.2.2.2.2.1) hgb (by omega) (by omega) q hq
    refine ⟨rfl, ?_⟩
    unfold WB
    omega
  · rw [if_neg hp, if_neg hp]
    by_cases hlt : F.2 < 0
    · rw [if_pos hlt, if_pos hlt, hm.shrunk]
      have hlt' := ti_lt.mp hlt
      rw [ti_0] at hlt'
      have hRB : RB S (kItemsOf S i) (mBds S (kItemsOf S i) F.1) F.1 := fun q hq => by
        have h1 := hgb q hq
        have h2 := (bds_at S F.1 (kItemsOf S i) 0 (fun _ => 0)).1 q hq
        have h3 := cW_b hK (hit _ (nums_mem hq)).2 true
        have h4 : mBds S (kItemsOf S i) F.1 q.1 = imin (cW S q.2 true) (F.1 q.1) := h2
        refine ⟨h1, ?_, sides_b hK (hit _ (nums_mem hq)).2, (fld hK (hit _ (nums_mem hq)).2).2.2.2.2.2.2.2.2⟩
        rw [h4, ti_min]
        omega
      have hRBc : RB c (kItemsOf S i) (mBds c (kItemsOf S i) F.1) F.1 := fun q hq => by
        rw [hc.bds, hc.sides, hc.f q.2 14 rfl]
        exact hRB q hq
      have hjl : q.1 < (kItemsOf S i).length := by have := (nums_gx hq).2.1; omega
      obtain ⟨e1, e2, e3⟩ := mSh_eq hRBc hl (inner := kInner c i) (by omega) (by omega) hjl
      rw [hc.shrunk] at e1 e2 e3
      refine ⟨e1, ?_⟩
      unfold WB
      omega
    · rw [if_neg hlt, if_neg hlt]
      refine ⟨rfl, ?_⟩
      have := hgb q hq
      unfold WB
      omega
