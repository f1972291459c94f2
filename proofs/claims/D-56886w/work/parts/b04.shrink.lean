/-! ===== the plain law: widths of a row; the two shrinkings are one ===== -/
theorem shD_at (now : Nat → Bool) : ∀ (es : List Nat) (k : Nat) (b : Nat → Bool) (j : Nat), ((nums es k).foldl (shD now) b) j = if k ≤ j ∧ j < k + es.length then (b j || now j) else b j := by
  intro es
  induction es with
  | nil => intro k b j; rw [if_neg (by rw [List.length_nil]; omega)]; rfl
  | cons e es ih =>
    intro k b j
    show ((nums es (k + 1)).foldl (shD now) (shD now b (k, e))) j = _
    rw [ih, List.length_cons]
    have h1 : (shD now b (k, e)) j = if j = k then (b k || now k) else b j := rfl
    rw [h1]
    by_cases hj : j = k
    · subst hj
      rw [if_neg (by omega), if_pos rfl, if_pos (by omega)]
    · rw [if_neg hj]
      by_cases h2 : k + 1 ≤ j ∧ j < k + 1 + es.length
      · rw [if_pos h2, if_pos (by omega)]
      · rw [if_neg h2, if_neg (by omega)]
theorem shE_at (b : Nat → Bool) (bd : Nat → Int32) : ∀ (es : List Nat) (k : Nat) (g : Nat → Int32) (j : Nat), ((nums es k).foldl (shE b bd) g) j = if k ≤ j ∧ j < k + es.length then (if b j = true then bd j else g j) else g j := by
  intro es
  induction es with
  | nil => intro k g j; rw [if_neg (by rw [List.length_nil]; omega)]; rfl
  | cons e es ih =>
    intro k g j
    show ((nums es (k + 1)).foldl (shE b bd) (shE b bd g (k, e))) j = _
    rw [ih, List.length_cons]
    have h1 : (shE b bd g (k, e)) j = if j = k then (if b k = true then bd k else g k) else g j := rfl
    rw [h1]
    by_cases hj : j = k
    · subst hj
      rw [if_neg (show ¬ (j + 1 ≤ j ∧ j < j + 1 + es.length) by omega), if_pos rfl, if_pos (show j ≤ j ∧ j < j + (es.length + 1) by omega)]
    · rw [if_neg hj]
      by_cases h2 : k + 1 ≤ j ∧ j < k + 1 + es.length
      · rw [if_pos h2, if_pos (show k ≤ j ∧ j < k + (es.length + 1) by omega)]
      · rw [if_neg h2, if_neg (show ¬ (k ≤ j ∧ j < k + (es.length + 1)) by omega)]
theorem sh_1 (c : zCS) (b : Nat → Bool) (bd g : Nat → Int32) : ∀ (es : List Nat) (k : Nat) (w : Nat → Int32) (a s : Int32), ((nums es k).foldl (mS1 c b bd g) (w, a, s)).2 = (nums es k).foldl (shLk c b bd g) (a, s) ∧ ∀ j, ((nums es k).foldl (mS1 c b bd g) (w, a, s)).1 j = if k ≤ j ∧ j < k + es.length then (if b j = true then bd j else g j) else w j := by
  intro es
  induction es with
  | nil => intro k w a s; exact ⟨rfl, fun j => by rw [if_neg (by rw [List.length_nil]; omega)]; rfl⟩
  | cons e es ih =>
    intro k w a s
    obtain ⟨i1, i2⟩ := ih (k + 1) (upd w k (if b k = true then bd k else g k)) (a + ((if b k = true then bd k else g k) + kSides c e)) (s + (if b k = true then 0 else kF c e 14 * g k))
    refine ⟨i1, fun j => ?_⟩
    have h9 := i2 j
    rw [List.length_cons]
    have h1 : (upd w k (if b k = true then bd k else g k)) j = if j = k then (if b k = true then bd k else g k) else w j := rfl
    rw [h1] at h9
    refine h9.trans ?_
    by_cases hj : j = k
    · subst hj
      rw [if_neg (show ¬ (j + 1 ≤ j ∧ j < j + 1 + es.length) by omega), if_pos rfl, if_pos (show j ≤ j ∧ j < j + (es.length + 1) by omega)]
    · rw [if_neg hj]
      by_cases h2 : k + 1 ≤ j ∧ j < k + 1 + es.length
      · rw [if_pos h2, if_pos (show k ≤ j ∧ j < k + (es.length + 1) by omega)]
      · rw [if_neg h2, if_neg (show ¬ (k ≤ j ∧ j < k + (es.length + 1)) by omega)]
theorem upd_s (f : Nat → Int32) (k : Nat) (v : Int32) : upd f k v k = v := if_pos rfl
theorem upd_n (f : Nat → Int32) {k j : Nat} (v : Int32) (h : j ≠ k) : upd f k v j = f j := if_neg h
theorem ub_s (f : Nat → Bool) (k : Nat) (v : Bool) : ub f k v k = v := if_pos rfl
theorem ub_n (f : Nat → Bool) {k j : Nat} (v : Bool) (h : j ≠ k) : ub f k v j = f j := if_neg h
theorem mS2_f {c : zCS} {bd g w : Nat → Int32} {b' : Nat → Bool} {lack wt lf : Int32} {mo : Bool} {k e : Nat} (h1 : b' k = false) (h2 : w k = g k) : mS2 c bd g lack wt (w, b', mo, lf) (k, e) = (upd w k (g k - mLoss c g lack wt (k, e)), ub b' k (decide (g k - mLoss c g lack wt (k, e) < bd k)), mo || decide (g k - mLoss c g lack wt (k, e) < bd k), lf - mLoss c g lack wt (k, e)) := by
  have e1 : mS2 c bd g lack wt (w, b', mo, lf) (k, e) = if b' k = true then (w, b', mo, lf) else if bd k ≤ w k - mLoss c g lack wt (k, e) then (upd w k (w k - mLoss c g lack wt (k, e)), b', mo, lf - mLoss c g lack wt (k, e)) else (upd w k (w k - mLoss c g lack wt (k, e)), ub b' k true, true, lf - mLoss c g lack wt (k, e)) := rfl
  rw [e1, if_neg (by rw [h1]; decide), h2]
  by_cases h9 : bd k ≤ g k - mLoss c g lack wt (k, e)
  · rw [if_pos h9, decide_eq_false (Int32.not_lt.mpr h9), Bool.or_false]
    have e2 : ub b' k false = b' := by
      funext j
      by_cases hj : j = k
      · subst hj; rw [ub_s, h1]
      · exact ub_n _ _ hj
    rw [e2]
  · rw [if_neg h9, decide_eq_true (Int32.not_le.mp h9), Bool.or_true]
/-- one round: what is frozen now, and what each loses -/
theorem sh_A (c : zCS) (b : Nat → Bool) (bd g : Nat → Int32) (lack wt : Int32) : ∀ (es : List Nat) (k : Nat) (w : Nat → Int32) (b' : Nat → Bool) (mo : Bool) (lf : Int32) (now : Nat → Bool) (g' : Nat → Int32) (hw : Nat → Bool),
    (∀ j, b' j = if j < k then (b j || now j) else b j) → (∀ j, k ≤ j → g' j = g j) → (∀ j, j < k + es.length → w j = if b j = true then bd j else g' j) →
    (∀ j, ((nums es k).foldl (mS2 c bd g lack wt) (w, b', mo, lf)).2.1 j = if j < k + es.length then (b j || ((nums es k).foldl (shC c b bd g lack wt) (now, mo)).1 j) else b j) ∧
    ((nums es k).foldl (mS2 c bd g lack wt) (w, b', mo, lf)).2.2.1 = ((nums es k).foldl (shC c b bd g lack wt) (now, mo)).2 ∧
    (∀ j, j < k + es.length → ((nums es k).foldl (mS2 c bd g lack wt) (w, b', mo, lf)).1 j = if b j = true then bd j else ((nums es k).foldl (ls1 c b lack wt) (g', hw, lf)).1 j) ∧
    ((nums es k).foldl (mS2 c bd g lack wt) (w, b', mo, lf)).2.2.2 = ((nums es k).foldl (ls1 c b lack wt) (g', hw, lf)).2.2 ∧
    (∀ q, q ∈ nums es k → ((nums es k).foldl (ls1 c b lack wt) (g', hw, lf)).2.1 q.1 = decide (0 < lsW c b g q)) ∧
    (∀ j, j < k → ((nums es k).foldl (ls1 c b lack wt) (g', hw, lf)).2.1 j = hw j) ∧
    (((nums es k).foldl (shC c b bd g lack wt) (now, mo)).2 = false → mo = false ∧ ∀ j, (j < k → ((nums es k).foldl (shC c b bd g lack wt) (now, mo)).1 j = now j) ∧ (k ≤ j → j < k + es.length → ((nums es k).foldl (shC c b bd g lack wt) (now, mo)).1 j = false)) ∧
    (∀ j, j < k → ((nums es k).foldl (shC c b bd g lack wt) (now, mo)).1 j = now j) := by
  intro es
  induction es with
  | nil =>
    intro k w b' mo lf now g' hw h1 h2 h3
    exact ⟨h1, rfl, h3, rfl, fun q hq => absurd hq List.not_mem_nil, fun _ _ => rfl, fun h => ⟨h, fun j => ⟨fun _ => rfl, fun a b => by rw [List.length_nil] at b; omega⟩⟩, fun _ _ => rfl⟩
  | cons e es ih =>
    intro k w b' mo lf now g' hw h1 h2 h3
    rw [List.length_cons] at h3 ⊢
    have hbk : b' k = b k := by rw [h1 k, if_neg (by omega)]
    have hgk : g' k = g k := h2 k (Nat.le_refl _)
    have hlw : lsW c b g' (k, e) = lsW c b g (k, e) := by unfold lsW; rw [hgk]
    have fR1 : (nums (e :: es) k).foldl (ls1 c b lack wt) (g', hw, lf) = (nums es (k + 1)).foldl (ls1 c b lack wt) (upd g' k (g' k - lack * lsW c b g (k, e) / wt), ub hw k (decide (0 < lsW c b g (k, e))), lf - lack * lsW c b g (k, e) / wt) := by
      show (nums es (k + 1)).foldl (ls1 c b lack wt) (ls1 c b lack wt (g', hw, lf) (k, e)) = _
      unfold ls1
      rw [hlw]
    have fRC : (nums (e :: es) k).foldl (shC c b bd g lack wt) (now, mo) = (nums es (k + 1)).foldl (shC c b bd g lack wt) (ub now k (shNow c b bd g lack wt (k, e)), mo || shNow c b bd g lack wt (k, e)) := rfl
    cases hb : b k with
    | true =>
      have hn : shNow c b bd g lack wt (k, e) = false := by unfold shNow; rw [hb]; rfl
      have hl0 : lsW c b g (k, e) = 0 := by unfold lsW; rw [if_pos hb]
      have fR2 : (nums (e :: es) k).foldl (mS2 c bd g lack wt) (w, b', mo, lf) = (nums es (k + 1)).foldl (mS2 c bd g lack wt) (w, b', mo, lf) := by
        show (nums es (k + 1)).foldl (mS2 c bd g lack wt) (mS2 c bd g lack wt (w, b', mo, lf) (k, e)) = _
        unfold mS2
        rw [if_pos (show b' k = true by rw [hbk, hb])]
      rw [hn, Bool.or_false] at fRC
      rw [hl0, Int32.mul_zero, Int32.zero_div, Int32.sub_zero, Int32.sub_zero] at fR1
      rw [fR1, fRC, fR2]
      obtain ⟨i1, i2, i3, i4, i5, i6, i7, i8⟩ := ih (k + 1) w b' mo lf (ub now k false) (upd g' k (g' k)) (ub hw k (decide ((0 : Int32) < 0))) (fun j => by
        rw [h1 j]
        by_cases hj : j = k
        · subst hj; rw [if_neg (by omega), if_pos (by omega), hb, Bool.true_or]
        · rw [ub_n _ _ hj]
          by_cases h9 : j < k
          · rw [if_pos h9, if_pos (by omega)]
          · rw [if_neg h9, if_neg (by omega)]) (fun j hj => by rw [upd_n _ _ (by omega)]; exact h2 j (by omega)) (fun j hj => by
        rw [h3 j (by omega)]
        by_cases hj2 : j = k
        · subst hj2; rw [if_pos hb, if_pos hb]
        · rw [upd_n _ _ hj2])
      rw [show k + 1 + es.length = k + (es.length + 1) by omega] at i1 i3 i7
      refine ⟨i1, i2, i3, i4, fun q hq => ?_, fun j hj => (i6 j (by omega)).trans (ub_n _ _ (by omega)), fun h => ⟨(i7 h).1, fun j => ⟨fun hj => (((i7 h).2 j).1 (by omega)).trans (ub_n _ _ (by omega)), fun ha hb9 => ?_⟩⟩, fun j hj => (i8 j (by omega)).trans (ub_n _ _ (by omega))⟩
      · rcases List.mem_cons.mp hq with e9 | hq
        · rw [e9]
          rw [i6 k (by omega), ub_s, hl0]
        · exact i5 q hq
      · by_cases hj : j = k
        · subst hj; rw [((i7 h).2 j).1 (by omega), ub_s]
        · exact ((i7 h).2 j).2 (by omega) hb9
    | false =>
      have hwk : w k = g k := by rw [h3 k (by omega), if_neg (by rw [hb]; decide), hgk]
      have hls : lsW c b g (k, e) = kF c e 14 * g k := by unfold lsW; rw [if_neg (by rw [hb]; decide)]
      have hlo : lack * lsW c b g (k, e) / wt = mLoss c g lack wt (k, e) := by rw [hls]; rfl
      have hnw : shNow c b bd g lack wt (k, e) = decide (g k - mLoss c g lack wt (k, e) < bd k) := by unfold shNow; rw [hb]; rfl
      have fR2 : (nums (e :: es) k).foldl (mS2 c bd g lack wt) (w, b', mo, lf) = (nums es (k + 1)).foldl (mS2 c bd g lack wt) (upd w k (g k - mLoss c g lack wt (k, e)), ub b' k (shNow c b bd g lack wt (k, e)), mo || shNow c b bd g lack wt (k, e), lf - mLoss c g lack wt (k, e)) := by
        show (nums es (k + 1)).foldl (mS2 c bd g lack wt) (mS2 c bd g lack wt (w, b', mo, lf) (k, e)) = _
        rw [mS2_f (by rw [hbk, hb]) hwk, hnw]
      rw [hlo] at fR1
      rw [fR1, fRC, fR2]
      obtain ⟨i1, i2, i3, i4, i5, i6, i7, i8⟩ := ih (k + 1) (upd w k (g k - mLoss c g lack wt (k, e))) (ub b' k (shNow c b bd g lack wt (k, e))) (mo || shNow c b bd g lack wt (k, e)) (lf - mLoss c g lack wt (k, e)) (ub now k (shNow c b bd g lack wt (k, e))) (upd g' k (g' k - mLoss c g lack wt (k, e))) (ub hw k (decide (0 < lsW c b g (k, e)))) (fun j => by
        by_cases hj : j = k
        · subst hj; rw [ub_s, ub_s, if_pos (by omega), hb, Bool.false_or]
        · rw [ub_n _ _ hj, ub_n _ _ hj, h1 j]
          by_cases h9 : j < k
          · rw [if_pos h9, if_pos (by omega)]
          · rw [if_neg h9, if_neg (by omega)]) (fun j hj => by rw [upd_n _ _ (by omega)]; exact h2 j (by omega)) (fun j hj => by
        by_cases hj2 : j = k
        · subst hj2; rw [upd_s, upd_s, if_neg (by rw [hb]; decide), hgk]
        · rw [upd_n _ _ hj2, upd_n _ _ hj2, h3 j (by omega)])
      rw [show k + 1 + es.length = k + (es.length + 1) by omega] at i1 i3 i7
      refine ⟨i1, i2, i3, i4, fun q hq => ?_, fun j hj => (i6 j (by omega)).trans (ub_n _ _ (by omega)), fun h => ?_, fun j hj => (i8 j (by omega)).trans (ub_n _ _ (by omega))⟩
      · rcases List.mem_cons.mp hq with e9 | hq
        · rw [e9]
          exact (i6 k (by omega)).trans (ub_s _ _ _)
        · exact i5 q hq
      · obtain ⟨m1, m2⟩ := i7 h
        rw [Bool.or_eq_false_iff] at m1
        refine ⟨m1.1, fun j => ⟨fun hj => ((m2 j).1 (by omega)).trans (ub_n _ _ (by omega)), fun ha hb9 => ?_⟩⟩
        by_cases hj : j = k
        · subst hj; rw [(m2 j).1 (by omega), ub_s, m1.2]
        · exact (m2 j).2 (by omega) hb9
/-- what is left is taken one by one -/
theorem sh_B (c : zCS) (b h : Nat → Bool) (bd g : Nat → Int32) (n : Nat) : ∀ (es : List Nat) (k : Nat) (w g1 : Nat → Int32) (lf : Int32), k + es.length ≤ n → (∀ q, q ∈ nums es k → h q.1 = decide (0 < lsW c b g q)) → (∀ q, q ∈ nums es k → 0 ≤ kF c q.2 14 * g q.1) → (∀ j, j < n → w j = if b j = true then bd j else g1 j) →
    ∀ j, j < n → ((nums es k).foldl (mS3 c b bd g) (w, lf)).1 j = if b j = true then bd j else ((nums es k).foldl (ls2 h bd) (g1, lf)).1 j := by
  intro es
  induction es with
  | nil => intro k w g1 lf _ _ _ h4; exact h4
  | cons e es ih =>
    intro k w g1 lf hk h2 h3 h4
    rw [List.length_cons] at hk
    have hq2 := h2 (k, e) List.mem_cons_self
    have hq3 := h3 (k, e) List.mem_cons_self
    have hS : ∀ w' g1' lf', mS3 c b bd g (w, lf) (k, e) = (w', lf') → ls2 h bd (g1, lf) (k, e) = (g1', lf') → (∀ j, j < n → w' j = if b j = true then bd j else g1' j) → ∀ j, j < n → ((nums (e :: es) k).foldl (mS3 c b bd g) (w, lf)).1 j = if b j = true then bd j else ((nums (e :: es) k).foldl (ls2 h bd) (g1, lf)).1 j := by
      intro w' g1' lf' e1 e2 e3
      show ∀ j, j < n → ((nums es (k + 1)).foldl (mS3 c b bd g) (mS3 c b bd g (w, lf) (k, e))).1 j = if b j = true then bd j else ((nums es (k + 1)).foldl (ls2 h bd) (ls2 h bd (g1, lf) (k, e))).1 j
      rw [e1, e2]
      exact ih (k + 1) w' g1' lf' (by omega) (fun q hq => h2 q (List.mem_cons_of_mem _ hq)) (fun q hq => h3 q (List.mem_cons_of_mem _ hq)) e3
    by_cases hl : lf ≤ 0
    · exact hS w g1 lf (if_pos hl) (if_pos hl) h4
    · cases hb : b k with
      | true =>
        have hz : h k = false := by rw [hq2]; unfold lsW; rw [if_pos hb]; rfl
        exact hS w g1 lf ((if_neg hl).trans (if_pos (Or.inl hb))) ((if_neg hl).trans (if_pos hz)) h4
      | false =>
        have hwk : w k = g1 k := by rw [h4 k (by omega), if_neg (by rw [hb]; decide)]
        have hls : lsW c b g (k, e) = kF c e 14 * g k := by unfold lsW; rw [if_neg (by rw [hb]; decide)]
        rw [hls] at hq2
        by_cases hz : kF c e 14 * g k = 0
        · refine hS w g1 lf ((if_neg hl).trans (if_pos (Or.inr (Or.inl hz)))) ((if_neg hl).trans (if_pos ?_)) h4
          show h k = false
          rw [hq2, hz]; rfl
        · have hhk : h k = true := by
            rw [hq2]
            refine decide_eq_true (Int32.lt_of_le_of_ne hq3 (fun e9 => hz e9.symm))
          by_cases hd : g1 k ≤ bd k
          · exact hS w g1 lf ((if_neg hl).trans (if_pos (Or.inr (Or.inr (by show w k ≤ bd k; rw [hwk]; exact hd))))) ((if_neg hl).trans ((if_neg (by show ¬ h k = false; rw [hhk]; decide)).trans (if_pos hd))) h4
          · refine hS (upd w k (w k - 1)) (upd g1 k (g1 k - 1)) (lf + (-1)) ((if_neg hl).trans (if_neg (fun h9 => ?_))) ((if_neg hl).trans ((if_neg (by show ¬ h k = false; rw [hhk]; decide)).trans (if_neg hd))) (fun j hj => ?_)
            · rcases h9 with h9 | h9 | h9
              · have h9' : b k = true := h9
                rw [hb] at h9'; cases h9'
              · exact hz h9
              · exact hd (hwk ▸ h9)
            · by_cases hj2 : j = k
              · subst hj2; rw [upd_s, upd_s, if_neg (by rw [hb]; decide), hwk]
              · rw [upd_n _ _ hj2, upd_n _ _ hj2]; exact h4 j hj
theorem sh_eq (c : zCS) (es : List Nat) (bd g : Nat → Int32) (inner : Int32) (hnn : ∀ q, q ∈ nums es 0 → 0 ≤ kF c q.2 14 * g q.1) (hsum : ∀ b, 0 ≤ (shP c es b bd g inner).2) : ∀ (f : Nat) (b : Nat → Bool), shCnt b es.length < f → ∀ j, j < es.length → ((nums es 0).foldl (shE (shLoop c es bd inner f b g).2 bd) (shLoop c es bd inner f b g).1) j = mShGo c es inner bd g f b j := by
  intro f
  induction f with
  | zero => intro b h; omega
  | succ f ih =>
    intro b hf j hj
    obtain ⟨p1, p2⟩ := sh_1 c b bd g es 0 (fun _ => 0) (-inner) 0
    have hP : (mP1 c es inner b bd g).2 = shP c es b bd g inner := p1
    have hPw : ∀ j, j < es.length → (mP1 c es inner b bd g).1 j = if b j = true then bd j else g j := fun j hj => by
      have := p2 j
      rw [if_pos (by omega)] at this
      exact this
    have hnn0 := hsum b
    unfold mShGo shLoop
    rw [hP]
    by_cases hz : (shP c es b bd g inner).2 = 0
    · have hle : (shP c es b bd g inner).2 ≤ 0 := by rw [hz]; exact Int32.le_refl _
      have hQ : shQ c es b bd g (shP c es b bd g inner).1 (shP c es b bd g inner).2 = (fun _ => false, false) := if_pos hle
      rw [if_pos hz, hQ, if_neg (show ¬ (false = true) by decide), if_pos hle, hPw j hj]
      show ((nums es 0).foldl (shE ((nums es 0).foldl (shD (fun _ => false)) b) bd) g) j = _
      rw [shE_at, if_pos (show 0 ≤ j ∧ j < 0 + es.length by omega), shD_at, if_pos (show 0 ≤ j ∧ j < 0 + es.length by omega), Bool.or_false]
    · have hnle : ¬ (shP c es b bd g inner).2 ≤ 0 := fun h => hz (Int32.le_antisymm h hnn0)
      have hQ : shQ c es b bd g (shP c es b bd g inner).1 (shP c es b bd g inner).2 = (nums es 0).foldl (shC c b bd g (shP c es b bd g inner).1 (shP c es b bd g inner).2) (fun _ => false, false) := if_neg hnle
      have hM2 : mP2 c es inner b bd g = (nums es 0).foldl (mS2 c bd g (shP c es b bd g inner).1 (shP c es b bd g inner).2) ((mP1 c es inner b bd g).1, b, false, (shP c es b bd g inner).1) := by unfold mP2; rw [hP]
      obtain ⟨a1, a2, a3, a4, a5, -, a7, -⟩ := sh_A c b bd g (shP c es b bd g inner).1 (shP c es b bd g inner).2 es 0 (mP1 c es inner b bd g).1 b false (shP c es b bd g inner).1 (fun _ => false) g (fun _ => false) (fun j => by rw [if_neg (by omega)]) (fun _ _ => rfl) (fun j hj => hPw j (by omega))
      rw [← hM2] at a1 a2 a3 a4
      rw [← hQ] at a1 a2 a7
      rw [if_neg hz, a2]
      cases hg : (shQ c es b bd g (shP c es b bd g inner).1 (shP c es b bd g inner).2).2 with
      | true =>
        rw [if_pos rfl, if_pos rfl]
        have hb2 : (mP2 c es inner b bd g).2.1 = (nums es 0).foldl (shD (shQ c es b bd g (shP c es b bd g inner).1 (shP c es b bd g inner).2).1) b := by
          funext j
          rw [a1 j, shD_at]
          by_cases h9 : j < 0 + es.length
          · rw [if_pos h9, if_pos ⟨Nat.zero_le _, h9⟩]
          · rw [if_neg h9, if_neg (fun h => h9 h.2)]
        rw [hb2]
        have hlt := sh_less c es b bd g (shP c es b bd g inner).1 (shP c es b bd g inner).2 hg
        exact ih _ (by omega) j hj
      | false =>
        rw [if_neg (show ¬ (false = true) by decide), if_neg hnle, if_neg (show ¬ (false = true) by decide)]
        show ((nums es 0).foldl (shE ((nums es 0).foldl (shD (shQ c es b bd g (shP c es b bd g inner).1 (shP c es b bd g inner).2).1) b) bd) (cLose c es b bd (shP c es b bd g inner).1 (shP c es b bd g inner).2 g)) j = _
        rw [shE_at, if_pos (show 0 ≤ j ∧ j < 0 + es.length by omega), shD_at, if_pos (show 0 ≤ j ∧ j < 0 + es.length by omega), ((a7 hg).2 j).2 (Nat.zero_le _) (by omega), Bool.or_false]
        have := sh_B c b (cLose1 c es b (shP c es b bd g inner).1 (shP c es b bd g inner).2 g).2.1 bd g es.length es 0 (mP2 c es inner b bd g).1 (cLose1 c es b (shP c es b bd g inner).1 (shP c es b bd g inner).2 g).1 (cLose1 c es b (shP c es b bd g inner).1 (shP c es b bd g inner).2 g).2.2 (by omega) a5 hnn (fun j hj => a3 j (by omega)) j hj
        rw [show (mP2 c es inner b bd g).2.2.2 = (cLose1 c es b (shP c es b bd g inner).1 (shP c es b bd g inner).2 g).2.2 from a4]
        exact this.symm
theorem mBd_eq (c : zCS) (g : Nat → Int32) : mBd c g = shBd c g := by
  funext f q
  unfold mBd shBd
  rw [imin_comm]
theorem shrink_eq (c : zCS) (es : List Nat) (inner : Int32) (g : Nat → Int32) (hnn : ∀ q, q ∈ nums es 0 → 0 ≤ kF c q.2 14 * g q.1) (hsum : ∀ b, 0 ≤ (shP c es b (mBds c es g) g inner).2) {j : Nat} (hj : j < es.length) : cShrink c es inner g j = mShrunk c es inner g j := by
  have e : (nums es 0).foldl (shBd c g) (fun _ => 0) = mBds c es g := by unfold mBds; rw [mBd_eq]
  unfold cShrink mShrunk
  rw [e]
  exact sh_eq c es (mBds c es g) g inner hnn hsum (es.length + 1) (fun _ => false) (by have := shCnt_le (fun _ => false) es.length; omega) j hj
