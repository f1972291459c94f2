/-! ===== the plain law: the component is always consistent ===== -/
theorem fold_and {f : Nat → Bool} : ∀ (l : List Nat), (∀ j, j ∈ l → f j = true) → l.foldl (fun r j => r && f j) true = true := by
  intro l
  induction l with
  | nil => intro _; rfl
  | cons j l ih =>
    intro h
    rw [List.foldl_cons, h j List.mem_cons_self]
    exact ih (fun q hq => h q (List.mem_cons_of_mem _ hq))
theorem a_cons {c m : zCS} (hJ : J c m) : pCons c = true := by
  obtain ⟨S, ⟨⟨hW, hc, hm⟩, h20, htx, h00, hCA, hCB, hct, hdp, -⟩, hL⟩ := hJ
  unfold pCons
  rcases hL with ⟨h1, -⟩ | ⟨hw, -, -, h4⟩
  · exact if_pos h1
  · rw [if_neg (ne_m1.mpr (by omega))]
    have hs0 : SS S (kZ (kClr c (kN c))) := hc
    have hN0 : 0 < kN c := by rw [hc.n]; exact hW.2.2.1
    have z0 : kP (kZ (kClr c (kN c))) 0 0 = 0 ∧ kP (kZ (kClr c (kN c))) 0 1 = 0 := ⟨if_pos hN0, if_pos hN0⟩
    have g2 := (all_ok true hW 0 0 (kLw c) hs0 hm (show WB 0 (kLw c) by unfold WB; omega) z0 (fun h => by cases h)).1
    have g1 := h4 m 0 hm
    have tl := TL.All true (kZ (kClr c (kN c)), 0) (kLw c)
    have e : pChk c = (cAll (L24 true) (kZ (kClr c (kN c)), 0) (kLw c)).1 := rfl
    rw [e]
    generalize (cAll (L24 true) (kZ (kClr c (kN c)), 0) (kLw c)).1 = C at g2 tl ⊢
    generalize (mAllL M24 (m, 0) (kLw c)).1 = T at g1 g2
    refine fold_and _ (fun j hj => ?_)
    have hjN : j < kN S := by rw [← hc.n]; exact List.mem_range.mp hj
    have w1 := g1.wh hW hjN
    have w2 := g2.wh hW hjN
    have hxy : kP c j 0 = kP C j 0 ∧ kP c j 1 = kP C j 1 := by
      rcases Classical.em (RT S j) with hr | hr
      · have q1 := (g1 j hjN hr).2.2.2
        have q2 := (g2 j hjN hr).2.2.2
        exact ⟨q1.1.trans q2.1.symm, q1.2.trans q2.2.symm⟩
      · have hj0 : j ≠ 0 := fun h => hr (Or.inl h)
        have hjl : kLifted S j = false := by
          cases h : kLifted S j with
          | false => rfl
          | true => exact absurd (Or.inr h) hr
        have q1 := (g1.geo hW hjN hj0 hjl).1
        have q2 := (g2.geo hW hjN hj0 hjl).1
        exact ⟨q1.1.trans q2.1.symm, q1.2.trans q2.2.symm⟩
    have hln : kLn c j = kLn C j ∧ lsum (kLn c j) 0 = nI (kWd c j).length := by
      cases ht : kText S j with
      | true =>
        obtain ⟨a1, a2⟩ := w1.2.2 ht
        obtain ⟨b1, b2⟩ := w2.2.2 ht
        exact ⟨a1.trans b1.symm, by rw [a1, a2, hc.wd]⟩
      | false =>
        obtain ⟨t1, t2, -⟩ := htx j ht
        have t3 : kLn C j = kLn (kZ (kClr c (kN c))) j := tl.2 j (by rw [hs0.text]; exact ht)
        have t4 : kLn (kZ (kClr c (kN c))) j = [] := if_pos (show j < kN c by rw [hc.n]; exact hjN)
        rw [t3, t4, t2, hc.wd, t1]
        exact ⟨rfl, rfl⟩
    unfold okB pLike
    rw [Bool.and_eq_true]
    exact ⟨decide_eq_true ⟨hxy, ⟨w1.1.trans w2.1.symm, w1.2.1.trans w2.2.1.symm⟩, hln.1⟩, decide_eq_true hln.2⟩
theorem a_ctx {c m : zCS} (hJ : J c m) : kCt c = kCt m := by
  obtain ⟨S, hB, -⟩ := hJ
  exact hB.2.2.2.2.2.2.1
