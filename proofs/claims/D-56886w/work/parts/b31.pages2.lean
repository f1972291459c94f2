/-! ===== the plain law: the answers about pages ===== -/
theorem a_pages {c m : zCS} (hJ : J c m) (hU : UM m ≤ 1000) (h : Int32) : AG [2, 3] (pPages c h) (nPages m h) := by
  obtain ⟨S, hB, hL⟩ := hJ.two
  unfold pPages nPages
  by_cases hh : btw h 10 400 = true
  · rw [if_pos hh, if_pos hh]
    rcases hL with ⟨h1, h2⟩ | ⟨⟨h1, h2⟩, h3⟩
    · rw [if_pos h1, if_pos h2]; exact ⟨rfl, fun h => by cases h⟩
    · rw [if_neg h1, if_neg h2]
      refine ⟨rfl, fun _ => congrArg Value.int ?_⟩
      obtain ⟨⟨p1, p2⟩, p3⟩ := pages_eq hB h3 h hU
      have e : nPaged m h = Pg m h (nAllU m).2 := rfl
      rw [e, ← p1]
      rcases p3 with ⟨q1, q2, q3⟩ | ⟨q1, q2, q3, q4, q5, q6⟩
      · rw [q1] at p2
        rw [List.length_eq_zero_iff.mp p2, q2]
        rfl
      · exact q6.symm
  · rw [if_neg hh, if_neg hh]; exact ⟨rfl, fun h => by cases h⟩
theorem a_pageOf {c m : zCS} (hJ : J c m) (hU : UM m ≤ 1000) (h n l : Int32) : AG [2, 1, 3, 5] (pPageOf c h n l) (nPageOf m h n l) := by
  obtain ⟨S, hB, hL⟩ := hJ.two
  obtain ⟨n1, n2, n3⟩ := hB.n
  unfold pPageOf nPageOf pLaid pBox
  rw [n1]
  by_cases hh : btw h 10 400 = true
  · rw [if_pos hh, if_pos hh]
    by_cases hn : btw n 0 (nI (kN c) - 1) = true
    · rw [if_pos hn, if_pos hn]
      dsimp only
      rcases hL with ⟨h1, h2⟩ | ⟨⟨h1, h2⟩, h3⟩
      · rw [if_pos h1, if_pos h2]; exact ⟨rfl, fun h => by cases h⟩
      · rw [if_neg h1, if_neg h2]
        obtain ⟨⟨p1, -⟩, -⟩ := pages_eq hB h3 h hU
        have e : nPaged m h = Pg m h (nAllU m).2 := rfl
        have ei : pIs c n.toNatClampNeg l = pIs m n.toNatClampNeg l := by funext u; unfold pIs; rw [hB.1.2.1.text, hB.1.2.2.text]
        rw [e, ← p1, ei]
        cases (gU (pgAll c h)).find? (pIs m n.toNatClampNeg l) with
        | none => exact ⟨rfl, fun h => by cases h⟩
        | some u => exact ⟨rfl, fun _ => rfl⟩
    · rw [if_neg hn, if_neg hn]; exact ⟨rfl, fun h => by cases h⟩
  · rw [if_neg hh, if_neg hh]; exact ⟨rfl, fun h => by cases h⟩
