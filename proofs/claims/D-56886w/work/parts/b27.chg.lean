/-! ===== the plain law: the changes and their answers (rows printed by tools/mk27.py) ===== -/
theorem p_set {c m : zCS} (hJ : J c m) (l : List Nat) (n : Int32) (ok : Bool) (k0 : Nat) (u u' : Nat → zCS) (h1 : kap l 1 = 1) (h2 : ok = true ∨ kap l 2 = 2) (hv : ∀ i, kF c i k0 = kF m i k0) (hu : ∀ i, i < kN c → KWf (u i) → J (u i) (u' i)) (hK : KWf (pSt c n ok k0 u).2) :
    AG l (pSt c n ok k0 u).1 (pSt m n ok k0 u').1 ∧ J (pSt c n ok k0 u).2 (pSt m n ok k0 u').2 := by
  obtain ⟨S, hB, -⟩ := hJ.two
  obtain ⟨n1, n2, n3⟩ := hB.n
  unfold pSt at hK ⊢
  rw [n1]
  by_cases hn : btw n 0 (nI (kN c) - 1) = true
  · rw [if_pos hn] at hK ⊢
    rw [if_pos hn]
    cases ok with
    | true =>
      rw [if_pos rfl] at hK ⊢
      rw [if_pos rfl]
      exact ⟨⟨rfl, fun _ => congrArg Value.int (hv _)⟩, hu _ (inN (by omega) hn) hK⟩
    | false =>
      rw [if_neg Bool.false_ne_true, if_neg Bool.false_ne_true]
      refine ⟨⟨?_, fun h => by cases h⟩, hJ⟩
      show 2 = kap l 2
      rcases h2 with h | h
      · cases h
      · exact h.symm
  · rw [if_neg hn, if_neg hn]
    exact ⟨⟨h1.symm, fun h => by cases h⟩, hJ⟩
theorem J.f {c m : zCS} (hJ : J c m) (k : Nat) (hk : k ≠ 25) (i : Nat) : kF c i k = kF m i k := by
  obtain ⟨S, hB, -⟩ := hJ.two
  by_cases h20 : k = 20
  · subst h20; exact (hB.2.1 i).1
  · by_cases h22 : k = 22
    · subst h22; exact (hB.2.1 i).2
    · have hk9 : (k == 22 || (k == 20 || k == 25)) = false := by
        simp only [Bool.or_eq_false_iff, beq_eq_false_iff_ne]
        exact ⟨h22, h20, hk⟩
      rw [hB.1.2.1.f i k hk9, hB.1.2.2.f i k hk9]
theorem p_Size {c m : zCS} (hJ : J c m) (n : Int32) (a b : Int32) (hK : KWf (pSt c n (btw a (-1) 400 && btw b (-1) 400) 6 (fun i => (kTouch (kSetF (kSetF c i 6 a) i 7 b) i))).2) : AG [1, 2] (pSt c n (btw a (-1) 400 && btw b (-1) 400) 6 (fun i => (kTouch (kSetF (kSetF c i 6 a) i 7 b) i))).1 (pSt m n (btw a (-1) 400 && btw b (-1) 400) 6 (fun i => (mMark (kSetF (kSetF m i 6 a) i 7 b) i))).1 ∧ J (pSt c n (btw a (-1) 400 && btw b (-1) 400) 6 (fun i => (kTouch (kSetF (kSetF c i 6 a) i 7 b) i))).2 (pSt m n (btw a (-1) 400 && btw b (-1) 400) 6 (fun i => (mMark (kSetF (kSetF m i 6 a) i 7 b) i))).2 := by
  obtain ⟨S, hB, -⟩ := hJ.two
  exact p_set hJ [1, 2] n _ 6 _ _ rfl (Or.inr rfl) (hJ.f 6 (by decide)) (fun i hi hk => J.set hJ hi (((FS.rf i c).set 6 a (by decide) (by decide) (by decide)).set 7 b (by decide) (by decide) (by decide)) (((FS.rf i m).set 6 a (by decide) (by decide) (by decide)).set 7 b (by decide) (by decide) (by decide)) ((hB.pr.set i 6 a).set i 7 b) hk) hK
theorem p_Margins {c m : zCS} (hJ : J c m) (n : Int32) (a b e f : Int32) (hK : KWf (pSt c n (btw a (-40) 40 && btw b (-40) 40 && btw e 0 40 && btw f 0 40) 8 (fun i => (kTouch (kSetF (kSetF (kSetF (kSetF c i 8 a) i 9 b) i 10 e) i 11 f) i))).2) : AG [1, 2] (pSt c n (btw a (-40) 40 && btw b (-40) 40 && btw e 0 40 && btw f 0 40) 8 (fun i => (kTouch (kSetF (kSetF (kSetF (kSetF c i 8 a) i 9 b) i 10 e) i 11 f) i))).1 (pSt m n (btw a (-40) 40 && btw b (-40) 40 && btw e 0 40 && btw f 0 40) 8 (fun i => (mMark (kSetF (kSetF (kSetF (kSetF m i 8 a) i 9 b) i 10 e) i 11 f) i))).1 ∧ J (pSt c n (btw a (-40) 40 && btw b (-40) 40 && btw e 0 40 && btw f 0 40) 8 (fun i => (kTouch (kSetF (kSetF (kSetF (kSetF c i 8 a) i 9 b) i 10 e) i 11 f) i))).2 (pSt m n (btw a (-40) 40 && btw b (-40) 40 && btw e 0 40 && btw f 0 40) 8 (fun i => (mMark (kSetF (kSetF (kSetF (kSetF m i 8 a) i 9 b) i 10 e) i 11 f) i))).2 := by
  obtain ⟨S, hB, -⟩ := hJ.two
  exact p_set hJ [1, 2] n _ 8 _ _ rfl (Or.inr rfl) (hJ.f 8 (by decide)) (fun i hi hk => J.set hJ hi (((((FS.rf i c).set 8 a (by decide) (by decide) (by decide)).set 9 b (by decide) (by decide) (by decide)).set 10 e (by decide) (by decide) (by decide)).set 11 f (by decide) (by decide) (by decide)) (((((FS.rf i m).set 8 a (by decide) (by decide) (by decide)).set 9 b (by decide) (by decide) (by decide)).set 10 e (by decide) (by decide) (by decide)).set 11 f (by decide) (by decide) (by decide)) ((((hB.pr.set i 8 a).set i 9 b).set i 10 e).set i 11 f) hk) hK
theorem p_Padding {c m : zCS} (hJ : J c m) (n : Int32) (a : Int32) (hK : KWf (pSt c n (btw a 0 20) 12 (fun i => (kTouch (kSetF c i 12 a) i))).2) : AG [1, 2] (pSt c n (btw a 0 20) 12 (fun i => (kTouch (kSetF c i 12 a) i))).1 (pSt m n (btw a 0 20) 12 (fun i => (mMark (kSetF m i 12 a) i))).1 ∧ J (pSt c n (btw a 0 20) 12 (fun i => (kTouch (kSetF c i 12 a) i))).2 (pSt m n (btw a 0 20) 12 (fun i => (mMark (kSetF m i 12 a) i))).2 := by
  obtain ⟨S, hB, -⟩ := hJ.two
  exact p_set hJ [1, 2] n _ 12 _ _ rfl (Or.inr rfl) (hJ.f 12 (by decide)) (fun i hi hk => J.set hJ hi ((FS.rf i c).set 12 a (by decide) (by decide) (by decide)) ((FS.rf i m).set 12 a (by decide) (by decide) (by decide)) (hB.pr.set i 12 a) hk) hK
theorem p_Factors {c m : zCS} (hJ : J c m) (n : Int32) (a b : Int32) (hK : KWf (pSt c n (btw a 0 9 && btw b 0 9) 13 (fun i => (kTouch (kSetF (kSetF c i 13 a) i 14 b) i))).2) : AG [1, 2] (pSt c n (btw a 0 9 && btw b 0 9) 13 (fun i => (kTouch (kSetF (kSetF c i 13 a) i 14 b) i))).1 (pSt m n (btw a 0 9 && btw b 0 9) 13 (fun i => (mMark (kSetF (kSetF m i 13 a) i 14 b) i))).1 ∧ J (pSt c n (btw a 0 9 && btw b 0 9) 13 (fun i => (kTouch (kSetF (kSetF c i 13 a) i 14 b) i))).2 (pSt m n (btw a 0 9 && btw b 0 9) 13 (fun i => (mMark (kSetF (kSetF m i 13 a) i 14 b) i))).2 := by
  obtain ⟨S, hB, -⟩ := hJ.two
  exact p_set hJ [1, 2] n _ 13 _ _ rfl (Or.inr rfl) (hJ.f 13 (by decide)) (fun i hi hk => J.set hJ hi (((FS.rf i c).set 13 a (by decide) (by decide) (by decide)).set 14 b (by decide) (by decide) (by decide)) (((FS.rf i m).set 13 a (by decide) (by decide) (by decide)).set 14 b (by decide) (by decide) (by decide)) ((hB.pr.set i 13 a).set i 14 b) hk) hK
theorem p_Columns {c m : zCS} (hJ : J c m) (n : Int32) (a : Int32) (hK : KWf (pSt c n (btw a 1 4) 15 (fun i => (kTouch (kSetF c i 15 a) i))).2) : AG [1, 2] (pSt c n (btw a 1 4) 15 (fun i => (kTouch (kSetF c i 15 a) i))).1 (pSt m n (btw a 1 4) 15 (fun i => (mMark (kSetF m i 15 a) i))).1 ∧ J (pSt c n (btw a 1 4) 15 (fun i => (kTouch (kSetF c i 15 a) i))).2 (pSt m n (btw a 1 4) 15 (fun i => (mMark (kSetF m i 15 a) i))).2 := by
  obtain ⟨S, hB, -⟩ := hJ.two
  exact p_set hJ [1, 2] n _ 15 _ _ rfl (Or.inr rfl) (hJ.f 15 (by decide)) (fun i hi hk => J.set hJ hi ((FS.rf i c).set 15 a (by decide) (by decide) (by decide)) ((FS.rf i m).set 15 a (by decide) (by decide) (by decide)) (hB.pr.set i 15 a) hk) hK
theorem p_Float {c m : zCS} (hJ : J c m) (n : Int32) (a : Int32) (hK : KWf (pSt c n (decide (a = 110) || decide (a = 108) || decide (a = 114)) 16 (fun i => (kTouch (kSetF c i 16 a) i))).2) : AG [1, 2] (pSt c n (decide (a = 110) || decide (a = 108) || decide (a = 114)) 16 (fun i => (kTouch (kSetF c i 16 a) i))).1 (pSt m n (decide (a = 110) || decide (a = 108) || decide (a = 114)) 16 (fun i => (mMark (kSetF m i 16 a) i))).1 ∧ J (pSt c n (decide (a = 110) || decide (a = 108) || decide (a = 114)) 16 (fun i => (kTouch (kSetF c i 16 a) i))).2 (pSt m n (decide (a = 110) || decide (a = 108) || decide (a = 114)) 16 (fun i => (mMark (kSetF m i 16 a) i))).2 := by
  obtain ⟨S, hB, -⟩ := hJ.two
  exact p_set hJ [1, 2] n _ 16 _ _ rfl (Or.inr rfl) (hJ.f 16 (by decide)) (fun i hi hk => J.set hJ hi ((FS.rf i c).set 16 a (by decide) (by decide) (by decide)) ((FS.rf i m).set 16 a (by decide) (by decide) (by decide)) (hB.pr.set i 16 a) hk) hK
theorem p_Place {c m : zCS} (hJ : J c m) (n : Int32) (a b e : Int32) (hK : KWf (pSt c n ((decide (a = 115) || decide (a = 114) || decide (a = 97)) && btw b (-100) 100 && btw e (-100) 100) 17 (fun i => (kTouch (kSetF (kSetF (kSetF c i 17 a) i 18 b) i 19 e) i))).2) : AG [1, 2] (pSt c n ((decide (a = 115) || decide (a = 114) || decide (a = 97)) && btw b (-100) 100 && btw e (-100) 100) 17 (fun i => (kTouch (kSetF (kSetF (kSetF c i 17 a) i 18 b) i 19 e) i))).1 (pSt m n ((decide (a = 115) || decide (a = 114) || decide (a = 97)) && btw b (-100) 100 && btw e (-100) 100) 17 (fun i => (mMark (kSetF (kSetF (kSetF m i 17 a) i 18 b) i 19 e) i))).1 ∧ J (pSt c n ((decide (a = 115) || decide (a = 114) || decide (a = 97)) && btw b (-100) 100 && btw e (-100) 100) 17 (fun i => (kTouch (kSetF (kSetF (kSetF c i 17 a) i 18 b) i 19 e) i))).2 (pSt m n ((decide (a = 115) || decide (a = 114) || decide (a = 97)) && btw b (-100) 100 && btw e (-100) 100) 17 (fun i => (mMark (kSetF (kSetF (kSetF m i 17 a) i 18 b) i 19 e) i))).2 := by
  obtain ⟨S, hB, -⟩ := hJ.two
  exact p_set hJ [1, 2] n _ 17 _ _ rfl (Or.inr rfl) (hJ.f 17 (by decide)) (fun i hi hk => J.set hJ hi ((((FS.rf i c).set 17 a (by decide) (by decide) (by decide)).set 18 b (by decide) (by decide) (by decide)).set 19 e (by decide) (by decide) (by decide)) ((((FS.rf i m).set 17 a (by decide) (by decide) (by decide)).set 18 b (by decide) (by decide) (by decide)).set 19 e (by decide) (by decide) (by decide)) (((hB.pr.set i 17 a).set i 18 b).set i 19 e) hk) hK
theorem p_Alignment {c m : zCS} (hJ : J c m) (n : Int32) (a : Int32) (hK : KWf (pSt c n (decide (a = 108) || decide (a = 99) || decide (a = 114)) 23 (fun i => (kTouch (kSetF c i 23 a) i))).2) : AG [1, 2] (pSt c n (decide (a = 108) || decide (a = 99) || decide (a = 114)) 23 (fun i => (kTouch (kSetF c i 23 a) i))).1 (pSt m n (decide (a = 108) || decide (a = 99) || decide (a = 114)) 23 (fun i => (mMark (kSetF m i 23 a) i))).1 ∧ J (pSt c n (decide (a = 108) || decide (a = 99) || decide (a = 114)) 23 (fun i => (kTouch (kSetF c i 23 a) i))).2 (pSt m n (decide (a = 108) || decide (a = 99) || decide (a = 114)) 23 (fun i => (mMark (kSetF m i 23 a) i))).2 := by
  obtain ⟨S, hB, -⟩ := hJ.two
  exact p_set hJ [1, 2] n _ 23 _ _ rfl (Or.inr rfl) (hJ.f 23 (by decide)) (fun i hi hk => J.set hJ hi ((FS.rf i c).set 23 a (by decide) (by decide) (by decide)) ((FS.rf i m).set 23 a (by decide) (by decide) (by decide)) (hB.pr.set i 23 a) hk) hK
theorem p_Clear {c m : zCS} (hJ : J c m) (n : Int32) (a : Bool) (hK : KWf (pSt c n (true) 21 (fun i => (kTouch (kSetF c i 21 (bI a)) i))).2) : AG [1] (pSt c n (true) 21 (fun i => (kTouch (kSetF c i 21 (bI a)) i))).1 (pSt m n (true) 21 (fun i => (mMark (kSetF m i 21 (bI a)) i))).1 ∧ J (pSt c n (true) 21 (fun i => (kTouch (kSetF c i 21 (bI a)) i))).2 (pSt m n (true) 21 (fun i => (mMark (kSetF m i 21 (bI a)) i))).2 := by
  obtain ⟨S, hB, -⟩ := hJ.two
  exact p_set hJ [1] n _ 21 _ _ rfl (Or.inl rfl) (hJ.f 21 (by decide)) (fun i hi hk => J.set hJ hi ((FS.rf i c).set 21 (bI a) (by decide) (by decide) (by decide)) ((FS.rf i m).set 21 (bI a) (by decide) (by decide) (by decide)) (hB.pr.set i 21 (bI a)) hk) hK
theorem p_Depth {c m : zCS} (hJ : J c m) (n a : Int32) (hK : KWf (pSt c n (btw a (-5) 5) 20 (fun i => (kSetF c i 20 a))).2) : AG [1, 2] (pSt c n (btw a (-5) 5) 20 (fun i => (kSetF c i 20 a))).1 (pSt m n (btw a (-5) 5) 20 (fun i => (kSetF m i 20 a))).1 ∧ J (pSt c n (btw a (-5) 5) 20 (fun i => (kSetF c i 20 a))).2 (pSt m n (btw a (-5) 5) 20 (fun i => (kSetF m i 20 a))).2 :=
  p_set hJ [1, 2] n _ 20 _ _ rfl (Or.inr rfl) (hJ.f 20 (by decide)) (fun i _ _ => hJ.nset (Or.inl rfl)) hK
theorem p_Break {c m : zCS} (hJ : J c m) (n a : Int32) (hK : KWf (pSt c n (decide (a = 97) || decide (a = 102) || decide (a = 118)) 22 (fun i => (kSetF c i 22 a))).2) : AG [1, 2] (pSt c n (decide (a = 97) || decide (a = 102) || decide (a = 118)) 22 (fun i => (kSetF c i 22 a))).1 (pSt m n (decide (a = 97) || decide (a = 102) || decide (a = 118)) 22 (fun i => (kSetF m i 22 a))).1 ∧ J (pSt c n (decide (a = 97) || decide (a = 102) || decide (a = 118)) 22 (fun i => (kSetF c i 22 a))).2 (pSt m n (decide (a = 97) || decide (a = 102) || decide (a = 118)) 22 (fun i => (kSetF m i 22 a))).2 :=
  p_set hJ [1, 2] n _ 22 _ _ rfl (Or.inr rfl) (hJ.f 22 (by decide)) (fun i _ _ => hJ.nset (Or.inr rfl)) hK
theorem p_add {c m : zCS} (hJ : J c m) (n kd : Int32) (hK : KWf (pAdd c n kd).2) : AG [1, 2, 3, 4] (pAdd c n kd).1 (nAdd m n kd, .int (nI (kN m))) ∧ (nAdd m n kd ≠ 0 → (pAdd c n kd).2 = c) ∧ (nAdd m n kd = 0 → ∀ B, J (pAdd c n kd).2 (mMark (mAddA m n.toNatClampNeg kd B) (kN m))) := by
  obtain ⟨S, hB, -⟩ := hJ.two
  obtain ⟨n1, n2, n3⟩ := hB.n
  have f2 := hJ.f 2 (by decide) n.toNatClampNeg
  have f3 := hJ.f 3 (by decide) n.toNatClampNeg
  have hdp := hB.2.2.2.2.2.2.2.1 n.toNatClampNeg
  unfold pAdd nAdd at *
  rw [n1]
  by_cases hn : btw n 0 (nI (kN c) - 1) = true
  · rw [if_pos hn] at hK ⊢
    rw [if_pos hn]
    by_cases hk : isKd kd = true
    · rw [if_pos hk] at hK ⊢
      rw [if_pos hk]
      by_cases h24 : kN c < 24
      · rw [if_pos h24] at hK ⊢
        rw [if_neg (show ¬ kN c = 24 by omega)]
        have c7 : (7 : Int32).toInt = 7 := rfl
        by_cases ho : okDp c n.toNatClampNeg = true
        · rw [if_pos ho] at hK ⊢
          have hno : ¬ (kF m n.toNatClampNeg 2 = 116 ∨ kF m n.toNatClampNeg 3 = 7) := fun h => by
            unfold okDp at ho
            rw [Bool.and_eq_true] at ho
            rcases h with h | h
            · have h1 := ho.1
              unfold kText at h1
              rw [f2, h] at h1
              cases h1
            · have h1 := ti_lt.mp (of_decide_eq_true ho.2)
              rw [f3, h] at h1
              omega
          rw [if_neg hno]
          exact ⟨⟨rfl, fun _ => rfl⟩, fun h => absurd rfl h, fun _ B => by
            have h9 := J.add (B := B) hJ (inN (by omega) hn) ho hK
            rw [n1] at h9
            exact h9⟩
        · rw [if_neg ho]
          have hyes : kF m n.toNatClampNeg 2 = 116 ∨ kF m n.toNatClampNeg 3 = 7 := by
            rcases Decidable.em (kF m n.toNatClampNeg 2 = 116) with h | h
            · exact Or.inl h
            · refine Or.inr (Decidable.byContradiction (fun h3 => ho ?_))
              unfold okDp kText
              rw [f2, f3, decide_eq_false h]
              rw [f3] at hdp
              have h4 : (kF m n.toNatClampNeg 3).toInt ≠ 7 := fun e => h3 (Int32.toInt_inj.mp (e.trans c7.symm))
              rw [decide_eq_true (ti_lt.mpr (by omega))]
              rfl
          rw [if_pos hyes]
          exact ⟨⟨rfl, fun h => by cases h⟩, fun _ => rfl, fun h => by cases h⟩
      · rw [if_neg h24, if_pos (show kN c = 24 by omega)]
        exact ⟨⟨rfl, fun h => by cases h⟩, fun _ => rfl, fun h => by cases h⟩
    · rw [if_neg hk, if_neg hk]
      exact ⟨⟨rfl, fun h => by cases h⟩, fun _ => rfl, fun h => by cases h⟩
  · rw [if_neg hn, if_neg hn]
    exact ⟨⟨rfl, fun h => by cases h⟩, fun _ => rfl, fun h => by cases h⟩
theorem p_word {c m : zCS} (hJ : J c m) (n v : Int32) (hK : KWf (pWord c n v).2) : AG [1, 2, 4, 3] (pWord c n v).1 (nWord m n v).1 ∧ J (pWord c n v).2 (nWord m n v).2 := by
  obtain ⟨S, hB, -⟩ := hJ.two
  obtain ⟨n1, n2, n3⟩ := hB.n
  have f2 := hJ.f 2 (by decide) n.toNatClampNeg
  have hw : kWd m n.toNatClampNeg = kWd c n.toNatClampNeg := by rw [hB.1.2.1.wd, hB.1.2.2.wd]
  unfold pWord nWord at *
  rw [n1]
  by_cases hn : btw n 0 (nI (kN c) - 1) = true
  · rw [if_pos hn] at hK ⊢
    rw [if_pos hn]
    by_cases hv : btw v 1 60 = true
    · rw [if_pos hv] at hK ⊢
      rw [if_pos hv, ← f2]
      by_cases ht : kText c n.toNatClampNeg = true
      · have ht' : kF c n.toNatClampNeg 2 = 116 := by unfold kText at ht; exact of_decide_eq_true ht
        rw [if_pos ht] at hK ⊢
        rw [if_pos ht', hw]
        by_cases hl : (kWd c n.toNatClampNeg).length < 20
        · rw [if_pos hl] at hK ⊢
          rw [if_pos hl]
          exact ⟨⟨rfl, fun _ => rfl⟩, J.word hJ (inN (by omega) hn) ht hK⟩
        · rw [if_neg hl, if_neg hl]
          exact ⟨⟨rfl, fun h => by cases h⟩, hJ⟩
      · have ht' : ¬ kF c n.toNatClampNeg 2 = 116 := fun h => ht (by unfold kText; exact decide_eq_true h)
        rw [if_neg ht, if_neg ht']
        exact ⟨⟨rfl, fun h => by cases h⟩, hJ⟩
    · rw [if_neg hv, if_neg hv]
      exact ⟨⟨rfl, fun h => by cases h⟩, hJ⟩
  · rw [if_neg hn, if_neg hn]
    exact ⟨⟨rfl, fun h => by cases h⟩, hJ⟩
theorem p_lay {c m : zCS} (hJ : J c m) (w ct : Int32) : AG [2] (pLayOut c w).1 (mLayOut m ct w).1 ∧ J (pLayOut c w).2 (mLayOut m ct w).2.1 := by
  unfold pLayOut mLayOut
  by_cases hw : btw w 0 400 = true
  · rw [if_pos hw, if_pos hw]
    obtain ⟨h1, h2⟩ := hJ.lay hw
    exact ⟨⟨rfl, fun _ => congrArg Value.int h2⟩, h1⟩
  · rw [if_neg hw, if_neg hw]
    exact ⟨⟨rfl, fun h => by cases h⟩, hJ⟩
