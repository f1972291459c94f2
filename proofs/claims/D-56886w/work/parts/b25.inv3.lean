/-! ===== the plain law: the invariant at the start, and after a layout ===== -/
theorem J.init {A B : Nat → Nat} (hK : KWf (pC0 A)) : J (pC0 A) (mC0 B) := by
  have hst : stt (mC0 B) = stt (pC0 A) := by
    have e : (fun (y b : Nat) => if b = 22 then (97 : Int32) else if b = 20 ∨ b = 25 then 0 else newM 98 0 b) = fun (y b : Nat) => if b = 22 then (97 : Int32) else if b = 20 ∨ b = 25 then 0 else newF 98 0 b := by
      funext y b
      by_cases h1 : b = 22
      · rw [if_pos h1, if_pos h1]
      · rw [if_neg h1, if_neg h1]
        by_cases h2 : b = 20 ∨ b = 25
        · rw [if_pos h2, if_pos h2]
        · rw [if_neg h2, if_neg h2]
          exact if_neg (fun e => h2 (Or.inr e))
    exact congrArg (fun F => ((1, fun _ => 0, fun _ => 0, F, fun _ => none, fun _ => [], fun _ => [], fun _ _ => 0, fun _ => [], 0, 0) : zCS)) e
  refine ⟨stt (pC0 A), ⟨⟨⟨hK.st, (fun x p h => by have h9 : (none : Option Nat) = some p := h; cases h9), Nat.one_pos, fun j hj => ⟨fun _ => ?_, fun _ => rfl⟩⟩, rfl, hst⟩, fun i => ⟨rfl, rfl⟩, fun x _ => ⟨rfl, rfl, rfl⟩, ⟨rfl, rfl⟩, fun x _ hk => absurd (show kF (pC0 A) x 25 = -1 from rfl) hk, fun x _ => Or.inl ⟨rfl, ?_⟩, rfl, fun i => ⟨by show 0 ≤ (0 : Int32).toInt; decide, by show (0 : Int32).toInt ≤ 7; decide⟩, rfl⟩, Or.inl ⟨rfl, rfl⟩⟩
  · have hj' : j < 1 := hj
    omega
  · show (1 : Int32) ≠ 0
    decide
theorem TL.All (b : Bool) (s : zCS × Int32) (w : Int32) : TL s.1 (cAll (L24 b) s w).1 := by
  have hL := (TL.LF b 24).1
  refine (hL s 0 w).trans (TL.fold (fun t : zCS × Int32 => t.1) (cAllS (L24 b)) (fun t i => ?_) _ _)
  unfold cAllS
  split
  · exact ((TL.setP _ _ _ _).trans (TL.setP _ _ _ _)).trans (hL _ i _)
  · exact TL.rf _
theorem TL.mAll (s : MT) (w : Int32) : TL s.1 (mAllL M24 s w).1 := by
  have hL := (TL.mLF 24).1
  refine (hL s 0 w true).trans (TL.fold (fun t : MT => t.1) (mAllS M24) (fun t i => ?_) _ _)
  unfold mAllS
  split
  · exact hL _ i _ _
  · exact TL.rf _
theorem wb_400 {w : Int32} (h : btw w 0 400 = true) : 0 ≤ w.toInt ∧ w.toInt ≤ 400 := by
  have h1 := btw_i h
  have e0 : (0 : Int32).toInt = 0 := rfl
  have e4 : (400 : Int32).toInt = 400 := rfl
  omega
/-- a layout -/
theorem J.lay {c m : zCS} {w : Int32} (hJ : J c m) (hw : btw w 0 400 = true) : J (kUCt (kULw (cAll (L24 false) (c, 0) w).1 w) (kCt c + (cAll (L24 false) (c, 0) w).2)) (kUCt (kULw (mAllL M24 (m, 0) w).1 1) (kCt m + (mAllL M24 (m, 0) w).2)) ∧ (cAll (L24 false) (c, 0) w).2 = (mAllL M24 (m, 0) w).2 := by
  obtain ⟨S, ⟨⟨hW, hc, hm⟩, h20, htx, h00, hCA, hCB, hct, hdp, h98⟩, -⟩ := hJ
  have hwb := wb_400 hw
  have hWB : WB 0 w := by unfold WB; omega
  obtain ⟨g1, ⟨g2, g2m⟩, g3, g4⟩ := all_ok false hW 0 0 w hc hm hWB h00 (fun _ => hCA)
  obtain ⟨k1, k, k2, k3⟩ := g4 rfl hCB
  have hgen : ∀ m' ct, SS S m' → LG S (cAll (L24 false) (c, 0) w).1 (mAllL M24 (m', ct) w).1 := fun m' ct hm' => (all_ok false hW 0 ct w hc hm' hWB h00 (fun _ => hCA)).1
  have tl1 := TL.All false (c, 0) w
  have tl2 := TL.mAll (m, 0) w
  have e9 : (cAll (L24 false) (c, 0) w).2 = (mAllL M24 (m, 0) w).2 := by rw [k2, k3]
  refine ⟨?_, e9⟩
  have g3' := g3 rfl
  have hQ0 := g1 0 hW.2.2.1 (Or.inl rfl)
  rw [← e9]
  generalize (cAll (L24 false) (c, 0) w).2 = q at *
  generalize (cAll (L24 false) (c, 0) w).1 = C at *
  generalize (mAllL M24 (m, 0) w).1 = T at *
  have g2' : KEq c C := g2
  have g2m' : KEq m T := g2m.1
  have sC : SS S C := hc.K g2'
  have sT : SS S T := hm.K g2m'
  refine ⟨S, ⟨⟨hW, (show stt C = S from sC), (show stt T = S from sT)⟩, fun i => ?_, fun x hx => ⟨(htx x hx).1, ?_, ?_⟩, hQ0.2.2.2, g3', k1, by show kCt c + q = kCt m + q; rw [hct], fun i => ?_, (g2'.f 0 2 (by decide)).trans h98⟩, Or.inr ⟨hwb, rfl, g1, fun m' ct hm' => hgen m' ct hm'⟩⟩
  · show kF C i 20 = kF T i 20 ∧ kF C i 22 = kF T i 22
    rw [g2'.f i 20 (by decide), g2'.f i 22 (by decide), g2m'.f i 20 (by decide), g2m'.f i 22 (by decide)]
    exact h20 i
  · exact (tl1.2 x (by rw [hc.text]; exact hx)).trans (htx x hx).2.1
  · exact (tl2.2 x (by rw [hm.text]; exact hx)).trans (htx x hx).2.2
  · show 0 ≤ (kF C i 3).toInt ∧ (kF C i 3).toInt ≤ 7
    rw [g2'.f i 3 (by decide)]
    exact hdp i
