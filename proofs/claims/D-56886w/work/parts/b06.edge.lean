/-! ===== the plain law: floats and pushes; lines ===== -/
def toP (z : F5) : P5 := (z.2.2.2.2, z.1, z.1 + z.2.2.1, z.2.1, z.2.1 + z.2.2.2.1)
/-- a float within -U .. U -/
def FOk (U : Int) (z : F5) : Prop := (-U ≤ z.2.1.toInt ∧ z.2.1.toInt ≤ U) ∧ (-U ≤ z.2.1.toInt + z.2.2.2.1.toInt ∧ z.2.1.toInt + z.2.2.2.1.toInt ≤ U)
theorem FOk.mono {U V : Int} {z : F5} (h : FOk U z) (hv : U ≤ V) : FOk V z := by unfold FOk at *; omega
theorem FOk.bot {U : Int} (hU : U ≤ 1000000) {z : F5} (h : FOk U z) : (z.2.1 + z.2.2.2.1).toInt = z.2.1.toInt + z.2.2.2.1.toInt := by
  unfold FOk at h; exact ti_add (by omega) (by omega)
theorem FOk.lo {U : Int} (hU : U ≤ 1000000) {z : F5} (h : FOk U z) : (mLo z.2.1 (z.2.1 + z.2.2.2.1)).toInt = max (z.2.1.toInt + z.2.2.2.1.toInt) (z.2.1.toInt + 1) := by
  have hb := h.bot hU
  unfold FOk at h
  unfold mLo
  rw [ti_max, hb, ti_add (by rw [ti_1]; omega) (by rw [ti_1]; omega), ti_1]
theorem FOk.end {U : Int} (hU : U ≤ 1000000) {z : F5} (h : FOk U z) : fEnd z.2.1 z.2.2.2.1 = mLo z.2.1 (z.2.1 + z.2.2.2.1) := by
  apply Int32.toInt_inj.mp
  rw [h.lo hU]
  unfold FOk at h
  unfold fEnd
  have e : (imax 1 z.2.2.2.1).toInt = max 1 z.2.2.2.1.toInt := by rw [ti_max, ti_1]
  rw [ti_add (by rw [e]; omega) (by rw [e]; omega), e]
  omega
theorem FOk.lies {U : Int} (hU : U ≤ 1000000) {z : F5} (h : FOk U z) (y k : Int32) : fIn z.2.1 z.2.2.2.1 y (y + k) = mLies (toP z).2.2.2.1 (toP z).2.2.2.2 y k := by
  unfold fIn mLies
  rw [h.end hU]
  rfl
theorem ed_eq {U : Int} (hU : U ≤ 1000000) (top h : Int32) : ∀ (fs : List F5) (a b n : Int32), (∀ z, z ∈ fs → FOk U z) → fs.foldl (edS top h) (a, b, n) = ((fs.map toP).foldl (mLfS top h) a, (fs.map toP).foldl (mRtS top h) b, (fs.map toP).foldl (mBlS top h) n) := by
  intro fs
  induction fs with
  | nil => intro a b n _; rfl
  | cons z fs ih =>
    intro a b n hf
    have hz := hf z List.mem_cons_self
    have hl := hz.lies hU top h
    have he := hz.end hU
    rw [List.map_cons, List.foldl_cons, List.foldl_cons, List.foldl_cons, List.foldl_cons]
    have e : edS top h (a, b, n) z = (mLfS top h a (toP z), mRtS top h b (toP z), mBlS top h n (toP z)) := by
      unfold edS mLfS mRtS mBlS
      rw [hl, he]
      cases hm : mLies (toP z).2.2.2.1 (toP z).2.2.2.2 top h with
      | true =>
        rw [if_pos rfl, if_pos rfl]
        have e1 : (if z.2.2.2.2 = 108 then imax a (z.1 + z.2.2.1) else a) = if (toP z).1 = 108 ∧ True then imax a (toP z).2.2.1 else a := by simp [toP]
        have e2 : (if z.2.2.2.2 = 114 then imin b z.1 else b) = if (toP z).1 = 114 ∧ True then imin b (toP z).2.1 else b := by simp [toP]
        simp only [and_true] at e1 e2 ⊢
        rw [e1, e2]
        rfl
      | false => simp
    rw [e]
    exact ih _ _ _ (fun z hz => hf z (List.mem_cons_of_mem _ hz))
theorem bl_b {U : Int} (hU : U ≤ 1000000) (y h : Int32) : ∀ (fs : List F5) (n : Int32), (∀ z, z ∈ fs → FOk U z) → y < n → y < (fs.map toP).foldl (mBlS y h) n ∧ ((fs.map toP).foldl (mBlS y h) n = n ∨ ((fs.map toP).foldl (mBlS y h) n).toInt ≤ U + 1) := by
  intro fs
  induction fs with
  | nil => intro n _ h2; exact ⟨h2, Or.inl rfl⟩
  | cons z fs ih =>
    intro n hf h2
    have hz := hf z List.mem_cons_self
    rw [List.map_cons, List.foldl_cons]
    have hlo := hz.lo hU
    have hs : y < mBlS y h n (toP z) ∧ (mBlS y h n (toP z) = n ∨ (mBlS y h n (toP z)).toInt ≤ U + 1) := by
      unfold mBlS
      split
      · rename_i hl
        have hy : y < mLo (toP z).2.2.2.1 (toP z).2.2.2.2 := by
          unfold mLies at hl
          rw [Bool.and_eq_true] at hl
          exact of_decide_eq_true hl.2
        have h3 := ti_lt.mp hy
        have h4 := ti_lt.mp h2
        have h5 : (mLo (toP z).2.2.2.1 (toP z).2.2.2.2).toInt = max (z.2.1.toInt + z.2.2.2.1.toInt) (z.2.1.toInt + 1) := hlo
        have hz' := hz
        unfold FOk at hz'
        refine ⟨ti_lt.mpr (by rw [ti_min]; omega), Or.inr (by rw [ti_min]; omega)⟩
      · exact ⟨h2, Or.inl rfl⟩
    obtain ⟨i1, i2⟩ := ih _ (fun z hz => hf z (List.mem_cons_of_mem _ hz)) hs.1
    refine ⟨i1, ?_⟩
    rcases i2 with e | e
    · rw [e]; exact hs.2
    · exact Or.inr e
/-- where to look next -/
theorem bel_eq {U : Int} (hU : U ≤ 1000000) {fs : List F5} (hf : ∀ z, z ∈ fs → FOk U z) {y h : Int32} (hy : y.toInt ≤ 2000000) :
    ((fs.map toP).foldl (mBlS y h) 2147483647 < 2147483647 ↔ y < mBelow (fs.map toP) y h) ∧ (y < mBelow (fs.map toP) y h → mBelow (fs.map toP) y h = (fs.map toP).foldl (mBlS y h) 2147483647 ∧ (mBelow (fs.map toP) y h).toInt ≤ U + 1) := by
  have hm : (2147483647 : Int32).toInt = 2147483647 := rfl
  obtain ⟨h1, h2⟩ := bl_b hU y h fs 2147483647 hf (ti_lt.mpr (by rw [hm]; omega))
  unfold mBelow
  by_cases e : (fs.map toP).foldl (mBlS y h) 2147483647 = 2147483647
  · rw [if_pos e, e]
    exact ⟨⟨fun h => absurd h Int32.lt_irrefl, fun h => absurd h Int32.lt_irrefl⟩, fun h => absurd h Int32.lt_irrefl⟩
  · rw [if_neg e]
    have h3 := h2.resolve_left e
    refine ⟨⟨fun _ => h1, fun _ => ti_lt.mpr (by rw [hm]; omega)⟩, fun _ => ⟨rfl, h3⟩⟩
theorem cEd_eq {U : Int} (hU : U ≤ 1000000) {fs : List F5} (hf : ∀ z, z ∈ fs → FOk U z) (top h l r : Int32) : cEd fs top h l r = (mLeft (fs.map toP) l top h, mRight (fs.map toP) r top h, (fs.map toP).foldl (mBlS top h) 2147483647) := ed_eq hU top h fs l r 2147483647 hf
theorem low_eq (fs : List F5) : cLow fs = mLowest (fs.map toP) := by
  unfold cLow mLowest
  rw [List.foldl_map]
  rfl
theorem low_b {U : Int} (hU : U ≤ 1000000) : ∀ (fs : List F5) (a : Int32), (∀ z, z ∈ fs → FOk U z) → (a.toInt = -2147483648 ∨ (-U ≤ a.toInt ∧ a.toInt ≤ U)) → (fs ≠ [] ∨ (-U ≤ a.toInt ∧ a.toInt ≤ U)) → -U ≤ ((fs.map toP).foldl (fun a z => imax a z.2.2.2.2) a).toInt ∧ ((fs.map toP).foldl (fun a z => imax a z.2.2.2.2) a).toInt ≤ U := by
  intro fs
  induction fs with
  | nil => intro a _ _ h2; exact h2.resolve_left (fun h => h rfl)
  | cons z fs ih =>
    intro a hf h1 _
    have hz := hf z List.mem_cons_self
    have hb := hz.bot hU
    unfold FOk at hz
    rw [List.map_cons, List.foldl_cons]
    have e : (imax a (toP z).2.2.2.2).toInt = max a.toInt (z.2.1.toInt + z.2.2.2.1.toInt) := by rw [ti_max]; show max a.toInt (z.2.1 + z.2.2.2.1).toInt = _; rw [hb]
    exact ih _ (fun z hz => hf z (List.mem_cons_of_mem _ hz)) (Or.inr (by rw [e]; omega)) (Or.inr (by rw [e]; omega))
theorem fl_eq {U : Int} (hU : U ≤ 1000000) {fs : List F5} (hf : ∀ z, z ∈ fs → FOk U z) (h l r w : Int32) : ∀ (f : Nat) (a : Int32), a.toInt ≤ U + 200 → flGo fs h l r w f a = (mFlGo (fs.map toP) l r w h f a, cEd fs (mFlGo (fs.map toP) l r w h f a) h l r) ∧ a.toInt ≤ (mFlGo (fs.map toP) l r w h f a).toInt ∧ (mFlGo (fs.map toP) l r w h f a).toInt ≤ max a.toInt (U + 1) := by
  intro f
  induction f with
  | zero => intro a _; exact ⟨rfl, Int.le_refl _, by show a.toInt ≤ _; omega⟩
  | succ f ih =>
    intro a ha
    have he := cEd_eq hU hf a h l r
    obtain ⟨b1, b2⟩ := bel_eq hU hf (y := a) (h := h) (by omega)
    unfold flGo mFlGo
    by_cases hc : mRight (fs.map toP) r a h - mLeft (fs.map toP) l a h < w ∧ a < mBelow (fs.map toP) a h
    · have h9 := b2 hc.2
      rw [if_pos hc, if_pos (by rw [he]; exact ⟨hc.1, b1.mpr hc.2⟩)]
      obtain ⟨i1, i2, i3⟩ := ih (mBelow (fs.map toP) a h) (by omega)
      have h8 := ti_lt.mp hc.2
      refine ⟨?_, by omega, by omega⟩
      rw [show (cEd fs a h l r).2.2 = mBelow (fs.map toP) a h from by rw [he]; exact h9.1.symm]
      exact i1
    · rw [if_neg hc, if_neg (by rw [he]; exact fun h9 => hc ⟨h9.1, b1.mp h9.2⟩)]
      exact ⟨rfl, Int.le_refl _, by omega⟩
/-- lines -/
theorem ly_eq {U : Int} (hU : U ≤ 1000000) {fs : List F5} (hf : ∀ z, z ∈ fs → FOk U z) (al x y lf inner : Int32) : ∀ (f : Nat) (ws : List Int32) (top e : Int32) (acc : List (Int32 × Int32 × Int32)), nAp (fs.map toP) top + 25 * ws.length < f → fs.length ≤ 24 → (ws = [] → e = top) → -1500000 ≤ top.toInt → top.toInt + 10 * ws.length ≤ 1500000 → U + 1 + 10 * ws.length ≤ 1500000 →
    lyGo fs al x y lf inner f ws top acc = mTx (fs.map toP) al x y lf (lf + inner) f ws top e acc ∧ top.toInt ≤ (mTx (fs.map toP) al x y lf (lf + inner) f ws top e acc).2.toInt ∧ (mTx (fs.map toP) al x y lf (lf + inner) f ws top e acc).2.toInt ≤ max top.toInt (U + 1) + 10 * ws.length := by
  intro f
  induction f with
  | zero => intro ws top e acc h; omega
  | succ f ih =>
    intro ws top e acc h h24 he hb1 hb2 hb3
    cases ws with
    | nil =>
      have e1 := he rfl
      subst e1
      exact ⟨rfl, Int.le_refl _, by show e.toInt ≤ _; omega⟩
    | cons w0 r =>
      have hE := cEd_eq hU hf top 10 lf (lf + inner)
      obtain ⟨b1, b2⟩ := bel_eq hU hf (y := top) (h := 10) (by omega)
      rw [List.length_cons] at h hb2 hb3 ⊢
      unfold lyGo mTx
      rw [hE]
      by_cases hc : mRight (fs.map toP) (lf + inner) top 10 - mLeft (fs.map toP) lf top 10 < w0 ∧ top < mBelow (fs.map toP) top 10
      · have h9 := b2 hc.2
        rw [if_pos hc, if_pos ⟨hc.1, b1.mpr hc.2⟩]
        have hl := bel_less hc.2
        have h8 := ti_lt.mp hc.2
        obtain ⟨i1, i2, i3⟩ := ih (w0 :: r) (mBelow (fs.map toP) top 10) e acc (by rw [List.length_cons]; omega) h24 (fun h => by cases h) (by omega) (by rw [List.length_cons]; omega) (by rw [List.length_cons]; omega)
        rw [List.length_cons] at i3
        refine ⟨?_, by omega, by omega⟩
        rw [show (mLeft (fs.map toP) lf top 10, mRight (fs.map toP) (lf + inner) top 10, List.foldl (mBlS top 10) 2147483647 (fs.map toP)).2.2 = mBelow (fs.map toP) top 10 from h9.1.symm]
        exact i1
      · rw [if_neg hc, if_neg (fun h9 => hc ⟨h9.1, b1.mp h9.2⟩)]
        have hm := (lnGo_m (mRight (fs.map toP) (lf + inner) top 10 - mLeft (fs.map toP) lf top 10) r w0 1).1
        have hdl : ((w0 :: r).drop (lnGo (mRight (fs.map toP) (lf + inner) top 10 - mLeft (fs.map toP) lf top 10) r w0 1).2).length + 1 ≤ r.length + 1 := by rw [List.length_drop, List.length_cons]; omega
        have et : (top + 10).toInt = top.toInt + 10 := ti_add (by show _ ≤ _ + (10 : Int); omega) (by show _ + (10 : Int) ≤ _; omega)
        have hnp := nAp_le (fs.map toP) (top + 10)
        rw [List.length_map] at hnp
        obtain ⟨i1, i2, i3⟩ := ih ((w0 :: r).drop (lnGo (mRight (fs.map toP) (lf + inner) top 10 - mLeft (fs.map toP) lf top 10) r w0 1).2) (top + 10) (top + 10) (acc ++ [(mLeft (fs.map toP) lf top 10 + lnShift al (imax 0 (mRight (fs.map toP) (lf + inner) top 10 - mLeft (fs.map toP) lf top 10 - (lnGo (mRight (fs.map toP) (lf + inner) top 10 - mLeft (fs.map toP) lf top 10) r w0 1).1)) - x, top - y, nI (lnGo (mRight (fs.map toP) (lf + inner) top 10 - mLeft (fs.map toP) lf top 10) r w0 1).2)]) (by omega) h24 (fun _ => rfl) (by omega) (by omega) (by omega)
        exact ⟨i1, by omega, by omega⟩
