/-! ===== the plain law: numbers; widths are no less than 0 and bounded ===== -/
theorem ti_add {a b : Int32} (h1 : -2147483648 ≤ a.toInt + b.toInt) (h2 : a.toInt + b.toInt ≤ 2147483647) : (a + b).toInt = a.toInt + b.toInt := by
  rw [Int32.toInt_add]; exact Int.bmod_eq_of_le (by omega) (by omega)
theorem ti_sub {a b : Int32} (h1 : -2147483648 ≤ a.toInt - b.toInt) (h2 : a.toInt - b.toInt ≤ 2147483647) : (a - b).toInt = a.toInt - b.toInt := by
  rw [Int32.toInt_sub]; exact Int.bmod_eq_of_le (by omega) (by omega)
theorem ti_mul {a b : Int32} (h1 : -2147483648 ≤ a.toInt * b.toInt) (h2 : a.toInt * b.toInt ≤ 2147483647) : (a * b).toInt = a.toInt * b.toInt := by
  rw [Int32.toInt_mul]; exact Int.bmod_eq_of_le (by omega) (by omega)
theorem ti_max (a b : Int32) : (imax a b).toInt = max a.toInt b.toInt := by
  unfold imax
  by_cases h : a < b
  · rw [if_pos h]; have := Int32.lt_iff_toInt_lt.mp h; omega
  · rw [if_neg h]; have := Int32.le_iff_toInt_le.mp (Int32.not_lt.mp h); omega
theorem ti_min (a b : Int32) : (imin a b).toInt = min a.toInt b.toInt := by
  unfold imin
  by_cases h : b < a
  · rw [if_pos h]; have := Int32.lt_iff_toInt_lt.mp h; omega
  · rw [if_neg h]; have := Int32.le_iff_toInt_le.mp (Int32.not_lt.mp h); omega
theorem ti_le {a b : Int32} : a ≤ b ↔ a.toInt ≤ b.toInt := Int32.le_iff_toInt_le
theorem ti_lt {a b : Int32} : a < b ↔ a.toInt < b.toInt := Int32.lt_iff_toInt_lt
theorem ti_r (a : Int32) : -2147483648 ≤ a.toInt ∧ a.toInt ≤ 2147483647 := by have h1 := Int32.le_toInt a; have h2 := Int32.toInt_lt a; omega
theorem ti_0 : (0 : Int32).toInt = 0 := rfl
theorem ti_1 : (1 : Int32).toInt = 1 := rfl
theorem ti_2 : (2 : Int32).toInt = 2 := rfl
theorem ti_m1 : (-1 : Int32).toInt = -1 := rfl
theorem imax_comm (a b : Int32) : imax a b = imax b a := Int32.toInt_inj.mp (by rw [ti_max, ti_max]; omega)
theorem imin_comm (a b : Int32) : imin a b = imin b a := Int32.toInt_inj.mp (by rw [ti_min, ti_min]; omega)
theorem btw_i {v lo hi : Int32} (h : btw v lo hi = true) : lo.toInt ≤ v.toInt ∧ v.toInt ≤ hi.toInt := by
  unfold btw at h
  rw [Bool.and_eq_true] at h
  exact ⟨ti_le.mp (of_decide_eq_true h.1), ti_le.mp (of_decide_eq_true h.2)⟩
theorem bmod_abs (x : Int) : (x.bmod (2 ^ 32)).natAbs ≤ x.natAbs := by
  by_cases h : -2147483648 ≤ x ∧ x ≤ 2147483647
  · rw [Int.bmod_eq_of_le (by omega) (by omega)]; exact Nat.le_refl _
  · have h1 : -2147483648 ≤ x.bmod (2 ^ 32) := by have := Int.le_bmod (x := x) (m := 2 ^ 32) (by decide); omega
    have h2 : x.bmod (2 ^ 32) < 2147483648 := by have := Int.bmod_lt (x := x) (m := 2 ^ 32) (by decide); omega
    omega
/-- a part of a sum by weights is no greater than the sum, even where the product runs over -/
theorem part_abs {lack w s : Int32} (h0 : 0 ≤ w.toInt) (h1 : w.toInt ≤ s.toInt) (hs : 0 < s.toInt) : ((lack * w) / s).toInt.natAbs ≤ lack.toInt.natAbs := by
  rw [Int32.toInt_div]
  refine Nat.le_trans (bmod_abs _) ?_
  rw [Int.natAbs_tdiv]
  have h2 : (lack * w).toInt.natAbs ≤ lack.toInt.natAbs * w.toInt.natAbs := by
    rw [Int32.toInt_mul, ← Int.natAbs_mul]; exact bmod_abs _
  have h3 : lack.toInt.natAbs * w.toInt.natAbs ≤ lack.toInt.natAbs * s.toInt.natAbs := Nat.mul_le_mul_left _ (by omega)
  exact Nat.div_le_of_le_mul (Nat.le_trans h2 (by rw [Nat.mul_comm] at h3 ⊢; rw [Nat.mul_comm s.toInt.natAbs] at *; omega))
theorem part_pos {free w s : Int32} (hf : 0 ≤ free.toInt) (hb : free.toInt ≤ 200000000) (h0 : 0 ≤ w.toInt) (h9 : w.toInt ≤ 9) (h1 : w.toInt ≤ s.toInt) (hs : 0 < s.toInt) : 0 ≤ ((free * w) / s).toInt ∧ ((free * w) / s).toInt ≤ free.toInt := by
  have hp : (0 : Int) ≤ free.toInt * w.toInt := Int.mul_nonneg hf h0
  have hq : free.toInt * w.toInt ≤ 200000000 * 9 := Int.mul_le_mul hb h9 h0 (by decide)
  have hm : (free * w).toInt = free.toInt * w.toInt := ti_mul (by omega) (by omega)
  have ha := part_abs (lack := free) h0 h1 hs
  have hd : 0 ≤ ((free * w) / s).toInt := by
    rw [Int32.toInt_div, hm]
    have h5 : 0 ≤ (free.toInt * w.toInt).tdiv s.toInt := Int.tdiv_nonneg hp (by omega)
    have h6 : (free.toInt * w.toInt).tdiv s.toInt ≤ free.toInt * w.toInt := Int.tdiv_le_self _ hp
    rw [Int.bmod_eq_of_le (by omega) (by omega)]
    exact h5
  omega
/-- how many boxes lie below a box -/
def sz (S : zCS) (i : Nat) : Nat := FC 24 S i
theorem FC_more {S : zCS} (hK : KWf S) : ∀ (f i : Nat), i < kN S → kN S ≤ f + i → FC (f + 1) S i = FC f S i := by
  intro f
  induction f with
  | zero => intro i h1 h2; omega
  | succ f ih =>
    intro i h1 h2
    have e : (kCh S i).map (fun j => 1 + FC (f + 1) S j) = (kCh S i).map (fun j => 1 + FC f S j) := List.map_congr_left (fun j hj => by
      obtain ⟨a1, a2, a3⟩ := hK.ch h1 hj
      rw [ih j a2 (by omega)])
    exact congrArg List.sum e
theorem sz_eq {S : zCS} (hK : KWf S) {i : Nat} (hi : i < kN S) : sz S i = ((kCh S i).map (fun j => 1 + sz S j)).sum := by
  have e : (kCh S i).map (fun j => 1 + FC 23 S j) = (kCh S i).map (fun j => 1 + sz S j) := List.map_congr_left (fun j hj => by
    obtain ⟨a1, a2, a3⟩ := hK.ch hi hj
    have h9 := hK.1
    have h8 : sz S j = FC 23 S j := FC_more hK 23 j a2 (by omega)
    rw [h8])
  have h7 : sz S i = ((kCh S i).map (fun j => 1 + FC 23 S j)).sum := rfl
  rw [h7, e]
theorem sz_le {S : zCS} (hK : KWf S) {i : Nat} (hi : i < kN S) : 1 + sz S i ≤ 24 := FC_le hK 24 hi
theorem mem_sum {l : List Nat} {a : Nat → Nat} {j : Nat} (h : j ∈ l) : a j ≤ (l.map a).sum := by
  induction l with
  | nil => exact absurd h List.not_mem_nil
  | cons x r ih =>
    rw [List.map_cons, List.sum_cons]
    rcases List.mem_cons.mp h with e | h
    · subst e; omega
    · have := ih h; omega
theorem sz_ch {S : zCS} (hK : KWf S) {i j : Nat} (hi : i < kN S) (hj : j ∈ kCh S i) : 1 + sz S j ≤ sz S i := by
  rw [sz_eq hK hi]; exact mem_sum (a := fun j => 1 + sz S j) hj
theorem sz_items {S : zCS} (hK : KWf S) {i : Nat} (hi : i < kN S) : ((kItemsOf S i).map (fun j => 1 + sz S j)).sum ≤ sz S i := by
  rw [sz_eq hK hi]; exact sum_filter_le
/-- fields, as numbers -/
theorem fld {S : zCS} (hK : KWf S) {i : Nat} (hi : i < kN S) : (-1 ≤ (kF S i 6).toInt ∧ (kF S i 6).toInt ≤ 400) ∧ (-1 ≤ (kF S i 7).toInt ∧ (kF S i 7).toInt ≤ 400) ∧ (-40 ≤ (kF S i 8).toInt ∧ (kF S i 8).toInt ≤ 40) ∧ (-40 ≤ (kF S i 9).toInt ∧ (kF S i 9).toInt ≤ 40) ∧ (0 ≤ (kF S i 10).toInt ∧ (kF S i 10).toInt ≤ 40) ∧ (0 ≤ (kF S i 11).toInt ∧ (kF S i 11).toInt ≤ 40) ∧ (0 ≤ (kF S i 12).toInt ∧ (kF S i 12).toInt ≤ 20) ∧ (0 ≤ (kF S i 13).toInt ∧ (kF S i 13).toInt ≤ 9) ∧ (0 ≤ (kF S i 14).toInt ∧ (kF S i 14).toInt ≤ 9) := by
  have h := (hK.2 i hi).2.2.2.2
  exact ⟨btw_i (h 6), btw_i (h 7), btw_i (h 8), btw_i (h 9), btw_i (h 10), btw_i (h 11), btw_i (h 12), btw_i (h 13), btw_i (h 14)⟩
theorem sides_b {S : zCS} (hK : KWf S) {i : Nat} (hi : i < kN S) : 0 ≤ (kSides S i).toInt ∧ (kSides S i).toInt ≤ 80 := by
  obtain ⟨-, -, -, -, h10, h11, -⟩ := fld hK hi
  unfold kSides
  rw [ti_add (by omega) (by omega)]
  omega
theorem pad2_b {S : zCS} (hK : KWf S) {i : Nat} (hi : i < kN S) : 0 ≤ (2 * kF S i 12).toInt ∧ (2 * kF S i 12).toInt ≤ 40 := by
  obtain ⟨-, -, -, -, -, -, h12, -⟩ := fld hK hi
  rw [ti_mul (by rw [ti_2]; omega) (by rw [ti_2]; omega), ti_2]
  omega
theorem told_b {S : zCS} (hK : KWf S) {i : Nat} (hi : i < kN S) : (kTold S i).toInt = -1 ∨ (0 ≤ (kTold S i).toInt ∧ (kTold S i).toInt ≤ 400) := by
  obtain ⟨h6, -⟩ := fld hK hi
  unfold kTold
  split
  · exact Or.inl rfl
  · omega
theorem ne_m1 {x : Int32} : x ≠ -1 ↔ x.toInt ≠ -1 := ⟨fun h e => h (Int32.toInt_inj.mp e), fun h e => h (by rw [e]; rfl)⟩
theorem cTW_b : ∀ (ws : List Int32) (p : Int32 × Int32) (n : Nat), (∀ v, v ∈ ws → 0 ≤ v.toInt ∧ v.toInt ≤ 60) → 0 ≤ p.1.toInt → p.1.toInt ≤ 60 → 0 ≤ p.2.toInt → p.2.toInt ≤ 62 * n → n + ws.length ≤ 20 →
    (0 ≤ (ws.foldl cTWf p).1.toInt ∧ (ws.foldl cTWf p).1.toInt ≤ 60) ∧ (0 ≤ (ws.foldl cTWf p).2.toInt ∧ (ws.foldl cTWf p).2.toInt ≤ 1240) := by
  intro ws
  induction ws with
  | nil => intro p n _ h1 h2 h3 h4 h5; exact ⟨⟨h1, h2⟩, h3, by show p.2.toInt ≤ 1240; simp at h5; omega⟩
  | cons w ws ih =>
    intro p n hw h1 h2 h3 h4 h5
    rw [List.length_cons] at h5
    have hv := hw w List.mem_cons_self
    have he : ((if 0 < p.2 then (2 : Int32) else 0)).toInt = 2 ∨ ((if 0 < p.2 then (2 : Int32) else 0)).toInt = 0 := by split <;> simp
    have e1 : (w + (if 0 < p.2 then (2 : Int32) else 0)).toInt = w.toInt + (if 0 < p.2 then (2 : Int32) else 0).toInt := ti_add (by omega) (by omega)
    have e2 : (p.2 + (w + (if 0 < p.2 then (2 : Int32) else 0))).toInt = p.2.toInt + (w + (if 0 < p.2 then (2 : Int32) else 0)).toInt := ti_add (by omega) (by omega)
    refine ih (cTWf p w) (n + 1) (fun v hv => hw v (List.mem_cons_of_mem _ hv)) ?_ ?_ ?_ ?_ (by omega)
    · show 0 ≤ (imax p.1 w).toInt; rw [ti_max]; omega
    · show (imax p.1 w).toInt ≤ 60; rw [ti_max]; omega
    · show 0 ≤ (p.2 + (w + (if 0 < p.2 then (2 : Int32) else 0))).toInt; omega
    · show (p.2 + (w + (if 0 < p.2 then (2 : Int32) else 0))).toInt ≤ _; omega
/-- the sum of the first m places -/
def SA (f : Nat → Int32) : Nat → Int
  | 0 => 0
  | m + 1 => SA f m + (f m).toInt
theorem SA_upd {f : Nat → Int32} {j : Nat} {v : Int32} (hf : ∀ k, 0 ≤ (f k).toInt) (hv : 0 ≤ v.toInt) : ∀ m, SA (upd f j (imax (f j) v)) m ≤ SA f m + v.toInt ∧ (m ≤ j → SA (upd f j (imax (f j) v)) m = SA f m) := by
  intro m
  induction m with
  | zero => exact ⟨by show (0 : Int) ≤ 0 + v.toInt; omega, fun _ => rfl⟩
  | succ m ih =>
    have hu : upd f j (imax (f j) v) m = if m = j then imax (f j) v else f m := rfl
    by_cases e : m = j
    · subst e
      have h1 := ih.2 (Nat.le_refl _)
      have h2 := hf m
      refine ⟨?_, fun h => by omega⟩
      show SA _ m + (upd f m (imax (f m) v) m).toInt ≤ SA f m + (f m).toInt + v.toInt
      rw [h1, hu, if_pos rfl, ti_max]
      omega
    · refine ⟨?_, fun h => ?_⟩
      · show SA _ m + (upd f j (imax (f j) v) m).toInt ≤ SA f m + (f m).toInt + v.toInt
        rw [hu, if_neg e]; have := ih.1; omega
      · show SA _ m + (upd f j (imax (f j) v) m).toInt = SA f m + (f m).toInt
        rw [hu, if_neg e, ih.2 (by omega)]
theorem SA_nn {f : Nat → Int32} (hf : ∀ k, 0 ≤ (f k).toInt) : ∀ m, 0 ≤ SA f m := by
  intro m
  induction m with
  | zero => exact Int.le_refl _
  | succ m ih => have := hf m; show 0 ≤ SA f m + _; omega
theorem SA_le {f : Nat → Int32} (hf : ∀ k, 0 ≤ (f k).toInt) : ∀ m k, k < m → (f k).toInt ≤ SA f m := by
  intro m
  induction m with
  | zero => intro k h; omega
  | succ m ih =>
    intro k h
    have h1 := hf m
    have h2 := SA_nn hf m
    show _ ≤ SA f m + (f m).toInt
    by_cases e : k = m
    · subst e; omega
    · have := ih k (by omega); omega
theorem sumA_i {f : Nat → Int32} (hf : ∀ k, 0 ≤ (f k).toInt) {B : Int} (hB : B ≤ 2000000000) : ∀ (n k : Nat) (a : Int32), a.toInt = SA f k → SA f (k + n) ≤ B → (sumA f n k a).toInt = SA f (k + n) := by
  intro n
  induction n with
  | zero => intro k a h1 h2; exact h1
  | succ n ih =>
    intro k a h1 h2
    have hm : SA f (k + 1) ≤ SA f (k + (n + 1)) := by
      have : ∀ d, SA f (k + 1) ≤ SA f (k + 1 + d) := by
        intro d
        induction d with
        | zero => exact Int.le_refl _
        | succ d ihd =>
          have h8 := hf (k + 1 + d)
          have h9 : SA f (k + 1 + (d + 1)) = SA f (k + 1 + d) + (f (k + 1 + d)).toInt := rfl
          omega
      have h := this n
      rw [show k + 1 + n = k + (n + 1) by omega] at h
      exact h
    have h3 : SA f (k + 1) = SA f k + (f k).toInt := rfl
    have h4 := SA_nn hf k
    have h5 := hf k
    have e : (a + f k).toInt = SA f (k + 1) := by rw [ti_add (by omega) (by omega), h1, h3]
    have := ih (k + 1) (a + f k) e (by rw [show k + 1 + n = k + (n + 1) by omega]; exact h2)
    rw [show k + 1 + n = k + (n + 1) by omega] at this
    exact this
theorem colf_b {S : zCS} {w : Nat → Int32} {cols : Int32} {v : Nat → Nat} (hv : ∀ j, 0 ≤ (w j + kSides S j).toInt ∧ (w j + kSides S j).toInt ≤ v j ∨ v j = 0) : True := trivial
/-- columns: each no less than 0, their sum at most the sum of what is put in -/
theorem cols_b {S : zCS} {w : Nat → Int32} {cols : Int32} (v : Nat → Nat) (m : Nat) : ∀ (es : List Nat) (k : Nat) (f : Nat → Int32), (∀ j, j ∈ es → 0 ≤ (w j + kSides S j).toInt ∧ (w j + kSides S j).toInt ≤ v j) → (∀ k, 0 ≤ (f k).toInt) →
    (∀ k2, 0 ≤ (((nums es k).foldl (colf S w cols) f) k2).toInt) ∧ SA ((nums es k).foldl (colf S w cols) f) m ≤ SA f m + ((es.map v).sum : Nat) := by
  intro es
  induction es with
  | nil => intro k f _ hf; exact ⟨hf, by show SA f m ≤ SA f m + ((0 : Nat) : Int); omega⟩
  | cons j es ih =>
    intro k f hv hf
    have h1 := hv j List.mem_cons_self
    have hf2 : ∀ k2, 0 ≤ ((colf S w cols f (k, j)) k2).toInt := fun k2 => by
      show 0 ≤ ((if k2 = (nI k - nI k / cols * cols).toNatClampNeg then imax (f (nI k - nI k / cols * cols).toNatClampNeg) (w j + kSides S j) else f k2) : Int32).toInt
      split
      · rw [ti_max]; have := hf (nI k - nI k / cols * cols).toNatClampNeg; omega
      · exact hf k2
    obtain ⟨i1, i2⟩ := ih (k + 1) (colf S w cols f (k, j)) (fun x hx => hv x (List.mem_cons_of_mem _ hx)) hf2
    refine ⟨i1, ?_⟩
    have h3 := (SA_upd (j := (nI k - nI k / cols * cols).toNatClampNeg) hf h1.1 m).1
    have h4 : SA (colf S w cols f (k, j)) m ≤ SA f m + (w j + kSides S j).toInt := h3
    rw [List.map_cons, List.sum_cons]
    show SA (List.foldl (colf S w cols) (colf S w cols f (k, j)) (nums es (k + 1))) m ≤ _
    omega
theorem cCW_b {S : zCS} (hK : KWf S) (l : Bool) : ∀ (f i : Nat), i < kN S → kN S ≤ f + i → 0 ≤ (cCW f S i l).toInt ∧ (cCW f S i l).toInt + 80 ≤ 1400 * (1 + sz S i : Nat) := by
  intro f
  induction f with
  | zero => intro i h1 h2; omega
  | succ f ih =>
    intro i hi hf
    have hp := pad2_b hK hi
    have hcb : ∀ j, j ∈ kCh S i → 0 ≤ (cCW f S j l + kSides S j).toInt ∧ (cCW f S j l + kSides S j).toInt ≤ (1400 * (1 + sz S j) : Nat) := fun j hj => by
      obtain ⟨a1, a2, a3⟩ := hK.ch hi hj
      have h1 := ih j a2 (by omega)
      have h2 := sides_b hK a2
      have h3 := sz_le hK a2
      rw [ti_add (by omega) (by omega)]
      omega
    have hs := sz_le hK hi
    unfold cCW
    by_cases ht : kTold S i ≠ -1
    · rw [if_pos ht]
      have := told_b hK hi
      have := ne_m1.mp ht
      omega
    · rw [if_neg ht]
      by_cases hx : kText S i = true
      · rw [if_pos hx]
        obtain ⟨hl, hw⟩ := (hK.2 i hi).2.2.2.1
        have hb := cTW_b (kWd S i) (0, 0) 0 (fun v hv => by
          obtain ⟨n, n1, n2, rfl⟩ := hw v hv
          rw [nI_toInt (by omega)]
          omega) (by decide) (by decide) (by decide) (by decide) (by omega)
        have hc : 0 ≤ (cTW (kWd S i) l).toInt ∧ (cTW (kWd S i) l).toInt ≤ 1240 := by
          unfold cTW
          split
          · omega
          · exact hb.2
        rw [ti_add (by omega) (by omega)]
        omega
      · rw [if_neg hx]
        by_cases hb : kF S i 2 = 98
        · rw [if_pos hb]
          have h9 : ∀ (ys : List Nat) (w : Int32), (∀ j, j ∈ ys → j ∈ kCh S i) → 0 ≤ w.toInt → w.toInt ≤ (1400 * sz S i : Nat) → 0 ≤ (ys.foldl (fun w j => if kLifted S j = true then w else imax w (cCW f S j l + kSides S j)) w).toInt ∧ (ys.foldl (fun w j => if kLifted S j = true then w else imax w (cCW f S j l + kSides S j)) w).toInt ≤ (1400 * sz S i : Nat) := by
            intro ys
            induction ys with
            | nil => intro w _ h1 h2; exact ⟨h1, h2⟩
            | cons j ys ihy =>
              intro w hm h1 h2
              have hj := hm j List.mem_cons_self
              have h3 := hcb j hj
              have h4 := sz_ch hK hi hj
              refine ihy _ (fun x hx => hm x (List.mem_cons_of_mem _ hx)) ?_ ?_
              · show 0 ≤ (if kLifted S j = true then w else imax w (cCW f S j l + kSides S j)).toInt
                split
                · exact h1
                · rw [ti_max]; omega
              · show (if kLifted S j = true then w else imax w (cCW f S j l + kSides S j)).toInt ≤ _
                split
                · exact h2
                · rw [ti_max]; omega
          have := h9 (kCh S i) 0 (fun j h => h) (by decide) (by rw [ti_0]; omega)
          rw [ti_add (by omega) (by omega)]
          omega
        · rw [if_neg hb]
          have hit : ∀ j, j ∈ kItemsOf S i → j ∈ kCh S i := fun j h => (List.mem_filter.mp h).1
          have hsi : ((kItemsOf S i).map (fun j => 1400 * (1 + sz S j))).sum ≤ 1400 * sz S i := by
            have h1 := sz_items hK hi
            have h2 : ∀ l : List Nat, (l.map (fun j => 1400 * (1 + sz S j))).sum = 1400 * (l.map (fun j => 1 + sz S j)).sum := by
              intro l
              induction l with
              | nil => rfl
              | cons x r ih => simp only [List.map_cons, List.sum_cons, ih]; omega
            rw [h2]
            exact Nat.mul_le_mul_left _ h1
          by_cases hr : kF S i 2 = 102
          · rw [if_pos hr]
            have h9 : ∀ (ys : List Nat) (w : Int32) (n : Nat), (∀ j, j ∈ ys → j ∈ kCh S i) → 0 ≤ w.toInt → w.toInt ≤ n → n + (ys.map (fun j => 1400 * (1 + sz S j))).sum ≤ 1400 * sz S i → 0 ≤ (ys.foldl (fun w j => w + (cCW f S j l + kSides S j)) w).toInt ∧ (ys.foldl (fun w j => w + (cCW f S j l + kSides S j)) w).toInt ≤ (1400 * sz S i : Nat) := by
              intro ys
              induction ys with
              | nil => intro w n _ h1 h2 h3; exact ⟨h1, by show w.toInt ≤ _; rw [List.map_nil, List.sum_nil] at h3; omega⟩
              | cons j ys ihy =>
                intro w n hm h1 h2 h3
                have h4 := hcb j (hm j List.mem_cons_self)
                rw [List.map_cons, List.sum_cons] at h3
                have e : (w + (cCW f S j l + kSides S j)).toInt = w.toInt + (cCW f S j l + kSides S j).toInt := ti_add (by omega) (by omega)
                exact ihy (w + (cCW f S j l + kSides S j)) (n + 1400 * (1 + sz S j)) (fun x hx => hm x (List.mem_cons_of_mem _ hx)) (by omega) (by omega) (by omega)
            have := h9 (kItemsOf S i) 0 0 hit (by decide) (by decide) (by omega)
            rw [ti_add (by omega) (by omega)]
            omega
          · rw [if_neg hr]
            have hc := cols_b (S := S) (w := fun j => cCW f S j l) (cols := kF S i 15) (fun j => 1400 * (1 + sz S j)) (kF S i 15).toNatClampNeg (kItemsOf S i) 0 (fun _ => 0) (fun j hj => hcb j (hit j hj)) (fun _ => by decide)
            have h0 : SA (fun _ => (0 : Int32)) (kF S i 15).toNatClampNeg = 0 := by
              generalize (kF S i 15).toNatClampNeg = m
              induction m with
              | zero => rfl
              | succ m ih => show SA _ m + 0 = 0; omega
            have hn := SA_nn hc.1 (kF S i 15).toNatClampNeg
            have he := sumA_i hc.1 (B := 33600) (by decide) (kF S i 15).toNatClampNeg 0 0 rfl (by rw [Nat.zero_add]; omega)
            rw [Nat.zero_add] at he
            rw [ti_add (by omega) (by omega)]
            omega
theorem cW_b {S : zCS} (hK : KWf S) {i : Nat} (hi : i < kN S) (l : Bool) : 0 ≤ (cW S i l).toInt ∧ (cW S i l).toInt + 80 ≤ 1400 * (1 + sz S i : Nat) := cCW_b hK l 24 i hi (by have := hK.1; omega)
theorem cFit_b {S : zCS} (hK : KWf S) {i : Nat} (hi : i < kN S) (w : Int32) : 0 ≤ (cFit S i w).toInt ∧ (cFit S i w).toInt ≤ 33600 := by
  have h1 := cW_b hK hi true
  have h2 := cW_b hK hi false
  have h3 := sz_le hK hi
  unfold cFit
  split
  · rename_i ht
    have := told_b hK hi
    have := ne_m1.mp ht
    omega
  · rw [ti_max, ti_min]; omega
/-- a width that a box is laid with -/
def WB (i : Nat) (w : Int32) : Prop := 0 ≤ w.toInt ∧ w.toInt ≤ 2000000 * (i + 1 : Nat)
theorem WB.fit {S : zCS} (hK : KWf S) {i : Nat} (hi : i < kN S) (w : Int32) : WB i (cFit S i w) := by have := cFit_b hK hi w; unfold WB; omega
theorem WB.ne {i : Nat} {w : Int32} (h : WB i w) : w ≠ -1 := ne_m1.mpr (by unfold WB at h; omega)
/-- the room within a box -/
theorem inner_b {S c : zCS} (hS : SS S c) (hK : KWf S) {i : Nat} (hi : i < kN S) (hw : WB i (kP c i 2)) : 0 ≤ (kInner c i).toInt ∧ (kInner c i).toInt ≤ 2000000 * (i + 1 : Nat) := by
  have hp := pad2_b hK hi
  have hn := hK.1
  unfold WB at hw
  unfold kInner
  rw [hS.f i 12 rfl, ti_max, ti_0, ti_sub (by omega) (by omega)]
  omega
