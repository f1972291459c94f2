/-! ===== the plain law: what a layout costs at most ===== -/
def wsum (c : zCS) : Nat := ((List.range (kN c)).map (fun x => (kWd c x).length)).sum
theorem KW_S {S c : zCS} (h : SS S c) : ∀ (f i : Nat), KW f c i = KW f S i := by
  intro f
  induction f with
  | zero => intro i; rfl
  | succ f ih => intro i; rw [KW_succ, KW_succ, h.ch]; simp only [ih]
theorem LB_S {S c : zCS} (h : SS S c) : ∀ (f i : Nat), LB f c i = LB f S i := by
  intro f
  induction f with
  | zero => intro i; rfl
  | succ f ih => intro i; unfold LB; rw [h.ch, h.wd, h.lifted]; simp only [ih, KW_S h]
theorem LA_S {S c : zCS} (h : SS S c) : LA c = LA S := by
  unfold LA
  rw [h.n, LB_S h]
  have e : LXA c = LXA S := by funext j; unfold LXA; rw [h.lifted, LB_S h, KW_S h]
  rw [e]
theorem KM_S {S c : zCS} (h : SS S c) : KM c = KM S := by
  unfold KM
  rw [h.n]
  have e : KW 24 c = KW 24 S := by funext j; exact KW_S h 24 j
  rw [e]
theorem sum_add2 (l : List Nat) (a b : Nat → Nat) : (l.map (fun x => a x + b x)).sum = (l.map a).sum + (l.map b).sum := by
  induction l with
  | nil => rfl
  | cons x l ih => simp only [List.map_cons, List.sum_cons, ih]; omega
theorem sum_mul2 (l : List Nat) (a : Nat → Nat) (k : Nat) : (l.map (fun x => k * a x)).sum = k * (l.map a).sum := by
  induction l with
  | nil => rfl
  | cons x l ih => simp only [List.map_cons, List.sum_cons, ih, Nat.mul_add]
theorem sum_le2 (l : List Nat) (a b : Nat → Nat) (h : ∀ x, x ∈ l → a x ≤ b x) : (l.map a).sum ≤ (l.map b).sum := by
  induction l with
  | nil => exact Nat.le_refl _
  | cons x l ih =>
    simp only [List.map_cons, List.sum_cons]
    have := h x List.mem_cons_self
    have := ih (fun y hy => h y (List.mem_cons_of_mem _ hy))
    omega
theorem KW_t (c : zCS) : ∀ (f i : Nat), KW f c i + 80 ≤ tsum c (fun _ => 140) f i := by
  intro f
  induction f with
  | zero => intro i; rw [tsum_zero]; show 0 + 80 ≤ 140; omega
  | succ f ih =>
    intro i
    rw [KW_succ, tsum_succ]
    have := sum_le2 (kCh c i) (fun j => KW f c j + 80) (tsum c (fun _ => 140) f) (fun j _ => ih j)
    omega
/-- the boxes from i on, once each -/
theorem KW_b {S : zCS} (hK : KWf S) {i : Nat} (hi : i < kN S) : KW 24 S i ≤ 140 * (kN S - i) := by
  have h1 := KW_t S 24 i
  have hnd := dl_nodup hK 24 i hi
  have hge : ∀ x, x ∈ dl S 24 i → i ≤ x ∧ x < kN S := fun x hx => ⟨(dl_up hK 24 i x hi hx).2.1, (dl_up hK 24 i x hi hx).1⟩
  have h2 : tsum S (fun _ => 140) 24 i ≤ ((List.range (kN S)).map (fun x => if i ≤ x then 140 else 0)).sum := by
    have e : tsum S (fun _ => 140) 24 i = ((dl S 24 i).map (fun x => if i ≤ x then 140 else 0)).sum := by
      unfold tsum
      have : (dl S 24 i).map (fun _ => 140) = (dl S 24 i).map (fun x => if i ≤ x then 140 else 0) := List.map_congr_left (fun x hx => (if_pos (hge x hx).1).symm)
      rw [this]
    rw [e]
    exact nodup_sum _ _ _ hnd (fun x hx => (hge x hx).2)
  have h3 : ∀ N, ((List.range N).map (fun x => if i ≤ x then 140 else 0)).sum = 140 * (N - i) := by
    intro N
    induction N with
    | zero => simp
    | succ N ih =>
      rw [List.range_succ, List.map_append, List.sum_append, ih]
      show _ + (if i ≤ N then 140 else 0) + 0 = _
      split <;> omega
  rw [h3] at h2
  omega
theorem sum_tri : ∀ N, 2 * ((List.range N).map (fun x => N - x)).sum = N * (N + 1) := by
  intro N
  induction N with
  | zero => rfl
  | succ N ih =>
    have e : ((List.range (N + 1)).map (fun x => N + 1 - x)).sum = ((List.range N).map (fun x => N - x)).sum + N + 1 := by
      rw [List.range_succ, List.map_append, List.sum_append]
      have h1 : (List.range N).map (fun x => N + 1 - x) = (List.range N).map (fun x => (N - x) + 1) := List.map_congr_left (fun x hx => by have := List.mem_range.mp hx; omega)
      have h2 : ((List.range N).map (fun _ => 1)).sum = N := sum_one N
      rw [h1, sum_add2 (List.range N) (fun x => N - x) (fun _ => 1), h2]
      show _ + (N + 1 - N + 0) = _
      omega
    have h9 : (N + 1) * (N + 1 + 1) = N * (N + 1) + 2 * (N + 1) := by simp only [Nat.add_mul, Nat.mul_add, Nat.one_mul, Nat.mul_one]; omega
    rw [e, h9]
    omega
theorem KM_b {S : zCS} (hK : KWf S) : KM S ≤ 70 * (kN S * (kN S + 1)) := by
  unfold KM
  have h1 := sum_le2 (List.range (kN S)) (KW 24 S) (fun x => 140 * (kN S - x)) (fun x hx => KW_b hK (List.mem_range.mp hx))
  rw [sum_mul2 (List.range (kN S)) (fun x => kN S - x) 140] at h1
  have := sum_tri (kN S)
  omega
/-- the boxes laid with i -/
def nl (S : zCS) : Nat → Nat → List Nat
  | 0, i => [i]
  | f + 1, i => i :: (kCh S i).flatMap (fun j => if kLifted S j = true then [] else nl S f j)
theorem nl_sub (S : zCS) : ∀ (f i : Nat), (nl S f i).Sublist (dl S f i) := by
  intro f
  induction f with
  | zero => intro i; exact List.Sublist.refl _
  | succ f ih =>
    intro i
    refine List.Sublist.cons_cons i ?_
    induction kCh S i with
    | nil => exact List.Sublist.refl _
    | cons j l ihl =>
      rw [List.flatMap_cons, List.flatMap_cons]
      refine List.Sublist.append ?_ ihl
      split
      · exact List.nil_sublist _
      · exact ih j
theorem nl_dm {S : zCS} (hW : WS S) : ∀ (f i x : Nat), i < kN S → x ∈ nl S f i → Dm S i x := by
  intro f
  induction f with
  | zero => intro i x _ h; rw [List.mem_singleton.mp h]; exact Dm.rf S i
  | succ f ih =>
    intro i x hi h
    rcases List.mem_cons.mp h with e | h
    · rw [e]; exact Dm.rf S i
    · obtain ⟨j, h1, h2⟩ := List.mem_flatMap.mp h
      obtain ⟨-, jN, pj⟩ := hW.1.ch hi h1
      cases hl : kLifted S j with
      | true => rw [if_pos hl] at h2; cases h2
      | false =>
        rw [if_neg (by rw [hl]; exact Bool.false_ne_true)] at h2
        exact Dm.down hl pj (ih j x jN h2)
def gC (S : zCS) (x : Nat) : Nat := 9000 + 5000 * (kWd S x).length + 4 * KW 24 S x
theorem LB_n (S : zCS) : ∀ (f i : Nat), LB f S i + 4 * KW 24 S i + 2000 ≤ ((nl S f i).map (gC S)).sum := by
  intro f
  induction f with
  | zero =>
    intro i
    show 0 + 4 * KW 24 S i + 2000 ≤ gC S i + 0
    unfold gC
    omega
  | succ f ih =>
    intro i
    show 7000 + 5000 * (kWd S i).length + ((kCh S i).map (fun j => if kLifted S j = true then 0 else LB f S j + 4 * KW 24 S j + 2000)).sum + 4 * KW 24 S i + 2000 ≤ gC S i + (((kCh S i).flatMap (fun j => if kLifted S j = true then [] else nl S f j)).map (gC S)).sum
    have key : ∀ l : List Nat, (l.map (fun j => if kLifted S j = true then 0 else LB f S j + 4 * KW 24 S j + 2000)).sum ≤ ((l.flatMap (fun j => if kLifted S j = true then [] else nl S f j)).map (gC S)).sum := by
      intro l
      induction l with
      | nil => exact Nat.le_refl _
      | cons j l ihl =>
        rw [List.map_cons, List.sum_cons, List.flatMap_cons, List.map_append, List.sum_append]
        have h1 : (if kLifted S j = true then 0 else LB f S j + 4 * KW 24 S j + 2000) ≤ ((if kLifted S j = true then [] else nl S f j).map (gC S)).sum := by
          split
          · exact Nat.zero_le _
          · exact ih j
        omega
    have := key (kCh S i)
    have e : gC S i = 9000 + 5000 * (kWd S i).length + 4 * KW 24 S i := rfl
    omega
theorem LA_b {S : zCS} (hW : WS S) : LA S ≤ 9000 * kN S + 5000 * wsum S + 280 * (kN S * (kN S + 1)) := by
  have hK := hW.1
  -- the beginnings: lifted boxes, then the root
  have key : ∀ k, k ≤ kN S → ∃ l : List Nat, l.Nodup ∧ (∀ x, x ∈ l → ∃ r, r < k ∧ r < kN S ∧ kLifted S r = true ∧ Dm S r x) ∧ ((List.range k).map (LXA S)).sum ≤ (l.map (gC S)).sum := by
    intro k
    induction k with
    | zero => intro _; exact ⟨[], List.nodup_nil, fun x hx => absurd hx List.not_mem_nil, Nat.le_refl _⟩
    | succ k ih =>
      intro hk
      obtain ⟨l, h1, h2, h3⟩ := ih (by omega)
      rw [List.range_succ, List.map_append, List.sum_append]
      have e : (List.map (LXA S) [k]).sum = LXA S k := by simp
      rw [e]
      cases hl : kLifted S k with
      | false =>
        refine ⟨l, h1, fun x hx => ?_, ?_⟩
        · obtain ⟨r, a, b⟩ := h2 x hx; exact ⟨r, by omega, b⟩
        · unfold LXA; rw [if_neg (by rw [hl]; exact Bool.false_ne_true)]; exact h3
      | true =>
        refine ⟨nl S 24 k ++ l, List.nodup_append.mpr ⟨(dl_nodup hK 24 k (by omega)).sublist (nl_sub S 24 k), h1, fun x hx y hy hxy => ?_⟩, fun x hx => ?_, ?_⟩
        · subst hxy
          obtain ⟨r, a, b, d, e⟩ := h2 x hy
          have := rt_uniq hW (Or.inr d) (Or.inr hl) e (nl_dm hW 24 k x (by omega) hx)
          omega
        · rcases List.mem_append.mp hx with hx | hx
          · exact ⟨k, by omega, by omega, hl, nl_dm hW 24 k x (by omega) hx⟩
          · obtain ⟨r, a, b⟩ := h2 x hx; exact ⟨r, by omega, b⟩
        · rw [List.map_append, List.sum_append, LXA_l hl]
          exact Nat.le_trans (Nat.add_le_add h3 (LB_n S 24 k)) (Nat.le_of_eq (Nat.add_comm _ _))
  obtain ⟨l, h1, h2, h3⟩ := key (kN S) (Nat.le_refl _)
  have hlen := LB_n S 24 0
  have hnd : (nl S 24 0 ++ l).Nodup := List.nodup_append.mpr ⟨(dl_nodup hK 24 0 hW.2.2.1).sublist (nl_sub S 24 0), h1, fun x hx y hy hxy => by
    subst hxy
    obtain ⟨r, a, b, d, e⟩ := h2 x hy
    have h0 := rt_uniq hW (Or.inr d) (Or.inl rfl) e (nl_dm hW 24 0 x hW.2.2.1 hx)
    subst h0
    have hr : kRoot S 0 = true := by unfold kRoot; rw [(hW.2.2.2 0 hW.2.2.1).mpr rfl]; rfl
    unfold kLifted at d
    rw [hr] at d
    cases d⟩
  have hbd := nodup_sum (gC S) (kN S) _ hnd (fun x hx => by
    rcases List.mem_append.mp hx with hx | hx
    · exact Dm.lt hW hW.2.2.1 (nl_dm hW 24 0 x hW.2.2.1 hx)
    · obtain ⟨r, -, b, -, e⟩ := h2 x hx
      exact Dm.lt hW b e)
  rw [List.map_append, List.sum_append] at hbd
  have hg : ((List.range (kN S)).map (gC S)).sum = 9000 * kN S + 5000 * wsum S + 4 * KM S := by
    have e1 : (List.range (kN S)).map (gC S) = (List.range (kN S)).map (fun x => (9000 * 1 + 5000 * (kWd S x).length) + 4 * KW 24 S x) := rfl
    rw [e1, sum_add2 (List.range (kN S)) (fun x => 9000 * 1 + 5000 * (kWd S x).length) (fun x => 4 * KW 24 S x), sum_add2 (List.range (kN S)) (fun _ => 9000 * 1) (fun x => 5000 * (kWd S x).length), sum_mul2 (List.range (kN S)) (fun _ => 1) 9000, sum_mul2 (List.range (kN S)) (fun x => (kWd S x).length) 5000, sum_mul2 (List.range (kN S)) (KW 24 S) 4, sum_one]
    rfl
  rw [hg] at hbd
  have := KM_b hK
  unfold LA
  omega
