/-! ===== the tree of boxes: what is summed below a box is at most what is summed over all ===== -/
def upK (c : zCS) : Nat → Nat → Option Nat
  | 0, x => some x
  | k + 1, x => (upK c k x).bind (kPar c)
theorem upK_add (c : zCS) (x : Nat) (k : Nat) : ∀ n, upK c (k + n) x = (upK c k x).bind (upK c n) := by
  intro n
  induction n with
  | zero =>
    show upK c k x = _
    cases h : upK c k x with
    | none => rfl
    | some y => rfl
  | succ n ih =>
    show (upK c (k + n) x).bind (kPar c) = _
    rw [ih]
    cases upK c k x with
    | none => rfl
    | some y => rfl
theorem KWf.par {c : zCS} (h : KWf c) {i p : Nat} (hi : i < kN c) (hp : kPar c i = some p) : p < i := (h.2 i hi).1 p hp
theorem KWf.ch {c : zCS} (h : KWf c) {i j : Nat} (hi : i < kN c) (hj : j ∈ kCh c i) : i < j ∧ j < kN c ∧ kPar c j = some i := ⟨((h.2 i hi).2.1 j hj).1.1, ((h.2 i hi).2.1 j hj).1.2, ((h.2 i hi).2.1 j hj).2⟩
theorem KWf.nd {c : zCS} (h : KWf c) {i : Nat} (hi : i < kN c) : (kCh c i).Nodup := (h.2 i hi).2.2.1.2
theorem upK_le {c : zCS} (h : KWf c) : ∀ (n y z : Nat), y < kN c → upK c n y = some z → z ≤ y := by
  intro n
  induction n with
  | zero => intro y z hy e; cases e; exact Nat.le_refl _
  | succ n ih =>
    intro y z hy e
    have e' : (upK c n y).bind (kPar c) = some z := e
    cases hu : upK c n y with
    | none => rw [hu] at e'; cases e'
    | some w =>
      rw [hu] at e'
      have h1 := ih y w hy hu
      have h2 := h.par (i := w) (p := z) (by omega) e'
      omega
/-- the boxes below i, itself among them -/
def dl (c : zCS) : Nat → Nat → List Nat
  | 0, i => [i]
  | f + 1, i => i :: (kCh c i).flatMap (dl c f)
theorem dl_up {c : zCS} (h : KWf c) : ∀ (f i x : Nat), i < kN c → x ∈ dl c f i → x < kN c ∧ i ≤ x ∧ ∃ k, upK c k x = some i := by
  intro f
  induction f with
  | zero =>
    intro i x hi hx
    rw [List.mem_singleton.mp hx]
    exact ⟨hi, Nat.le_refl _, 0, rfl⟩
  | succ f ih =>
    intro i x hi hx
    rcases List.mem_cons.mp hx with rfl | hx
    · exact ⟨hi, Nat.le_refl _, 0, rfl⟩
    · obtain ⟨j, hj, hxj⟩ := List.mem_flatMap.mp hx
      obtain ⟨h1, h2, h3⟩ := h.ch hi hj
      obtain ⟨a1, a2, k, hk⟩ := ih j x h2 hxj
      refine ⟨a1, by omega, k + 1, ?_⟩
      show (upK c k x).bind (kPar c) = _
      rw [hk]
      exact h3
theorem up_same {c : zCS} (h : KWf c) {x a b i k m : Nat} (hx : x < kN c) (hkm : k ≤ m) (ha : upK c k x = some a) (hb : upK c m x = some b) (pa : kPar c a = some i) (pb : kPar c b = some i) : a = b := by
  rcases Nat.eq_or_lt_of_le hkm with e | hlt
  · subst e
    rw [ha] at hb
    exact Option.some.inj hb
  · exfalso
    have e1 : upK c (k + 1) x = some i := by
      show (upK c k x).bind (kPar c) = _
      rw [ha]; exact pa
    have e2 : upK c ((k + 1) + (m - (k + 1))) x = some b := by rw [show (k + 1) + (m - (k + 1)) = m by omega]; exact hb
    rw [upK_add, e1] at e2
    have hbN : b < kN c := by have := upK_le h m x b hx hb; omega
    have hib := h.par hbN pb
    have h3 := upK_le h _ i b (by omega) e2
    omega
theorem dl_nodup {c : zCS} (h : KWf c) : ∀ (f i : Nat), i < kN c → (dl c f i).Nodup := by
  intro f
  induction f with
  | zero => intro i _; exact List.nodup_cons.mpr ⟨List.not_mem_nil, List.nodup_nil⟩
  | succ f ih =>
    intro i hi
    show (i :: (kCh c i).flatMap (dl c f)).Nodup
    refine List.nodup_cons.mpr ⟨fun hm => ?_, ?_⟩
    · obtain ⟨j, hj, hxj⟩ := List.mem_flatMap.mp hm
      obtain ⟨h1, h2, -⟩ := h.ch hi hj
      have := (dl_up h f j i h2 hxj).2.1
      omega
    · have key : ∀ l : List Nat, l.Nodup → (∀ j, j ∈ l → j ∈ kCh c i) → (l.flatMap (dl c f)).Nodup := by
        intro l
        induction l with
        | nil => intro _ _; exact List.nodup_nil
        | cons a r ihl =>
          intro hn hs
          obtain ⟨hna, hnr⟩ := List.nodup_cons.mp hn
          rw [List.flatMap_cons]
          refine List.nodup_append.mpr ⟨ih a (h.ch hi (hs a List.mem_cons_self)).2.1, ihl hnr (fun j hj => hs j (List.mem_cons_of_mem _ hj)), fun x hx y hy hxy => ?_⟩
          subst hxy
          obtain ⟨b, hb, hxb⟩ := List.mem_flatMap.mp hy
          obtain ⟨ha1, ha2, ha3⟩ := h.ch hi (hs a List.mem_cons_self)
          obtain ⟨hb1, hb2, hb3⟩ := h.ch hi (hs b (List.mem_cons_of_mem _ hb))
          obtain ⟨x1, -, k, hk⟩ := dl_up h f a x ha2 hx
          obtain ⟨-, -, m, hm⟩ := dl_up h f b x hb2 hxb
          have hab : a = b := by
            rcases Nat.le_total k m with hkm | hkm
            · exact up_same h x1 hkm hk hm ha3 hb3
            · exact (up_same h x1 hkm hm hk hb3 ha3).symm
          exact hna (hab ▸ hb)
      exact key _ (h.nd hi) (fun j hj => hj)
/-- numbers below N, each once -/
theorem nodup_sum (a : Nat → Nat) : ∀ (N : Nat) (l : List Nat), l.Nodup → (∀ x, x ∈ l → x < N) → (l.map a).sum ≤ ((List.range N).map a).sum := by
  intro N
  induction N with
  | zero =>
    intro l _ hl
    cases l with
    | nil => exact Nat.le_refl _
    | cons x r => exact absurd (hl x List.mem_cons_self) (Nat.not_lt_zero _)
  | succ N ih =>
    intro l hn hl
    have hs : (l.map a).sum ≤ ((l.filter (fun x => decide (x ≠ N))).map a).sum + a N := by
      clear ih hl
      induction l with
      | nil => exact Nat.zero_le _
      | cons x r ihl =>
        obtain ⟨h1, h2⟩ := List.nodup_cons.mp hn
        rw [List.map_cons, List.sum_cons, List.filter_cons]
        by_cases hx : x = N
        · have hr : r.filter (fun x => decide (x ≠ N)) = r := List.filter_eq_self.mpr (fun y hy => by
            have : y ≠ N := fun e => h1 (by rw [hx, ← e]; exact hy)
            simp [this])
          rw [if_neg (by simp [hx]), hr, hx]
          omega
        · rw [if_pos (by simp [hx]), List.map_cons, List.sum_cons]
          have := ihl h2
          omega
    have h2 := ih (l.filter (fun x => decide (x ≠ N))) (hn.sublist List.filter_sublist) (fun x hx => by
      obtain ⟨m1, m2⟩ := List.mem_filter.mp hx
      have := hl x m1
      have : x ≠ N := by simpa using m2
      omega)
    rw [List.range_succ, List.map_append, List.sum_append]
    show _ ≤ _ + ([a N] : List Nat).sum
    rw [List.sum_singleton]
    omega
def tsum (c : zCS) (a : Nat → Nat) (f i : Nat) : Nat := ((dl c f i).map a).sum
theorem tsum_le {c : zCS} (h : KWf c) (a : Nat → Nat) (f : Nat) {i : Nat} (hi : i < kN c) : tsum c a f i ≤ ((List.range (kN c)).map a).sum := nodup_sum a _ _ (dl_nodup h f i hi) (fun x hx => (dl_up h f i x hi hx).1)
theorem tsum_zero (c : zCS) (a : Nat → Nat) (i : Nat) : tsum c a 0 i = a i := by show ([a i] : List Nat).sum = _; rw [List.sum_singleton]
theorem tsum_succ (c : zCS) (a : Nat → Nat) (f i : Nat) : tsum c a (f + 1) i = a i + ((kCh c i).map (tsum c a f)).sum := by
  show ((i :: (kCh c i).flatMap (dl c f)).map a).sum = _
  rw [List.map_cons, List.sum_cons]
  congr 1
  generalize kCh c i = l
  induction l with
  | nil => rfl
  | cons x r ih => rw [List.flatMap_cons, List.map_append, List.sum_append, List.map_cons, List.sum_cons, ih]; rfl
theorem FC_tsum (c : zCS) : ∀ (f i : Nat), 1 + FC f c i = tsum c (fun _ => 1) f i := by
  intro f
  induction f with
  | zero => intro i; rw [tsum_zero]; rfl
  | succ f ih =>
    intro i
    rw [tsum_succ]
    show 1 + ((kCh c i).map (fun j => 1 + FC f c j)).sum = _
    simp only [ih]
theorem sum_one (n : Nat) : ((List.range n).map (fun _ => 1)).sum = n := by
  induction n with
  | zero => rfl
  | succ n ih => rw [List.range_succ, List.map_append, List.sum_append, ih]; rfl
theorem FC_le {c : zCS} (h : KWf c) (f : Nat) {i : Nat} (hi : i < kN c) : 1 + FC f c i ≤ 24 := by
  rw [FC_tsum]
  have := tsum_le h (fun _ => 1) f hi
  rw [sum_one] at this
  exact Nat.le_trans this h.1
