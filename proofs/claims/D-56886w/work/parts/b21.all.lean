/-! ===== the plain law: all contexts laid out ===== -/
/-- where a layout begins: the root, and what is lifted out -/
def RT (S : zCS) (r : Nat) : Prop := r = 0 ∨ kLifted S r = true
theorem up_par {S : zCS} (hW : WS S) {x : Nat} (hx : x < kN S) (h0 : x ≠ 0) : ∃ p, kPar S x = some p ∧ p < x := by
  cases hp : kPar S x with
  | none => exact absurd ((hW.2.2.2 x hx).mp hp) h0
  | some p => exact ⟨p, rfl, (hW.1.2 x hx).1 p hp⟩
theorem rt_ex {S : zCS} (hW : WS S) : ∀ (n x : Nat), x ≤ n → x < kN S → ∃ r, RT S r ∧ Dm S r x ∧ r ≤ x := by
  intro n
  induction n with
  | zero => intro x h _; exact ⟨x, Or.inl (by omega), Dm.rf S x, Nat.le_refl _⟩
  | succ n ih =>
    intro x h hx
    by_cases h0 : x = 0
    · exact ⟨x, Or.inl h0, Dm.rf S x, Nat.le_refl _⟩
    · cases hl : kLifted S x with
      | true => exact ⟨x, Or.inr hl, Dm.rf S x, Nat.le_refl _⟩
      | false =>
        obtain ⟨p, hp, hpx⟩ := up_par hW hx h0
        obtain ⟨r, h1, h2, h3⟩ := ih p (by omega) (by omega)
        exact ⟨r, h1, Dm.up hl hp h2, by omega⟩
theorem rt_no {S : zCS} (hW : WS S) {b x p : Nat} (hb : RT S b) (hl : kLifted S b = false) (hp : kPar S b = some p) : False := by
  rcases hb with h | h
  · subst h
    have := (hW.2.2.2 0 hW.2.2.1).mpr rfl
    rw [this] at hp; cases hp
  · rw [h] at hl; cases hl
theorem rt_uniq {S : zCS} (hW : WS S) {a b x : Nat} (ha : RT S a) (hb : RT S b) (h1 : Dm S a x) (h2 : Dm S b x) : a = b := by
  obtain ⟨k, h1⟩ := h1
  induction k generalizing x with
  | zero =>
    rw [show x = a from h1] at h2
    rcases h2.cases with e | ⟨p, q1, q2, -⟩
    · exact e
    · exact (rt_no (x := a) hW ha q2 q1).elim
  | succ k ih =>
    obtain ⟨q1, p, q2, q3⟩ := h1
    rcases h2.cases with e | ⟨p', s1, s2, s3⟩
    · subst e
      exact (rt_no (x := x) hW hb q1 q2).elim
    · rw [q2] at s1
      cases s1
      exact ih s3 q3
theorem rt_ctx {S : zCS} (hW : WS S) {r : Nat} (h : RT S r) : mCtx S r = true := by
  unfold mCtx
  rcases h with h | h
  · subst h
    have : kRoot S 0 = true := by unfold kRoot; rw [(hW.2.2.2 0 hW.2.2.1).mpr rfl]; rfl
    rw [this]; rfl
  · rw [h]; simp
def QG (S c m : zCS) (r : Nat) : Prop := LPp S c m r ∧ (kP c r 2 = kP m r 2 ∧ kP c r 3 = kP m r 3) ∧ (kText S r = true → LE S (kLn c r) (kLn m r) r) ∧ kP c r 0 = 0 ∧ kP c r 1 = 0
def CA (S c : zCS) : Prop := ∀ x, x < kN S → kF c x 25 ≠ -1 → CI S c x
def CB (S c m : zCS) : Prop := ∀ x, x < kN S → C1x c m x
/-- every box: laid with its context's beginning -/
def LG (S c m : zCS) : Prop := ∀ r, r < kN S → RT S r → QG S c m r
theorem QG.st {S c c' m m' : zCS} (hW : WS S) {r : Nat} (hr : RT S r) (h : QG S c m r) (hc : ∀ x, Dm S r x → sm c c' x) (hm : ∀ x, Dm S r x → sm m m' x) : QG S c' m' r := by
  obtain ⟨a1, ⟨a2, a3⟩, a4, a5, a6⟩ := h
  have h1 := hc r (Dm.rf S r)
  have h2 := hm r (Dm.rf S r)
  exact ⟨a1.st (fun x hx _ => hc x hx) (fun x hx _ => hm x hx) (Or.inl (rt_ctx hW hr)), ⟨by rw [h1.1, h2.1]; exact a2, by rw [h1.1, h2.1]; exact a3⟩, fun ht => by rw [h1.2.2, h2.2.2]; exact a4 ht, (h1.1 0).trans a5, (h1.1 1).trans a6⟩
theorem QG.wd {S c m : zCS} {r x : Nat} (h : QG S c m r) (hx : Dm S r x) : kP c x 2 = kP m x 2 := by
  by_cases e : x = r
  · rw [e]; exact h.2.1.1
  · exact (h.1 x hx e).2.1.1
theorem one_ok {S : zCS} (chk : Bool) (hW : WS S) {i : Nat} (hi : i < kN S) (hr : RT S i) {c c0 m : zCS} (n ct w : Int32) (hc : SS S c) (hm : SS S m) (h0 : KEq c c0) (hs : ∀ z, z ≠ i → sm c c0 z) (hsi : sl c c0 i) (h00 : kP c0 i 0 = 0 ∧ kP c0 i 1 = 0) (hwb : WB i w) (hci : chk = false → CA S c) :
    QG S (L24 chk (c0, n) i w).1 (M24 (m, ct) i w true).1 i ∧ (Fr (Dm S i) c (L24 chk (c0, n) i w).1 ∧ Fr (Dm S i) m (M24 (m, ct) i w true).1) ∧ (KEq c (L24 chk (c0, n) i w).1 ∧ MQe m (M24 (m, ct) i w true).1) ∧ (chk = false → CA S (L24 chk (c0, n) i w).1) ∧ (chk = false → CB S c m → CB S (L24 chk (c0, n) i w).1 (M24 (m, ct) i w true).1 ∧ CTd n (L24 chk (c0, n) i w).2 ct (M24 (m, ct) i w true).2) := by
  have hcx := rt_ctx hW hr
  have hN := hW.1.1
  have hsl : ∀ z, sl c c0 z := fun z => by
    by_cases e : z = i
    · rw [e]; exact hsi
    · exact (hs z e).sl
  have hu : ∀ x, x < kN S → ¬ Dm S i x → ∀ y, Dm S x y → ¬ Dm S i y := fun x hx hn y hy hd => by
    obtain ⟨r, r1, r2, -⟩ := rt_ex hW x x (Nat.le_refl _) hx
    exact hn (rt_uniq hW r1 hr (r2.trans hy) hd ▸ r2)
  obtain ⟨⟨q1, q2, q3, q4, q5, q6⟩, f1, p01, k1, cnt⟩ := (LF_ok chk hW 24 24).1 c0 n m ct i w true (hc.K h0) hm hi (by omega) (by omega) hcx hwb (fun h9 x hx hk => by
    rw [(hsl x).2.1] at hk
    refine (hci h9 x (Dm.lt hW hi hx) hk).st (fun y hy hne => hs y (fun e => ?_)) (hsl x)
    subst e
    exact hne (Nat.le_antisymm (Dm.le hW.1 (Dm.lt hW hi hx) hx) (Dm.le hW.1 hi hy)))
  obtain ⟨g1, g2, g3, -, g5, -⟩ := (RK.all hW 24).1 (m, ct) i w true hm hi (by omega) hcx
  have g5' : MK S m (M24 (m, ct) i w true).1 i := g5
  have g2' : Fr (Dm S i) m (M24 (m, ct) i w true).1 := g2
  have hF : Fr (Dm S i) c (L24 chk (c0, n) i w).1 := fun z hz => (hs z (fun e => hz (e ▸ Dm.rf S i))).trans (f1 z hz)
  have hQ : QG S (L24 chk (c0, n) i w).1 (M24 (m, ct) i w true).1 i := ⟨q1, ⟨q2.trans g3.symm, q3⟩, q4, p01.1.trans h00.1, p01.2.trans h00.2⟩
  refine ⟨hQ, ⟨hF, g2'⟩, ⟨h0.trans k1, g1⟩, fun h9 x hx hk => ?_, fun h9 hCB => ⟨fun x hx => ?_, cnt h9 rfl (fun x hx => (hCB x (Dm.lt hW hi hx)).st (hsl x) (sl.rf m x))⟩⟩
  · rcases Classical.em (Dm S i x) with hd | hd
    · exact (q6 h9).2 x hd hk
    · rw [(hF x hd).2.1] at hk
      exact (hci h9 x hx hk).st (fun y hy _ => hF y (hu x hx hd y hy)) (hF x hd).sl
  · rcases Classical.em (Dm S i x) with hd | hd
    · have hkq := (q6 h9).1 x hd
      have hmk := g5' x hd
      cases hcc : mCtx S x with
      | true =>
        obtain ⟨a1, a2⟩ := hkq.1 hcc
        obtain ⟨b1, b2⟩ := hmk.1 hcc
        exact Or.inr ⟨a2, b1, b2.trans ((hQ.wd hd).symm.trans a1.symm)⟩
      | false =>
        have a1 := hkq.2 hcc
        obtain ⟨b1, b2⟩ := hmk.2 hcc
        have h1 := hCB x hx
        unfold C1x at h1 ⊢
        rw [a1, b1, b2, (hsl x).2.1]
        exact h1
    · exact (hCB x hx).st (hF x hd).sl (g2' x hd).sl
theorem hld_S {S c : zCS} (h : SS S c) : ∀ (f p : Nat), hldF f c p = hldF f S p := by
  intro f
  induction f with
  | zero => intro p; rfl
  | succ f ih =>
    intro p
    unfold hldF
    rw [h.par, h.f p 17 rfl]
    cases kPar S p with
    | none => rfl
    | some q => show (if kF S p 17 = 115 then hldF f c q else p) = if kF S p 17 = 115 then hldF f S q else p; rw [ih q]
theorem SS.hold {S c : zCS} (h : SS S c) (i : Nat) : kHold c i = kHold S i := by
  unfold kHold
  rw [h.par]
  cases kPar S i with
  | none => rfl
  | some p => exact hld_S h 24 p
theorem all_ok {S : zCS} (chk : Bool) (hW : WS S) {c m : zCS} (n ct w : Int32) (hc : SS S c) (hm : SS S m) (hwb : WB 0 w) (h00 : kP c 0 0 = 0 ∧ kP c 0 1 = 0) (hci : chk = false → CA S c) :
    LG S (cAll (L24 chk) (c, n) w).1 (mAllL M24 (m, ct) w).1 ∧ (KEq c (cAll (L24 chk) (c, n) w).1 ∧ MQe m (mAllL M24 (m, ct) w).1) ∧ (chk = false → CA S (cAll (L24 chk) (c, n) w).1) ∧ (chk = false → CB S c m → CB S (cAll (L24 chk) (c, n) w).1 (mAllL M24 (m, ct) w).1 ∧ CTd n (cAll (L24 chk) (c, n) w).2 ct (mAllL M24 (m, ct) w).2) := by
  have hN := hW.1.1
  have key : ∀ k, k ≤ kN S → (∀ r, r < kN S → RT S r → (r = 0 ∨ r < k) → QG S ((List.range k).foldl (cAllS (L24 chk)) (L24 chk (c, n) 0 w)).1 ((List.range k).foldl (mAllS M24) (M24 (m, ct) 0 w true)).1 r) ∧ (KEq c ((List.range k).foldl (cAllS (L24 chk)) (L24 chk (c, n) 0 w)).1 ∧ MQe m ((List.range k).foldl (mAllS M24) (M24 (m, ct) 0 w true)).1) ∧ (chk = false → CA S ((List.range k).foldl (cAllS (L24 chk)) (L24 chk (c, n) 0 w)).1) ∧ (chk = false → CB S c m → CB S ((List.range k).foldl (cAllS (L24 chk)) (L24 chk (c, n) 0 w)).1 ((List.range k).foldl (mAllS M24) (M24 (m, ct) 0 w true)).1 ∧ CTd n ((List.range k).foldl (cAllS (L24 chk)) (L24 chk (c, n) 0 w)).2 ct ((List.range k).foldl (mAllS M24) (M24 (m, ct) 0 w true)).2) := by
    intro k
    induction k with
    | zero =>
      intro _
      obtain ⟨a1, -, a3, a4, a5⟩ := one_ok chk hW hW.2.2.1 (Or.inl rfl) n ct w hc hm (KEq.rf c) (fun z _ => sm.rf c z) (sl.rf c 0) h00 hwb hci
      refine ⟨fun r _ _ h => ?_, a3, a4, a5⟩
      rcases h with h | h
      · rw [h]; exact a1
      · omega
    | succ k ih =>
      intro hk
      obtain ⟨i1, ⟨i2, i2m⟩, i3, i4⟩ := ih (by omega)
      rw [List.range_succ, List.foldl_append, List.foldl_append]
      generalize (List.range k).foldl (cAllS (L24 chk)) (L24 chk (c, n) 0 w) = s at i1 i2 i3 i4 ⊢
      generalize (List.range k).foldl (mAllS M24) (M24 (m, ct) 0 w true) = t at i1 i2m i4 ⊢
      obtain ⟨s1, s2⟩ := s
      obtain ⟨t1, t2⟩ := t
      have hs : SS S s1 := hc.K i2
      have ht : SS S t1 := hm.K i2m.1
      have hls : kLifted s1 k = kLifted S k := congrFun hs.lifted k
      have hlt : kLifted t1 k = kLifted S k := congrFun ht.lifted k
      show (∀ r, r < kN S → RT S r → (r = 0 ∨ r < k + 1) → QG S (cAllS (L24 chk) (s1, s2) k).1 (mAllS M24 (t1, t2) k).1 r) ∧ (KEq c (cAllS (L24 chk) (s1, s2) k).1 ∧ MQe m (mAllS M24 (t1, t2) k).1) ∧ (chk = false → CA S (cAllS (L24 chk) (s1, s2) k).1) ∧ (chk = false → CB S c m → CB S (cAllS (L24 chk) (s1, s2) k).1 (mAllS M24 (t1, t2) k).1 ∧ CTd n (cAllS (L24 chk) (s1, s2) k).2 ct (mAllS M24 (t1, t2) k).2)
      cases hl : kLifted S k with
      | false =>
        have e1 : cAllS (L24 chk) (s1, s2) k = (s1, s2) := if_neg (show ¬ kLifted s1 k = true by rw [hls, hl]; exact Bool.false_ne_true)
        have e2 : mAllS M24 (t1, t2) k = (t1, t2) := if_neg (show ¬ kLifted t1 k = true by rw [hlt, hl]; exact Bool.false_ne_true)
        rw [e1, e2]
        refine ⟨fun r h1 h2 h3 => ?_, ⟨i2, i2m⟩, i3, i4⟩
        by_cases e : r = k
        · subst e
          rcases h2 with h2 | h2
          · exact i1 r h1 (Or.inl h2) (Or.inl h2)
          · rw [hl] at h2; cases h2
        · exact i1 r h1 h2 (h3.imp id (fun h => by omega))
      | true =>
        have e1 : cAllS (L24 chk) (s1, s2) k = L24 chk (kSetP (kSetP s1 k 0 0) k 1 0, s2) k (cFit s1 k (imax 0 (kP s1 (kHold s1 k) 2 - kF s1 k 18))) := if_pos (show kLifted s1 k = true by rw [hls, hl])
        have e2 : mAllS M24 (t1, t2) k = M24 (t1, t2) k (cFit t1 k (imax 0 (kP t1 (kHold t1 k) 2 - kF t1 k 18))) true := if_pos (show kLifted t1 k = true by rw [hlt, hl])
        have hkN : k < kN S := by omega
        have hrt : kRoot S k = false := by
          cases h : kRoot S k with
          | false => rfl
          | true => unfold kLifted at hl; rw [h] at hl; cases hl
        have hhl := kHold_lt hW.1 hkN hrt
        obtain ⟨r, r1, r2, r3⟩ := rt_ex hW _ _ (Nat.le_refl (kHold S k)) (by omega)
        have hwd := (i1 r (by omega) r1 (Or.inr (by omega))).wd r2
        have ew : cFit s1 k (imax 0 (kP s1 (kHold s1 k) 2 - kF s1 k 18)) = cFit t1 k (imax 0 (kP t1 (kHold t1 k) 2 - kF t1 k 18)) := by
          rw [hs.fit, ht.fit, hs.hold, ht.hold, hs.f k 18 rfl, ht.f k 18 rfl]
          show cFit S k (imax 0 (kP (s1, s2).1 (kHold S k) 2 - _)) = _
          rw [hwd]
        have ewb : WB k (cFit t1 k (imax 0 (kP t1 (kHold t1 k) 2 - kF t1 k 18))) := by rw [ht.fit]; exact WB.fit hW.1 hkN _
        rw [e1, e2, ew]
        obtain ⟨a1, ⟨a2, a2m⟩, ⟨a3, a3m⟩, a4, a5⟩ := one_ok chk hW hkN (Or.inr hl) s2 t2 (cFit t1 k (imax 0 (kP t1 (kHold t1 k) 2 - kF t1 k 18))) hs ht (c0 := kSetP (kSetP s1 k 0 0) k 1 0) ((KEq.setP _ _ _ _).trans (KEq.setP _ _ _ _)) (fun z hz => (sm.P _ 0 _ hz).trans (sm.P _ 1 _ hz)) ((sl.P _ k k 0 _ (by decide) (by decide)).trans (sl.P _ k k 1 _ (by decide) (by decide))) ⟨(kP_n _ _ _ (by decide)).trans (kP_s _ _ _ _), kP_s _ _ _ _⟩ ewb i3
        refine ⟨fun r h1 h2 h3 => ?_, ⟨i2.trans a3, i2m.trans a3m⟩, a4, fun h9 hCB => ?_⟩
        · by_cases e : r = k
          · rw [e]; exact a1
          · have hdis : ∀ z, Dm S r z → ¬ Dm S k z := fun z h4 h5 => e (rt_uniq hW h2 (Or.inr hl) h4 h5)
            exact (i1 r h1 h2 (h3.imp id (fun h => by omega))).st hW h2 (fun z hz => a2 z (hdis z hz)) (fun z hz => a2m z (hdis z hz))
        · obtain ⟨b1, b2⟩ := i4 h9 hCB
          obtain ⟨b3, b4⟩ := a5 h9 b1
          exact ⟨b3, b2.trans b4⟩
  have e1 : cAll (L24 chk) (c, n) w = (List.range (kN S)).foldl (cAllS (L24 chk)) (L24 chk (c, n) 0 w) := by
    unfold cAll
    rw [show kN (c, n).1 = kN S from hc.n]
  have e2 : mAllL M24 (m, ct) w = (List.range (kN S)).foldl (mAllS M24) (M24 (m, ct) 0 w true) := by
    unfold mAllL
    rw [show kN (m, ct).1 = kN S from hm.n]
  rw [e1, e2]
  obtain ⟨k1, k2, k3, k4⟩ := key (kN S) (Nat.le_refl _)
  exact ⟨fun r h1 h2 => k1 r h1 h2 (Or.inr h1), k2, k3, k4⟩
