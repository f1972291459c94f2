/-! ===== the plain law: what a change of a box leaves as it was ===== -/
/-- k steps up from y to x -/
def aUp (S : zCS) : Nat → Nat → Nat → Prop
  | 0, x, y => y = x
  | k + 1, x, y => ∃ p, kPar S y = some p ∧ aUp S k x p
/-- x is y or above y -/
def An (S : zCS) (x y : Nat) : Prop := ∃ k, aUp S k x y
theorem An.rf (S : zCS) (x : Nat) : An S x x := ⟨0, rfl⟩
theorem An.up {S : zCS} {x y p : Nat} (hp : kPar S y = some p) (h : An S x p) : An S x y := by
  obtain ⟨k, h⟩ := h
  exact ⟨k + 1, p, hp, h⟩
theorem An.cases {S : zCS} {x y : Nat} (h : An S x y) : y = x ∨ ∃ p, kPar S y = some p ∧ An S x p := by
  obtain ⟨k, h⟩ := h
  cases k with
  | zero => exact Or.inl h
  | succ k =>
    obtain ⟨p, a, b⟩ := h
    exact Or.inr ⟨p, a, k, b⟩
theorem An.trans {S : zCS} {x y z : Nat} (h : An S x y) (g : An S y z) : An S x z := by
  obtain ⟨k, g⟩ := g
  induction k generalizing z with
  | zero => rw [show z = y from g]; exact h
  | succ k ih =>
    obtain ⟨p, a, b⟩ := g
    exact An.up a (ih b)
theorem An.par {S S1 : zCS} (hp : ∀ y p, kPar S y = some p → kPar S1 y = some p) {x y : Nat} (h : An S x y) : An S1 x y := by
  obtain ⟨k, h⟩ := h
  induction k generalizing y with
  | zero => rw [show y = x from h]; exact An.rf S1 x
  | succ k ih =>
    obtain ⟨p, a, b⟩ := h
    exact An.up (hp y p a) (ih b)
theorem An.lt {S : zCS} (hW : WS S) {x y : Nat} (hx : x < kN S) (h : An S x y) : y < kN S := by
  rcases h.cases with e | ⟨p, h1, -⟩
  · rw [e]; exact hx
  · exact (hW.2.1 y p h1).1
theorem Dm.an {S : zCS} {x y : Nat} (h : Dm S x y) : An S x y := by
  obtain ⟨k, h⟩ := h
  induction k generalizing y with
  | zero => rw [show y = x from h]; exact An.rf S x
  | succ k ih =>
    obtain ⟨-, p, b, d⟩ := h
    exact An.up b (ih d)
/-- marked from i up -/
def TCd (v lw : Int32) (c : zCS) (i : Nat) (c' : zCS) : Prop := (kN c' = kN c ∧ kPar c' = kPar c ∧ kCh c' = kCh c ∧ kWd c' = kWd c) ∧ (∀ y k, k ≠ 25 → kF c' y k = kF c y k) ∧ (kP c' = kP c ∧ kLn c' = kLn c) ∧ (kLw c' = lw ∧ kCt c' = kCt c) ∧ ∀ y, (An c y i → kF c' y 25 = v) ∧ (¬ An c y i → kF c' y 25 = kF c y 25)
theorem TCd.st {v lw : Int32} {c c' : zCS} {i : Nat} (h : TCd v lw c i c') : stt c' = stt c := by
  obtain ⟨⟨a1, a2, a3, a4⟩, a5, -⟩ := h
  unfold stt
  rw [a1, a2, a3, a4]
  have e : (fun i k => if k = 22 then (97 : Int32) else if k = 20 ∨ k = 25 then 0 else kF c' i k) = fun i k => if k = 22 then (97 : Int32) else if k = 20 ∨ k = 25 then 0 else kF c i k := by
    funext i k
    split
    · rfl
    · split
      · rfl
      · rename_i h2
        exact a5 i k (fun e => h2 (Or.inr e))
  rw [e]
theorem An.setF {c : zCS} {i : Nat} {v : Int32} {x y : Nat} : An (kSetF c i 25 v) x y ↔ An c x y := ⟨fun h => An.par (S := kSetF c i 25 v) (S1 := c) (fun _ _ h => h) h, fun h => An.par (S := c) (S1 := kSetF c i 25 v) (fun _ _ h => h) h⟩
theorem tch_at : ∀ (f i : Nat) (c : zCS), (∀ i p, i < kN c → kPar c i = some p → p < i) → i < f → i < kN c → TCd (-1) (kLw c) c i (tchF f c i) := by
  intro f
  induction f with
  | zero => intro i c _ h; omega
  | succ f ih =>
    intro i c hpar hf hi
    show TCd (-1) (kLw c) c i (match kPar c i with
      | none => kSetF c i 25 (-1)
      | some p => tchF f (kSetF c i 25 (-1)) p)
    cases hp : kPar c i with
    | none =>
      refine ⟨⟨rfl, rfl, rfl, rfl⟩, fun y k hk => (KEq.setF c i (-1)).f y k hk, ⟨rfl, rfl⟩, ⟨rfl, rfl⟩, fun y => ⟨fun h => ?_, fun h => ?_⟩⟩
      · rcases h.cases with e | ⟨p, h1, -⟩
        · subst e; exact kF_s c i 25 (-1)
        · rw [hp] at h1; cases h1
      · exact kF_a c 25 25 (-1) (fun e => h (e ▸ An.rf c y))
    | some p =>
      have hpi := hpar i p hi hp
      obtain ⟨⟨a1, a2, a3, a4⟩, a5, ⟨a6, a7⟩, ⟨a8, a9⟩, a10⟩ := ih p (kSetF c i 25 (-1)) hpar (by omega) (show p < kN c by omega)
      refine ⟨⟨a1, a2, a3, a4⟩, fun y k hk => (a5 y k hk).trans ((KEq.setF c i (-1)).f y k hk), ⟨a6, a7⟩, ⟨a8, a9⟩, fun y => ⟨fun h => ?_, fun h => ?_⟩⟩
      · rcases Classical.em (An c y p) with h1 | h1
        · exact (a10 y).1 (An.setF.mpr h1)
        · rcases h.cases with e | ⟨p', h2, h3⟩
          · subst e
            exact ((a10 i).2 (fun q => h1 (An.setF.mp q))).trans (kF_s c i 25 (-1))
          · rw [hp] at h2
            cases h2
            exact absurd h3 h1
      · have h1 : ¬ An c y p := fun q => h (An.up hp q)
        exact ((a10 y).2 (fun q => h1 (An.setF.mp q))).trans (kF_a c 25 25 (-1) (fun e => h (e ▸ An.rf c y)))
theorem mrk_at : ∀ (f i : Nat) (c : zCS), (∀ i p, i < kN c → kPar c i = some p → p < i) → i < f → i < kN c → TCd 1 (kLw c) c i (mrkF f c i) := by
  intro f
  induction f with
  | zero => intro i c _ h; omega
  | succ f ih =>
    intro i c hpar hf hi
    show TCd 1 (kLw c) c i (match kPar c i with
      | none => kSetF c i 25 1
      | some p => mrkF f (kSetF c i 25 1) p)
    cases hp : kPar c i with
    | none =>
      refine ⟨⟨rfl, rfl, rfl, rfl⟩, fun y k hk => (KEq.setF c i 1).f y k hk, ⟨rfl, rfl⟩, ⟨rfl, rfl⟩, fun y => ⟨fun h => ?_, fun h => ?_⟩⟩
      · rcases h.cases with e | ⟨p, h1, -⟩
        · subst e; exact kF_s c i 25 1
        · rw [hp] at h1; cases h1
      · exact kF_a c 25 25 1 (fun e => h (e ▸ An.rf c y))
    | some p =>
      have hpi := hpar i p hi hp
      obtain ⟨⟨a1, a2, a3, a4⟩, a5, ⟨a6, a7⟩, ⟨a8, a9⟩, a10⟩ := ih p (kSetF c i 25 1) hpar (by omega) (show p < kN c by omega)
      refine ⟨⟨a1, a2, a3, a4⟩, fun y k hk => (a5 y k hk).trans ((KEq.setF c i 1).f y k hk), ⟨a6, a7⟩, ⟨a8, a9⟩, fun y => ⟨fun h => ?_, fun h => ?_⟩⟩
      · rcases Classical.em (An c y p) with h1 | h1
        · exact (a10 y).1 (An.setF.mpr h1)
        · rcases h.cases with e | ⟨p', h2, h3⟩
          · subst e
            exact ((a10 i).2 (fun q => h1 (An.setF.mp q))).trans (kF_s c i 25 1)
          · rw [hp] at h2
            cases h2
            exact absurd h3 h1
      · have h1 : ¬ An c y p := fun q => h (An.up hp q)
        exact ((a10 y).2 (fun q => h1 (An.setF.mp q))).trans (kF_a c 25 25 1 (fun e => h (e ▸ An.rf c y)))
theorem touch_tc {c : zCS} (hK : KWf c) {i : Nat} (hi : i < kN c) : TCd (-1) (-1) c i (kTouch c i) := by
  have hN := hK.1
  obtain ⟨a1, a2, a3, a4, a5⟩ := tch_at 24 i (kULw c (-1)) (fun i p h1 h2 => (hK.2 i h1).1 p h2) (by omega) hi
  exact ⟨a1, a2, a3, a4, fun y => ⟨fun h => (a5 y).1 (An.par (S := c) (S1 := kULw c (-1)) (fun _ _ h => h) h), fun h => (a5 y).2 (fun q => h (An.par (S := kULw c (-1)) (S1 := c) (fun _ _ h => h) q))⟩⟩
theorem mark_tc {c : zCS} (hK : KWf c) {i : Nat} (hi : i < kN c) : TCd 1 0 c i (mMark c i) := by
  have hN := hK.1
  obtain ⟨a1, a2, a3, ⟨-, a4⟩, a5⟩ := mrk_at 24 i c (fun i p h1 h2 => (hK.2 i h1).1 p h2) (by omega) hi
  exact ⟨a1, a2, a3, ⟨rfl, a4⟩, a5⟩
/-- what is kept for a box holds on, when nothing below it has changed -/
theorem CI.move {S S1 c c' : zCS} (hW : WS S) (hSS9 : SS S S) {x : Nat} (hx : x < kN S) (hN : kN S ≤ kN S1) (h : CI S c x)
    (ha : ∀ y, An S x y → (∀ k, kF S1 y k = kF S y k) ∧ kPar S1 y = kPar S y ∧ kCh S1 y = kCh S y ∧ kWd S1 y = kWd S y) (hb : ∀ y p, kPar S1 y = some p → An S x p → kPar S y = some p) (hk : ∀ y p, An S x y → kPar S y = some p → kF S1 p 2 = kF S p 2)
    (hd : ∀ y, An S x y → (∀ k, kP c' y k = kP c y k) ∧ kF c' y 25 = kF c y 25 ∧ kLn c' y = kLn c y) : CI S1 c' x := by
  obtain ⟨a1, a2, a3, a4⟩ := h
  have hroot : ∀ y, An S x y → kRoot S1 y = kRoot S y := fun y hy => by unfold kRoot; rw [(ha y hy).2.1]
  have hlif : ∀ y, An S x y → kLifted S1 y = kLifted S y := fun y hy => by unfold kLifted; rw [hroot y hy, (ha y hy).1]
  have hitm : ∀ y, An S x y → kItem S1 y = kItem S y := fun y hy => by
    unfold kItem
    rw [(ha y hy).2.1]
    cases hp : kPar S y with
    | none => rfl
    | some p =>
      show (kItems S1 p && !kLifted S1 y) = (kItems S p && !kLifted S y)
      unfold kItems
      rw [hk y p hy hp, hlif y hy]
  have hflo : ∀ y, An S x y → mFloat S1 y = mFloat S y := fun y hy => by
    unfold mFloat
    rw [hroot y hy, hlif y hy, (ha y hy).2.1, (ha y hy).1]
    cases hp : kPar S y with
    | none => rfl
    | some p =>
      show (!kRoot S y && (!kLifted S y && (decide (kF S1 p 2 = 98) && _))) = (!kRoot S y && (!kLifted S y && (decide (kF S p 2 = 98) && _)))
      rw [hk y p hy hp]
  have hctx : ∀ y, An S x y → mCtx S1 y = mCtx S y := fun y hy => by unfold mCtx; rw [hroot y hy, hlif y hy, hitm y hy, hflo y hy, (ha y hy).1]
  have htxt : ∀ y, An S x y → kText S1 y = kText S y := fun y hy => by unfold kText; rw [(ha y hy).1]
  have hdm : ∀ y, Dm S1 x y → An S x y ∧ Dm S x y := fun y hy => by
    obtain ⟨k, hy⟩ := hy
    induction k generalizing y with
    | zero => rw [show y = x from hy]; exact ⟨An.rf S x, Dm.rf S x⟩
    | succ k ih =>
      obtain ⟨q1, p, q2, q3⟩ := hy
      obtain ⟨i1, i2⟩ := ih p q3
      have hp := hb y p q2 i1
      have hAn := An.up hp i1
      exact ⟨hAn, Dm.up ((hlif y hAn).symm.trans q1) hp i2⟩
  have hch : ∀ y, An S x y → ∀ j, j ∈ kCh S y → An S x j ∧ kPar S j = some y := fun y hy j hj => by
    have := (hW.1.ch (An.lt hW hx hy) hj).2.2
    exact ⟨An.up this hy, this⟩
  have hfc : ∀ (f y : Nat), An S x y → FC f S1 y = FC f S y := by
    intro f
    induction f with
    | zero => intro y _; rfl
    | succ f ih =>
      intro y hy
      unfold FC
      rw [(ha y hy).2.2.1]
      have e : (kCh S y).map (fun j => 1 + FC f S1 j) = (kCh S y).map (fun j => 1 + FC f S j) := List.map_congr_left (fun j hj => by rw [ih j (hch y hy j hj).1])
      rw [e]
  have hHB : HB S1 x = HB S x := by unfold HB sz; rw [hfc 24 x (An.rf S x)]
  have hx0 := hd x (An.rf S x)
  refine ⟨(hctx x (An.rf S x)).trans a1, by rw [hx0.2.1]; exact a2, fun y hy hne hc => ?_, fun m ct b f hm hf => ?_⟩
  · obtain ⟨y1, y2⟩ := hdm y hy
    rw [(hd y y1).2.1, (hd y y1).1]
    exact a3 y y2 hne ((hctx y y1).symm.trans hc)
  · -- the reference's state, with the tree as it was
    have hSs : SS S S := hSS9
    rw [hx0.2.1]
    have hmt : SS S (kN S, kA m, kM m, (fun i k => if k = 22 ∨ k = 20 ∨ k = 25 then kF m i k else kF S i k), kPar S, kCh S, kWd S, kP m, kLn m, kLw m, kCt m) := by
      have e : (fun i k => if k = 22 then (97 : Int32) else if k = 20 ∨ k = 25 then 0 else (if k = 22 ∨ k = 20 ∨ k = 25 then kF m i k else kF S i k)) = fun i k => if k = 22 then (97 : Int32) else if k = 20 ∨ k = 25 then 0 else kF S i k := by
        funext i k
        by_cases h1 : k = 22
        · rw [if_pos h1, if_pos h1]
        · rw [if_neg h1, if_neg h1]
          by_cases h2 : k = 20 ∨ k = 25
          · rw [if_pos h2, if_pos h2]
          · rw [if_neg h2, if_neg h2, if_neg (fun q => q.elim h1 h2)]
      have e2 : stt S = S := hSs
      exact (congrArg (fun F => ((kN S, fun _ => 0, fun _ => 0, F, kPar S, kCh S, kWd S, fun _ _ => 0, fun _ => [], 0, 0) : zCS)) e).trans e2
    generalize hmtE : ((kN S, kA m, kM m, (fun i k => if k = 22 ∨ k = 20 ∨ k = 25 then kF m i k else kF S i k), kPar S, kCh S, kWd S, kP m, kLn m, kLw m, kCt m) : zCS) = mt at hmt
    have dF : ∀ i k, k = 22 ∨ k = 20 ∨ k = 25 → kF mt i k = kF m i k := fun i k h9 => by rw [← hmtE]; exact if_pos h9
    have dP : kP mt = kP m := by rw [← hmtE]; rfl
    have dL : kLn mt = kLn m := by rw [← hmtE]; rfl
    clear hmtE
    have hQ : ∀ y, @decide (An S x y) (Classical.propDecidable _) = true ↔ An S x y := fun y => @decide_eq_true_iff (An S x y) (Classical.propDecidable _)
    generalize hQe : (fun y => @decide (An S x y) (Classical.propDecidable _)) = Q at hQ
    have hQ' : ∀ y, Q y = true ↔ An S x y := fun y => by rw [← hQe]; exact hQ y
    have hbl : bl Q m = bl Q mt := by
      have e1 : (fun i k => if Q i = true then kF m i k else 0) = fun i k => if Q i = true then kF mt i k else 0 := by
        funext i k
        by_cases hq : Q i = true
        · rw [if_pos hq, if_pos hq]
          by_cases h9 : k = 22 ∨ k = 20 ∨ k = 25
          · exact (dF i k h9).symm
          · have hk9 : (k == 22 || (k == 20 || k == 25)) = false := by
              simp only [Bool.or_eq_false_iff, beq_eq_false_iff_ne]
              exact ⟨fun e => h9 (Or.inl e), fun e => h9 (Or.inr (Or.inl e)), fun e => h9 (Or.inr (Or.inr e))⟩
            rw [hm.f i k hk9, hmt.f i k hk9, (ha i ((hQ' i).mp hq)).1]
        · rw [if_neg hq, if_neg hq]
      have e2 : (fun i => if Q i = true then kPar m i else none) = fun i => if Q i = true then kPar mt i else none := by
        funext i
        by_cases hq : Q i = true
        · rw [if_pos hq, if_pos hq, hm.par, hmt.par, (ha i ((hQ' i).mp hq)).2.1]
        · rw [if_neg hq, if_neg hq]
      have e3 : (fun i => if Q i = true then kCh m i else []) = fun i => if Q i = true then kCh mt i else [] := by
        funext i
        by_cases hq : Q i = true
        · rw [if_pos hq, if_pos hq, hm.ch, hmt.ch, (ha i ((hQ' i).mp hq)).2.2.1]
        · rw [if_neg hq, if_neg hq]
      have e4 : (fun i => if Q i = true then kWd m i else []) = fun i => if Q i = true then kWd mt i else [] := by
        funext i
        by_cases hq : Q i = true
        · rw [if_pos hq, if_pos hq, hm.wd, hmt.wd, (ha i ((hQ' i).mp hq)).2.2.2]
        · rw [if_neg hq, if_neg hq]
      unfold bl
      rw [e1, e2, e3, e4, dP, dL]
    have hCm : CL Q m := fun i hi j hj => by
      rw [hm.ch, (ha i ((hQ' i).mp hi)).2.2.1] at hj
      obtain ⟨q1, q2⟩ := hch i ((hQ' i).mp hi) j hj
      exact ⟨(hQ' j).mpr q1, by rw [hm.par, (ha j q1).2.1]; exact q2⟩
    have hCt : CL Q mt := fun i hi j hj => by
      rw [hmt.ch] at hj
      obtain ⟨q1, q2⟩ := hch i ((hQ' i).mp hi) j hj
      exact ⟨(hQ' j).mpr q1, by rw [hmt.par]; exact q2⟩
    have hQx : Q x = true := (hQ' x).mpr (An.rf S x)
    have c1 := (cm_all Q f).1 (m, ct) x (kF c x 25) b hCm hQx
    have c2 := (cm_all Q f).1 (mt, ct) x (kF c x 25) b hCt hQx
    have hbl2 : bl Q ((mLF f).1 (m, ct) x (kF c x 25) b).1 = bl Q ((mLF f).1 (mt, ct) x (kF c x 25) b).1 := by
      have c1' : (mLF f).1 (bl Q m, ct) x (kF c x 25) b = (bl Q ((mLF f).1 (m, ct) x (kF c x 25) b).1, ((mLF f).1 (m, ct) x (kF c x 25) b).2) := c1
      have c2' : (mLF f).1 (bl Q mt, ct) x (kF c x 25) b = (bl Q ((mLF f).1 (mt, ct) x (kF c x 25) b).1, ((mLF f).1 (mt, ct) x (kF c x 25) b).2) := c2
      rw [hbl] at c1'
      exact congrArg Prod.fst (c1'.symm.trans c2')
    obtain ⟨b1, b2, b3, b4, b5⟩ := a4 mt ct b f hmt (by omega)
    generalize ((mLF f).1 (m, ct) x (kF c x 25) b).1 = T at hbl2 ⊢
    generalize ((mLF f).1 (mt, ct) x (kF c x 25) b).1 = Tt at hbl2 b1 b2 b3 b4 b5
    have tP : ∀ y, An S x y → ∀ k, kP T y k = kP Tt y k := fun y hy k => by
      have hq := (hQ' y).mpr hy
      rw [← bl_p T hq, ← bl_p Tt hq, hbl2]
    have tL : ∀ y, An S x y → kLn T y = kLn Tt y := fun y hy => by
      have hq := (hQ' y).mpr hy
      rw [← bl_ln T hq, ← bl_ln Tt hq, hbl2]
    have hLE : ∀ y, An S x y → LE S (kLn c y) (kLn Tt y) y → LE S1 (kLn c' y) (kLn T y) y := fun y hy hl => by
      unfold LE at hl ⊢
      rw [(hd y hy).2.2, tL y hy, (ha y hy).2.2.2]
      exact hl
    refine ⟨fun y hy hne => ?_, by rw [hx0.1]; exact b2, by rw [hx0.1, tP x (An.rf S x)]; exact b3, fun ht => hLE x (An.rf S x) (b4 ((htxt x (An.rf S x)).symm.trans ht)), by rw [tP x (An.rf S x), hHB]; exact b5⟩
    obtain ⟨y1, y2⟩ := hdm y hy
    obtain ⟨⟨g1, g2⟩, ⟨g3, g4⟩, g5⟩ := b1 y y2 hne
    obtain ⟨p, hp, hl, hpd⟩ := y2.cases.resolve_left hne
    have hpA := hpd.an
    have ho : ∀ a, offs S1 T y a = offs S Tt y a := fun a => by
      rw [offs_p hp, offs_p ((ha y y1).2.1.trans hp), hctx p hpA, tP p hpA]
    exact ⟨⟨by rw [(hd y y1).1, tP y y1, ho]; exact g1, by rw [(hd y y1).1, tP y y1, ho]; exact g2⟩, ⟨by rw [(hd y y1).1, tP y y1]; exact g3, by rw [(hd y y1).1, tP y y1]; exact g4⟩, fun ht => hLE y y1 (g5 ((htxt y y1).symm.trans ht))⟩
