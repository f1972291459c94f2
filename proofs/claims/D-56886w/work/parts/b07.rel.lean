/-! ===== the plain law: how the two layouts are related ===== -/
def offs (S m : zCS) (x a : Nat) : Int32 := match kPar S x with
  | none => 0
  | some p => if mCtx S p = true then 0 else kP m p a
/-- the lines agree, and hold every word -/
def LE (S : zCS) (a b : List (Int32 × Int32 × Int32)) (x : Nat) : Prop := a = b ∧ lsum b 0 = nI (kWd S x).length
def Geo (S c m : zCS) (x : Nat) : Prop := (kP c x 0 = kP m x 0 - offs S m x 0 ∧ kP c x 1 = kP m x 1 - offs S m x 1) ∧ (kP c x 2 = kP m x 2 ∧ kP c x 3 = kP m x 3) ∧ (kText S x = true → LE S (kLn c x) (kLn m x) x)
/-- what is laid with i agrees -/
def LPp (S c m : zCS) (i : Nat) : Prop := ∀ x, Dm S i x → x ≠ i → Geo S c m x
theorem offs_p {S m : zCS} {x p a : Nat} (h : kPar S x = some p) : offs S m x a = if mCtx S p = true then 0 else kP m p a := by unfold offs; rw [h]
theorem Geo.st {S c c' m m' : zCS} {x : Nat} (h : Geo S c m x) (hc : sm c c' x) (hm : sm m m' x) (h0 : offs S m' x 0 = offs S m x 0) (h1 : offs S m' x 1 = offs S m x 1) : Geo S c' m' x := by
  obtain ⟨⟨a1, a2⟩, ⟨a3, a4⟩, a5⟩ := h
  exact ⟨⟨by rw [hc.1, hm.1, h0]; exact a1, by rw [hc.1, hm.1, h1]; exact a2⟩, ⟨by rw [hc.1, hm.1]; exact a3, by rw [hc.1, hm.1]; exact a4⟩, fun ht => by rw [hc.2.2, hm.2.2]; exact a5 ht⟩
theorem LPp.st {S c c' m m' : zCS} {i : Nat} (h : LPp S c m i) (hc : ∀ x, Dm S i x → x ≠ i → sm c c' x) (hm : ∀ x, Dm S i x → x ≠ i → sm m m' x) (hi : mCtx S i = true ∨ (kP m' i 0 = kP m i 0 ∧ kP m' i 1 = kP m i 1)) : LPp S c' m' i := by
  intro x hx hne
  have ho : ∀ a, a = 0 ∨ a = 1 → offs S m' x a = offs S m x a := fun a ha => by
    rcases hx.cases with e | ⟨p, hp, hl, hd⟩
    · exact absurd e hne
    · rw [offs_p hp, offs_p hp]
      by_cases hpi : p = i
      · subst hpi
        rcases hi with h9 | h9
        · rw [if_pos h9, if_pos h9]
        · rcases ha with rfl | rfl
          · rw [h9.1]
          · rw [h9.2]
      · rw [(hm p hd hpi).1]
  exact (h x hx hne).st (hc x hx hne) (hm x hx hne) (ho 0 (Or.inl rfl)) (ho 1 (Or.inr rfl))
/-- out of the children -/
theorem LPp.of {S c m : zCS} (hW : WS S) {i : Nat} (h : ∀ j, j ∈ kItemsOf S i → Geo S c m j ∧ LPp S c m j) : LPp S c m i := by
  intro x hx hne
  obtain ⟨j, p1, p2, p3⟩ := hx.child hne
  obtain ⟨g, l⟩ := h j (mem_items hW p1 p2)
  by_cases e : x = j
  · rw [e]; exact g
  · exact l x p3 e
def HB (S : zCS) (i : Nat) : Int := 1000 * ((1 + sz S i : Nat) : Int) - 300
def CIr (S c T : zCS) (x : Nat) (w : Int32) : Prop := LPp S c T x ∧ kP c x 2 = w ∧ kP c x 4 = kP T x 3 ∧ (kText S x = true → LE S (kLn c x) (kLn T x) x) ∧ (0 ≤ (kP T x 3).toInt ∧ (kP T x 3).toInt ≤ HB S x)
/-- what is kept for a box is what the reference would make of it -/
def CI (S c : zCS) (x : Nat) : Prop := mCtx S x = true ∧ WB x (kF c x 25) ∧ (∀ y, Dm S x y → y ≠ x → mCtx S y = true → kF c y 25 = kP c y 2 ∧ kF c y 25 ≠ -1) ∧
  ∀ (m : zCS) (ct : Int32) (b : Bool) (f : Nat), SS S m → kN S ≤ f + x → CIr S c ((mLF f).1 (m, ct) x (kF c x 25) b).1 x (kF c x 25)
def CInv (S c : zCS) (i : Nat) : Prop := ∀ x, Dm S i x → kF c x 25 ≠ -1 → CI S c x
def KQ (S c C : zCS) (i : Nat) : Prop := ∀ x, Dm S i x → (mCtx S x = true → kF C x 25 = kP C x 2 ∧ kF C x 25 ≠ -1) ∧ (mCtx S x = false → kF C x 25 = kF c x 25)
theorem CI.st {S c c' : zCS} {x : Nat} (h : CI S c x) (h1 : ∀ y, Dm S x y → y ≠ x → sm c c' y) (h2 : sl c c' x) : CI S c' x := by
  obtain ⟨a1, a2, a3, a4⟩ := h
  refine ⟨a1, by rw [h2.2.1]; exact a2, fun y hy hne hc => ?_, fun m ct b f hm hf => ?_⟩
  · rw [(h1 y hy hne).2.1, (h1 y hy hne).1]; exact a3 y hy hne hc
  · obtain ⟨b1, b2, b3, b4, b5⟩ := a4 m ct b f hm hf
    rw [h2.2.1]
    exact ⟨b1.st h1 (fun _ _ _ => sm.rf _ _) (Or.inl a1), h2.1.1.trans b2, h2.1.2.trans b3, fun ht => by rw [h2.2.2]; exact b4 ht, b5⟩
theorem CInv.st {S c c' : zCS} (hW : WS S) {i : Nat} (hi : i < kN S) (h : CInv S c i) (h1 : ∀ y, Dm S i y → y ≠ i → sm c c' y) (h2 : sl c c' i) : CInv S c' i := by
  intro x hx hk
  have hsl : sl c c' x := by
    by_cases e : x = i
    · rw [e]; exact h2
    · exact (h1 x hx e).sl
  rw [hsl.2.1] at hk
  refine (h x hx hk).st (fun y hy hne => h1 y (hx.trans hy) (fun e => ?_)) hsl
  have hxN := Dm.lt hW hi hx
  have hyN := Dm.lt hW hxN hy
  have h3 := Dm.le hW.1 hyN hy
  have h4 := Dm.le hW.1 hxN hx
  omega
theorem KQ.st {S c d C C' : zCS} {i : Nat} (h : KQ S c C i) (h0 : ∀ x, Dm S i x → sl d c x) (h1 : ∀ x, Dm S i x → sl C C' x) : KQ S d C' i := by
  intro x hx
  obtain ⟨a1, a2⟩ := h x hx
  refine ⟨fun hc => ?_, fun hc => ?_⟩
  · rw [(h1 x hx).2.1, (h1 x hx).1.1]; exact a1 hc
  · rw [(h1 x hx).2.1, a2 hc, (h0 x hx).2.1]
/-- what is kept there, and what is marked here -/
def C1x (c m : zCS) (x : Nat) : Prop := (kF c x 25 = -1 ∧ kF m x 25 ≠ 0) ∨ (kF c x 25 ≠ -1 ∧ kF m x 25 = 0 ∧ kP m x 4 = kF c x 25)
def C1 (S c m : zCS) (i : Nat) : Prop := ∀ x, Dm S i x → C1x c m x
theorem C1x.st {c c' m m' : zCS} {x : Nat} (h : C1x c m x) (h1 : sl c c' x) (h2 : sl m m' x) : C1x c' m' x := by
  unfold C1x at *
  rw [h1.2.1, h2.2.1, h2.1.2]
  exact h
def LQ (S : zCS) (chk : Bool) (c C M : zCS) (i : Nat) (w : Int32) : Prop := LPp S C M i ∧ kP C i 2 = w ∧ kP C i 3 = kP M i 3 ∧ (kText S i = true → LE S (kLn C i) (kLn M i) i) ∧ (0 ≤ (kP M i 3).toInt ∧ (kP M i 3).toInt ≤ HB S i) ∧ (chk = false → KQ S c C i ∧ CInv S C i)
/-- counts go together -/
def CTd (n n' ct ct' : Int32) : Prop := ∃ k : Int32, n' = n + k ∧ ct' = ct + k
theorem CTd.rf (n ct : Int32) : CTd n n ct ct := ⟨0, by rw [Int32.add_zero], by rw [Int32.add_zero]⟩
theorem CTd.trans {n n' n2 ct ct' ct2 : Int32} (h : CTd n n' ct ct') (g : CTd n' n2 ct' ct2) : CTd n n2 ct ct2 := by
  obtain ⟨k, a, b⟩ := h
  obtain ⟨l, a', b'⟩ := g
  exact ⟨k + l, by rw [a', a, Int32.add_assoc], by rw [b', b, Int32.add_assoc]⟩
/-- the two layouts of a box (of a context) go together -/
def LOK (S : zCS) (chk : Bool) (f1 f2 : Nat) (L : LayT) (L' : LM) : Prop := ∀ (c : zCS) (n : Int32) (m : zCS) (ct : Int32) (j : Nat) (w : Int32) (b : Bool), SS S c → SS S m → j < kN S → kN S ≤ f1 + j → kN S ≤ f2 + j → mCtx S j = true → WB j w → (chk = false → CInv S c j) →
  LQ S chk c (L (c, n) j w).1 (L' (m, ct) j w b).1 j w ∧ Fr (Dm S j) c (L (c, n) j w).1 ∧ (kP (L (c, n) j w).1 j 0 = kP c j 0 ∧ kP (L (c, n) j w).1 j 1 = kP c j 1) ∧ KEq c (L (c, n) j w).1 ∧ (chk = false → b = true → C1 S c m j → CTd n (L (c, n) j w).2 ct (L' (m, ct) j w b).2)
theorem LQ.st {S c d C C' M M' : zCS} (hW : WS S) {chk : Bool} {i : Nat} {w : Int32} (hi : i < kN S) (hc : mCtx S i = true) (h : LQ S chk c C M i w) (h0 : ∀ x, Dm S i x → sm d c x) (h1 : ∀ x, Dm S i x → sm C C' x) (h2 : ∀ x, Dm S i x → sm M M' x) : LQ S chk d C' M' i w := by
  obtain ⟨a1, a2, a3, a4, a5, a6⟩ := h
  have c1 := h1 i (Dm.rf S i)
  have m1 := h2 i (Dm.rf S i)
  exact ⟨a1.st (fun x hx _ => h1 x hx) (fun x hx _ => h2 x hx) (Or.inl hc), (c1.1 2).trans a2, by rw [c1.1, m1.1]; exact a3, fun ht => by rw [c1.2.2, m1.2.2]; exact a4 ht, by rw [m1.1]; exact a5, fun hk => ⟨(a6 hk).1.st (fun x hx => (h0 x hx).sl) (fun x hx => (h1 x hx).sl), (a6 hk).2.st hW hi (fun x hx _ => h1 x hx) c1.sl⟩⟩
/-- the margins of what is not in the flow -/
theorem upper_ctx {S : zCS} {j : Nat} (h : kFlow S j = false) : kUpper S j = mOver S j 8 := by
  unfold kUpper mOver
  rw [if_neg (by rw [h]; decide)]
  unfold imax
  by_cases h0 : kF S j 8 < 0
  · rw [if_pos h0, if_neg (Int32.not_lt.mpr (Int32.le_of_lt h0))]
  · rw [if_neg h0]
    by_cases h1 : 0 < kF S j 8
    · rw [if_pos h1]
    · rw [if_neg h1]; exact Int32.le_antisymm (Int32.not_lt.mp h0) (Int32.not_lt.mp h1)
theorem lower_ctx {S : zCS} {j : Nat} (h : kFlow S j = false) : kLower S j = mOver S j 9 := by
  unfold kLower mOver
  rw [if_neg (by rw [h]; decide)]
  unfold imax
  by_cases h0 : kF S j 9 < 0
  · rw [if_pos h0, if_neg (Int32.not_lt.mpr (Int32.le_of_lt h0))]
  · rw [if_neg h0]
    by_cases h1 : 0 < kF S j 9
    · rw [if_pos h1]
    · rw [if_neg h1]; exact Int32.le_antisymm (Int32.not_lt.mp h0) (Int32.not_lt.mp h1)
theorem over_b {S : zCS} (hK : KWf S) {j : Nat} (hj : j < kN S) : (0 ≤ (mOver S j 8).toInt ∧ (mOver S j 8).toInt ≤ 40) ∧ 0 ≤ (mOver S j 9).toInt ∧ (mOver S j 9).toInt ≤ 40 := by
  obtain ⟨-, -, h8, h9, -⟩ := fld hK hj
  unfold mOver
  constructor
  · split
    · exact ⟨by decide, by decide⟩
    · rename_i h; have := ti_le.mp (Int32.not_lt.mp h); rw [ti_0] at this; omega
  · split
    · exact ⟨by decide, by decide⟩
    · rename_i h; have := ti_le.mp (Int32.not_lt.mp h); rw [ti_0] at this; omega
/-- a child of a row or grid is no part of the flow -/
theorem flow_item {S : zCS} {i j : Nat} (hp : kPar S j = some i) (hl : kLifted S j = false) (hk : kItems S i = true) : kFlow S j = false := by
  have : kItem S j = true := by
    unfold kItem
    rw [hp]
    show (kItems S i && !kLifted S j) = true
    rw [hk, hl]; rfl
  unfold kFlow
  rw [this]; simp
theorem told_neg {S : zCS} (hK : KWf S) {j : Nat} (hj : j < kN S) : (kTold S j = -1 ↔ ¬ 0 ≤ kTold S j) := by
  have h := told_b hK hj
  constructor
  · intro e h9; rw [e] at h9; exact absurd h9 (by decide)
  · intro h9
    have h8 : ¬ 0 ≤ (kTold S j).toInt := fun q => h9 (ti_le.mpr (by rw [ti_0]; exact q))
    exact Int32.toInt_inj.mp (by rw [ti_m1]; omega)
theorem f7_neg {S : zCS} (hK : KWf S) {j : Nat} (hj : j < kN S) : (kF S j 7 = -1 ↔ ¬ 0 ≤ kF S j 7) ∧ (kF S j 7 = -1 ↔ kF S j 7 < 0) := by
  obtain ⟨-, h7, -⟩ := fld hK hj
  have hA : kF S j 7 = -1 ↔ ¬ 0 ≤ kF S j 7 := by
    constructor
    · intro e h9; rw [e] at h9; exact absurd h9 (by decide)
    · intro h9
      have h8 : ¬ 0 ≤ (kF S j 7).toInt := fun q => h9 (ti_le.mpr (by rw [ti_0]; exact q))
      exact Int32.toInt_inj.mp (by rw [ti_m1]; omega)
  exact ⟨hA, hA.trans Int32.not_le⟩
