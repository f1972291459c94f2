/-! ===== the reference: its state (as a value of the same shape), the store that holds it, its changes, the box getters (rows printed by tools/p101.py) ===== -/
def mBx (c : zCS) (i : Nat) : List Value := [.int (nI i), .int (kF c i 2), va_rf (kPr c i), .int (kF c i 3), .ref (kA c (rC i)), .ref (kA c (rW i)), .ref (kA c (rL i)), .int (kF c i 6), .int (kF c i 7), .int (kF c i 8), .int (kF c i 9), .int (kF c i 10), .int (kF c i 11), .int (kF c i 12), .int (kF c i 13), .int (kF c i 14), .int (kF c i 15), .int (kF c i 18), .int (kF c i 19), .int (kF c i 20), .int (kF c i 16), .int (kF c i 17), .int (kF c i 22), .int (kF c i 23), .int (kF c i 21), .int (kF c i 25), .int (kP c i 4), .int (kP c i 0), .int (kP c i 1), .int (kP c i 2), .int (kP c i 3)]
/-- the list l holds the lines ln, as the reference's objects of tag o -/
def mLn (G : zG) (σ : zT) (t o l : Nat) (ln : List (Int32 × Int32 × Int32)) : Prop := ∃ (mod : Int32) (xs : List Nat), zL G σ t l mod xs ∧ xs.length = ln.length ∧ ∀ (j q : Nat) (z : Int32 × Int32 × Int32), xs[j]? = some q → ln[j]? = some z → sF σ q = some (.inr (14, [.int z.2.2, .int z.1, .int z.2.1])) ∧ sT σ q = o
def MBox (G : zG) (σ : zT) (c : zCS) (i : Nat) : Prop :=
  (sF σ (kA c (rB i)) = some (.inr (5, mBx c i)) ∧ sT σ (kA c (rB i)) = 1000 + rB i) ∧
  zL G σ (1000 + rC i) (kA c (rC i)) (kM c (rC i)) ((kCh c i).map (fun j => kA c (rB j))) ∧
  zL G σ (1000 + rW i) (kA c (rW i)) (kM c (rW i)) ((kWd c i).map (zbx G)) ∧
  mLn G σ (1000 + rL i) (1000 + rO i) (kA c (rL i)) (kLn c i)
/-- what holds of the reference's boxes beside KWf: flags, no box in a text -/
def MWf (c : zCS) : Prop := KWf c ∧ (kLw c = 0 ∨ kLw c = 1) ∧ (∀ i, kF c i 25 = 0 ∨ kF c i 25 = 1) ∧ ∀ i p, i < kN c → kPar c i = some p → kF c p 2 ≠ 116
def mO (c : zCS) (th ct : Int32) : List Value := [.ref (kA c 2), .int th, .int (kCt c), .int ct, .int (kLw c)]
def MSys (G : zG) (σ : zT) (c : zCS) (th ct : Int32) : Prop :=
  (sF σ (kA c 1) = some (.inr (4, mO c th ct)) ∧ sT σ (kA c 1) = 1001) ∧
  zL G σ 1002 (kA c 2) (kM c 2) ((List.range (kN c)).map (fun j => kA c (rB j))) ∧
  (∀ i, i < kN c → MBox G σ c i) ∧ MWf c
abbrev SM : Nat → Prop := fun s => 1000 ≤ s ∧ s < 2000
theorem MSys.k {G : zG} {σ : zT} {c : zCS} {th ct : Int32} (h : MSys G σ c th ct) : KWf c := h.2.2.2.1
theorem MSys.le {G : zG} {σ : zT} {c : zCS} {th ct : Int32} (h : MSys G σ c th ct) : kN c ≤ 24 := h.2.2.2.1.1
theorem MSys.one {G : zG} {σ : zT} {c : zCS} {th ct : Int32} (h : MSys G σ c th ct) : zAt G σ (kA c 1) (.inr (4, mO c th ct)) := .new h.1.1
theorem MSys.bF {G : zG} {σ : zT} {c : zCS} {th ct : Int32} (h : MSys G σ c th ct) {i : Nat} (hi : i < kN c) : sF σ (kA c (rB i)) = some (.inr (5, mBx c i)) := (h.2.2.1 i hi).1.1
theorem MSys.bx {G : zG} {σ : zT} {c : zCS} {th ct : Int32} (h : MSys G σ c th ct) {i : Nat} (hi : i < kN c) : zAt G σ (kA c (rB i)) (.inr (5, mBx c i)) := .new (h.bF hi)
theorem MSys.bxL {G : zG} {σ : zT} {c : zCS} {th ct : Int32} (h : MSys G σ c th ct) : zL G σ 1002 (kA c 2) (kM c 2) ((List.range (kN c)).map (fun j => kA c (rB j))) := h.2.1
theorem MSys.chL {G : zG} {σ : zT} {c : zCS} {th ct : Int32} (h : MSys G σ c th ct) {i : Nat} (hi : i < kN c) : zL G σ (1000 + rC i) (kA c (rC i)) (kM c (rC i)) ((kCh c i).map (fun j => kA c (rB j))) := (h.2.2.1 i hi).2.1
theorem MSys.wdL {G : zG} {σ : zT} {c : zCS} {th ct : Int32} (h : MSys G σ c th ct) {i : Nat} (hi : i < kN c) : zL G σ (1000 + rW i) (kA c (rW i)) (kM c (rW i)) ((kWd c i).map (zbx G)) := (h.2.2.1 i hi).2.2.1
theorem MSys.ch {G : zG} {σ : zT} {c : zCS} {th ct : Int32} (h : MSys G σ c th ct) {i j : Nat} (hi : i < kN c) (hj : j ∈ kCh c i) : i < j ∧ j < kN c := let h9 := h.k.ch hi hj; ⟨h9.1, h9.2.1⟩
theorem MSys.chl {G : zG} {σ : zT} {c : zCS} {th ct : Int32} (h : MSys G σ c th ct) {i : Nat} (hi : i < kN c) : (kCh c i).length ≤ 24 := (h.k.2 i hi).2.2.1.1
theorem MSys.wd {G : zG} {σ : zT} {c : zCS} {th ct : Int32} (h : MSys G σ c th ct) {i : Nat} (hi : i < kN c) : (kWd c i).length ≤ 20 ∧ ∀ v, v ∈ kWd c i → ∃ n, 1 ≤ n ∧ n ≤ 60 ∧ v = nI n := (h.k.2 i hi).2.2.2.1
theorem MSys.val {G : zG} {σ : zT} {c : zCS} {th ct : Int32} (h : MSys G σ c th ct) {i : Nat} (hi : i < kN c) (k : Nat) : KVal k (kF c i k) := (h.k.2 i hi).2.2.2.2 k
theorem MSys.parlt {G : zG} {σ : zT} {c : zCS} {th ct : Int32} (h : MSys G σ c th ct) {i p : Nat} (hi : i < kN c) (hp : kPar c i = some p) : p < i := h.k.par hi hp
theorem MSys.par {G : zG} {σ : zT} {c : zCS} {th ct : Int32} (h : MSys G σ c th ct) {i p : Nat} (hi : i < kN c) (hp : kPar c i = some p) : p < kN c := Nat.lt_trans (h.parlt hi hp) hi
theorem mLn.keep {G : zG} {S : Nat → Prop} {σ σ1 : zT} {n : Nat} (h : zX G S σ σ1 n) (hw : zGd G σ) {t o l : Nat} {ln : List (Int32 × Int32 × Int32)} (hl : mLn G σ t o l ln) (h1 : ¬ S t) (h2 : ¬ S (t + 1)) (h3 : ¬ S o) : mLn G σ1 t o l ln := by
  obtain ⟨mod, xs, a1, a2, a3⟩ := hl
  refine ⟨mod, xs, h.L hw a1 h1 h2, a2, fun j q z hq hz => ?_⟩
  obtain ⟨b1, b2⟩ := a3 j q z hq hz
  exact ⟨h.f hw b1 (by rw [b2]; exact h3), (h.t hw b1).trans b2⟩
theorem MSys.keep {G : zG} {S : Nat → Prop} {σ σ1 : zT} {n : Nat} {c : zCS} {th ct : Int32} (hS : MSys G σ c th ct) (hw : zGd G σ) (h : zX G S σ σ1 n) (hs : ∀ s, 1000 ≤ s → s < 2000 → ¬ S s) : MSys G σ1 c th ct := by
  have hN := hS.le
  obtain ⟨⟨a1, a2⟩, a3, a4, a5⟩ := hS
  refine ⟨⟨h.f hw a1 (by rw [a2]; exact hs _ (by omega) (by omega)), (h.t hw a1).trans a2⟩, h.L hw a3 (hs _ (by omega) (by omega)) (hs _ (by omega) (by omega)), fun i hi => ?_, a5⟩
  obtain ⟨⟨b1, b2⟩, b3, b4, b7⟩ := a4 i hi
  have e : ∀ k, k < 12 → ¬ S (1000 + (16 * i + 16 + k)) := fun k hk => hs _ (by omega) (by omega)
  have e' : ∀ k, k < 11 → ¬ S (1000 + (16 * i + 16 + k) + 1) := fun k hk => hs _ (by omega) (by omega)
  exact ⟨⟨h.f hw b1 (by rw [b2]; exact e 0 (by omega)), (h.t hw b1).trans b2⟩, h.L hw b3 (e 2 (by omega)) (e' 2 (by omega)), h.L hw b4 (e 4 (by omega)) (e' 4 (by omega)), mLn.keep h hw b7 (e 8 (by omega)) (e' 8 (by omega)) (e 10 (by omega))⟩
theorem MSys.keep0 {G : zG} {σ σ1 : zT} {n : Nat} {c : zCS} {th ct : Int32} (hS : MSys G σ c th ct) (hw : zGd G σ) (h : zX G S0 σ σ1 n) : MSys G σ1 c th ct := hS.keep hw h (fun _ _ _ h => h)
theorem MSys.upO {G : zG} {σ : zT} {c c' : zCS} {a ci : Nat} {fs gs : List Value} {th ct th' ct' : Int32} (hS : MSys G σ c th ct) (ha : sF σ a = some (.inr (ci, fs))) (h20 : ci ≠ 20) (h14 : ci ≠ 14) (e1 : kN c' = kN c) (e2 : kA c' = kA c) (e3 : kM c' = kM c) (e4 : kCh c' = kCh c) (e5 : kWd c' = kWd c) (e6 : kLn c' = kLn c) (hK : MWf c')
    (h1 : sF (sUp σ a (.inr (ci, gs))) (kA c 1) = some (.inr (4, mO c' th' ct'))) (h2 : ∀ i, i < kN c → sF (sUp σ a (.inr (ci, gs))) (kA c (rB i)) = some (.inr (5, mBx c' i))) : MSys G (sUp σ a (.inr (ci, gs))) c' th' ct' := by
  refine ⟨⟨?_, ?_⟩, ?_, fun i hi => ?_, hK⟩
  · rw [e2]; exact h1
  · rw [e2]; exact hS.1.2
  · rw [e1, e2, e3]; exact hS.2.1.upO ha h20
  · rw [e1] at hi
    obtain ⟨⟨b1, b2⟩, b3, b4, mod, xs, l1, l2, l3⟩ := hS.2.2.1 i hi
    refine ⟨⟨by rw [e2]; exact h2 i hi, by rw [e2]; exact b2⟩, by rw [e2, e3, e4]; exact b3.upO ha h20, by rw [e2, e3, e5]; exact b4.upO ha h20, mod, xs, by rw [e2]; exact l1.upO ha h20, by rw [e6]; exact l2, fun j q z hq hz => ?_⟩
    rw [e6] at hz
    obtain ⟨m1, m2⟩ := l3 j q z hq hz
    exact ⟨by rw [sF_upN σ a _ (sF_ne m1 ha (zE_ne (Ne.symm h14)))]; exact m1, m2⟩
theorem mB_ne {G : zG} {σ : zT} {c : zCS} {th ct : Int32} (hS : MSys G σ c th ct) {i j : Nat} (hi : i < kN c) (hj : j < kN c) (h : i ≠ j) : kA c (rB i) ≠ kA c (rB j) := by
  intro e
  have a := (hS.2.2.1 i hi).1.2
  have b := (hS.2.2.1 j hj).1.2
  rw [e, b] at a
  unfold rB at a
  omega
theorem MWf.setF {c : zCS} (h : MWf c) (i : Nat) {k : Nat} {v : Int32} (hv : KVal k v) (h2 : k ≠ 2) (h25 : k = 25 → v = 0 ∨ v = 1) : MWf (kSetF c i k v) := by
  refine ⟨h.1.setF i hv, h.2.1, fun j => ?_, fun j p hj hp => ?_⟩
  · show up2 (kF c) i k v j 25 = 0 ∨ up2 (kF c) i k v j 25 = 1
    by_cases a : j = i
    · by_cases e : 25 = k
      · subst a; subst e; rw [up2_s]; exact h25 rfl
      · subst a; rw [up2_b _ _ _ e]; exact h.2.2.1 j
    · rw [up2_a _ _ _ _ a]; exact h.2.2.1 j
  · show up2 (kF c) i k v p 2 ≠ 116
    have h9 := h.2.2.2 j p hj hp
    by_cases a : p = i
    · subst a; rw [up2_b _ _ _ (Ne.symm h2)]; exact h9
    · rw [up2_a _ _ _ _ a]; exact h9
theorem MWf.setP {c : zCS} (h : MWf c) (i k : Nat) (v : Int32) : MWf (kSetP c i k v) := h
theorem MSys.setF {G : zG} {σ : zT} {c : zCS} {th ct : Int32} (hS : MSys G σ c th ct) {i k : Nat} (hi : i < kN c) (v : Int32) (hK : MWf (kSetF c i k v)) : MSys G (sUp σ (kA c (rB i)) (.inr (5, mBx (kSetF c i k v) i))) (kSetF c i k v) th ct := by
  have hb := hS.bF hi
  refine hS.upO hb (by decide) (by decide) rfl rfl rfl rfl rfl rfl hK ?_ (fun j hj => ?_)
  · rw [sF_upN _ _ _ (sF_ne hS.1.1 hb (zE_ne (by decide)))]; exact hS.1.1
  · by_cases h : j = i
    · subst h; exact sF_upS _ _ _
    · rw [sF_upN _ _ _ (mB_ne hS hj hi h), hS.bF hj]
      have hf : ∀ b, kF (kSetF c i k v) j b = kF c j b := fun b => up2_a _ _ _ _ h
      unfold mBx
      simp only [hf]
      rfl
theorem MSys.setP {G : zG} {σ : zT} {c : zCS} {th ct : Int32} (hS : MSys G σ c th ct) {i k : Nat} (hi : i < kN c) (v : Int32) : MSys G (sUp σ (kA c (rB i)) (.inr (5, mBx (kSetP c i k v) i))) (kSetP c i k v) th ct := by
  have hb := hS.bF hi
  refine hS.upO hb (by decide) (by decide) rfl rfl rfl rfl rfl rfl hS.2.2.2 ?_ (fun j hj => ?_)
  · rw [sF_upN _ _ _ (sF_ne hS.1.1 hb (zE_ne (by decide)))]; exact hS.1.1
  · by_cases h : j = i
    · subst h; exact sF_upS _ _ _
    · rw [sF_upN _ _ _ (mB_ne hS hj hi h), hS.bF hj]
      have hf : ∀ b, kP (kSetP c i k v) j b = kP c j b := fun b => up2_a _ _ _ _ h
      unfold mBx
      simp only [hf]
      rfl
/-- the reference's own fields -/
theorem MSys.setO {G : zG} {σ : zT} {c : zCS} {th ct : Int32} (hS : MSys G σ c th ct) (th' ct' w v : Int32) (hv : v = 0 ∨ v = 1) : MSys G (sUp σ (kA c 1) (.inr (4, mO (kUCt (kULw c v) w) th' ct'))) (kUCt (kULw c v) w) th' ct' := by
  refine hS.upO hS.1.1 (by decide) (by decide) rfl rfl rfl rfl rfl rfl ⟨hS.2.2.2.1, hv, hS.2.2.2.2.2⟩ (sF_upS _ _ _) (fun j hj => ?_)
  rw [sF_upN _ _ _ (sF_ne (hS.bF hj) hS.1.1 (zE_ne (by decide)))]; exact hS.bF hj
theorem SM_B {c : zCS} {i : Nat} (h : kN c ≤ 24) (hi : i < kN c) : SM (1000 + rB i) := by unfold rB; constructor <;> omega
theorem MSys.XB {G : zG} {σ : zT} {c : zCS} {th ct : Int32} (hS : MSys G σ c th ct) (hw : zGd G σ) {i : Nat} (hi : i < kN c) (gs : List Value) : zX G SM σ (sUp σ (kA c (rB i)) (.inr (5, gs))) 0 := zX.up hw (hS.bF hi) (by rw [(hS.2.2.1 i hi).1.2]; exact SM_B hS.le hi)
theorem MSys.XO {G : zG} {σ : zT} {c : zCS} {th ct : Int32} (hS : MSys G σ c th ct) (hw : zGd G σ) (gs : List Value) : zX G SM σ (sUp σ (kA c 1) (.inr (4, gs))) 0 := zX.up hw hS.1.1 (by rw [hS.1.2]; exact ⟨by omega, by omega⟩)
theorem mBx_F6 (c : zCS) (i : Nat) (v : Int32) : (mBx c i).set 7 (.int v) = mBx (kSetF c i 6 v) i := by
  unfold mBx
  rw [show kF (kSetF c i 6 v) i 2 = kF c i 2 from up2_b _ _ _ (by decide), show kF (kSetF c i 6 v) i 3 = kF c i 3 from up2_b _ _ _ (by decide), show kF (kSetF c i 6 v) i 6 = v from up2_s _ _ _ _, show kF (kSetF c i 6 v) i 7 = kF c i 7 from up2_b _ _ _ (by decide), show kF (kSetF c i 6 v) i 8 = kF c i 8 from up2_b _ _ _ (by decide), show kF (kSetF c i 6 v) i 9 = kF c i 9 from up2_b _ _ _ (by decide), show kF (kSetF c i 6 v) i 10 = kF c i 10 from up2_b _ _ _ (by decide), show kF (kSetF c i 6 v) i 11 = kF c i 11 from up2_b _ _ _ (by decide), show kF (kSetF c i 6 v) i 12 = kF c i 12 from up2_b _ _ _ (by decide), show kF (kSetF c i 6 v) i 13 = kF c i 13 from up2_b _ _ _ (by decide), show kF (kSetF c i 6 v) i 14 = kF c i 14 from up2_b _ _ _ (by decide), show kF (kSetF c i 6 v) i 15 = kF c i 15 from up2_b _ _ _ (by decide), show kF (kSetF c i 6 v) i 18 = kF c i 18 from up2_b _ _ _ (by decide), show kF (kSetF c i 6 v) i 19 = kF c i 19 from up2_b _ _ _ (by decide), show kF (kSetF c i 6 v) i 20 = kF c i 20 from up2_b _ _ _ (by decide), show kF (kSetF c i 6 v) i 16 = kF c i 16 from up2_b _ _ _ (by decide), show kF (kSetF c i 6 v) i 17 = kF c i 17 from up2_b _ _ _ (by decide), show kF (kSetF c i 6 v) i 22 = kF c i 22 from up2_b _ _ _ (by decide), show kF (kSetF c i 6 v) i 23 = kF c i 23 from up2_b _ _ _ (by decide), show kF (kSetF c i 6 v) i 21 = kF c i 21 from up2_b _ _ _ (by decide), show kF (kSetF c i 6 v) i 25 = kF c i 25 from up2_b _ _ _ (by decide)]
  rfl
theorem mBx_F7 (c : zCS) (i : Nat) (v : Int32) : (mBx c i).set 8 (.int v) = mBx (kSetF c i 7 v) i := by
  unfold mBx
  rw [show kF (kSetF c i 7 v) i 2 = kF c i 2 from up2_b _ _ _ (by decide), show kF (kSetF c i 7 v) i 3 = kF c i 3 from up2_b _ _ _ (by decide), show kF (kSetF c i 7 v) i 6 = kF c i 6 from up2_b _ _ _ (by decide), show kF (kSetF c i 7 v) i 7 = v from up2_s _ _ _ _, show kF (kSetF c i 7 v) i 8 = kF c i 8 from up2_b _ _ _ (by decide), show kF (kSetF c i 7 v) i 9 = kF c i 9 from up2_b _ _ _ (by decide), show kF (kSetF c i 7 v) i 10 = kF c i 10 from up2_b _ _ _ (by decide), show kF (kSetF c i 7 v) i 11 = kF c i 11 from up2_b _ _ _ (by decide), show kF (kSetF c i 7 v) i 12 = kF c i 12 from up2_b _ _ _ (by decide), show kF (kSetF c i 7 v) i 13 = kF c i 13 from up2_b _ _ _ (by decide), show kF (kSetF c i 7 v) i 14 = kF c i 14 from up2_b _ _ _ (by decide), show kF (kSetF c i 7 v) i 15 = kF c i 15 from up2_b _ _ _ (by decide), show kF (kSetF c i 7 v) i 18 = kF c i 18 from up2_b _ _ _ (by decide), show kF (kSetF c i 7 v) i 19 = kF c i 19 from up2_b _ _ _ (by decide), show kF (kSetF c i 7 v) i 20 = kF c i 20 from up2_b _ _ _ (by decide), show kF (kSetF c i 7 v) i 16 = kF c i 16 from up2_b _ _ _ (by decide), show kF (kSetF c i 7 v) i 17 = kF c i 17 from up2_b _ _ _ (by decide), show kF (kSetF c i 7 v) i 22 = kF c i 22 from up2_b _ _ _ (by decide), show kF (kSetF c i 7 v) i 23 = kF c i 23 from up2_b _ _ _ (by decide), show kF (kSetF c i 7 v) i 21 = kF c i 21 from up2_b _ _ _ (by decide), show kF (kSetF c i 7 v) i 25 = kF c i 25 from up2_b _ _ _ (by decide)]
  rfl
theorem mBx_F8 (c : zCS) (i : Nat) (v : Int32) : (mBx c i).set 9 (.int v) = mBx (kSetF c i 8 v) i := by
  unfold mBx
  rw [show kF (kSetF c i 8 v) i 2 = kF c i 2 from up2_b _ _ _ (by decide), show kF (kSetF c i 8 v) i 3 = kF c i 3 from up2_b _ _ _ (by decide), show kF (kSetF c i 8 v) i 6 = kF c i 6 from up2_b _ _ _ (by decide), show kF (kSetF c i 8 v) i 7 = kF c i 7 from up2_b _ _ _ (by decide), show kF (kSetF c i 8 v) i 8 = v from up2_s _ _ _ _, show kF (kSetF c i 8 v) i 9 = kF c i 9 from up2_b _ _ _ (by decide), show kF (kSetF c i 8 v) i 10 = kF c i 10 from up2_b _ _ _ (by decide), show kF (kSetF c i 8 v) i 11 = kF c i 11 from up2_b _ _ _ (by decide), show kF (kSetF c i 8 v) i 12 = kF c i 12 from up2_b _ _ _ (by decide), show kF (kSetF c i 8 v) i 13 = kF c i 13 from up2_b _ _ _ (by decide), show kF (kSetF c i 8 v) i 14 = kF c i 14 from up2_b _ _ _ (by decide), show kF (kSetF c i 8 v) i 15 = kF c i 15 from up2_b _ _ _ (by decide), show kF (kSetF c i 8 v) i 18 = kF c i 18 from up2_b _ _ _ (by decide), show kF (kSetF c i 8 v) i 19 = kF c i 19 from up2_b _ _ _ (by decide), show kF (kSetF c i 8 v) i 20 = kF c i 20 from up2_b _ _ _ (by decide), show kF (kSetF c i 8 v) i 16 = kF c i 16 from up2_b _ _ _ (by decide), show kF (kSetF c i 8 v) i 17 = kF c i 17 from up2_b _ _ _ (by decide), show kF (kSetF c i 8 v) i 22 = kF c i 22 from up2_b _ _ _ (by decide), show kF (kSetF c i 8 v) i 23 = kF c i 23 from up2_b _ _ _ (by decide), show kF (kSetF c i 8 v) i 21 = kF c i 21 from up2_b _ _ _ (by decide), show kF (kSetF c i 8 v) i 25 = kF c i 25 from up2_b _ _ _ (by decide)]
  rfl
theorem mBx_F9 (c : zCS) (i : Nat) (v : Int32) : (mBx c i).set 10 (.int v) = mBx (kSetF c i 9 v) i := by
  unfold mBx
  rw [show kF (kSetF c i 9 v) i 2 = kF c i 2 from up2_b _ _ _ (by decide), show kF (kSetF c i 9 v) i 3 = kF c i 3 from up2_b _ _ _ (by decide), show kF (kSetF c i 9 v) i 6 = kF c i 6 from up2_b _ _ _ (by decide), show kF (kSetF c i 9 v) i 7 = kF c i 7 from up2_b _ _ _ (by decide), show kF (kSetF c i 9 v) i 8 = kF c i 8 from up2_b _ _ _ (by decide), show kF (kSetF c i 9 v) i 9 = v from up2_s _ _ _ _, show kF (kSetF c i 9 v) i 10 = kF c i 10 from up2_b _ _ _ (by decide), show kF (kSetF c i 9 v) i 11 = kF c i 11 from up2_b _ _ _ (by decide), show kF (kSetF c i 9 v) i 12 = kF c i 12 from up2_b _ _ _ (by decide), show kF (kSetF c i 9 v) i 13 = kF c i 13 from up2_b _ _ _ (by decide), show kF (kSetF c i 9 v) i 14 = kF c i 14 from up2_b _ _ _ (by decide), show kF (kSetF c i 9 v) i 15 = kF c i 15 from up2_b _ _ _ (by decide), show kF (kSetF c i 9 v) i 18 = kF c i 18 from up2_b _ _ _ (by decide), show kF (kSetF c i 9 v) i 19 = kF c i 19 from up2_b _ _ _ (by decide), show kF (kSetF c i 9 v) i 20 = kF c i 20 from up2_b _ _ _ (by decide), show kF (kSetF c i 9 v) i 16 = kF c i 16 from up2_b _ _ _ (by decide), show kF (kSetF c i 9 v) i 17 = kF c i 17 from up2_b _ _ _ (by decide), show kF (kSetF c i 9 v) i 22 = kF c i 22 from up2_b _ _ _ (by decide), show kF (kSetF c i 9 v) i 23 = kF c i 23 from up2_b _ _ _ (by decide), show kF (kSetF c i 9 v) i 21 = kF c i 21 from up2_b _ _ _ (by decide), show kF (kSetF c i 9 v) i 25 = kF c i 25 from up2_b _ _ _ (by decide)]
  rfl
theorem mBx_F10 (c : zCS) (i : Nat) (v : Int32) : (mBx c i).set 11 (.int v) = mBx (kSetF c i 10 v) i := by
  unfold mBx
  rw [show kF (kSetF c i 10 v) i 2 = kF c i 2 from up2_b _ _ _ (by decide), show kF (kSetF c i 10 v) i 3 = kF c i 3 from up2_b _ _ _ (by decide), show kF (kSetF c i 10 v) i 6 = kF c i 6 from up2_b _ _ _ (by decide), show kF (kSetF c i 10 v) i 7 = kF c i 7 from up2_b _ _ _ (by decide), show kF (kSetF c i 10 v) i 8 = kF c i 8 from up2_b _ _ _ (by decide), show kF (kSetF c i 10 v) i 9 = kF c i 9 from up2_b _ _ _ (by decide), show kF (kSetF c i 10 v) i 10 = v from up2_s _ _ _ _, show kF (kSetF c i 10 v) i 11 = kF c i 11 from up2_b _ _ _ (by decide), show kF (kSetF c i 10 v) i 12 = kF c i 12 from up2_b _ _ _ (by decide), show kF (kSetF c i 10 v) i 13 = kF c i 13 from up2_b _ _ _ (by decide), show kF (kSetF c i 10 v) i 14 = kF c i 14 from up2_b _ _ _ (by decide), show kF (kSetF c i 10 v) i 15 = kF c i 15 from up2_b _ _ _ (by decide), show kF (kSetF c i 10 v) i 18 = kF c i 18 from up2_b _ _ _ (by decide), show kF (kSetF c i 10 v) i 19 = kF c i 19 from up2_b _ _ _ (by decide), show kF (kSetF c i 10 v) i 20 = kF c i 20 from up2_b _ _ _ (by decide), show kF (kSetF c i 10 v) i 16 = kF c i 16 from up2_b _ _ _ (by decide), show kF (kSetF c i 10 v) i 17 = kF c i 17 from up2_b _ _ _ (by decide), show kF (kSetF c i 10 v) i 22 = kF c i 22 from up2_b _ _ _ (by decide), show kF (kSetF c i 10 v) i 23 = kF c i 23 from up2_b _ _ _ (by decide), show kF (kSetF c i 10 v) i 21 = kF c i 21 from up2_b _ _ _ (by decide), show kF (kSetF c i 10 v) i 25 = kF c i 25 from up2_b _ _ _ (by decide)]
  rfl
theorem mBx_F11 (c : zCS) (i : Nat) (v : Int32) : (mBx c i).set 12 (.int v) = mBx (kSetF c i 11 v) i := by
  unfold mBx
  rw [show kF (kSetF c i 11 v) i 2 = kF c i 2 from up2_b _ _ _ (by decide), show kF (kSetF c i 11 v) i 3 = kF c i 3 from up2_b _ _ _ (by decide), show kF (kSetF c i 11 v) i 6 = kF c i 6 from up2_b _ _ _ (by decide), show kF (kSetF c i 11 v) i 7 = kF c i 7 from up2_b _ _ _ (by decide), show kF (kSetF c i 11 v) i 8 = kF c i 8 from up2_b _ _ _ (by decide), show kF (kSetF c i 11 v) i 9 = kF c i 9 from up2_b _ _ _ (by decide), show kF (kSetF c i 11 v) i 10 = kF c i 10 from up2_b _ _ _ (by decide), show kF (kSetF c i 11 v) i 11 = v from up2_s _ _ _ _, show kF (kSetF c i 11 v) i 12 = kF c i 12 from up2_b _ _ _ (by decide), show kF (kSetF c i 11 v) i 13 = kF c i 13 from up2_b _ _ _ (by decide), show kF (kSetF c i 11 v) i 14 = kF c i 14 from up2_b _ _ _ (by decide), show kF (kSetF c i 11 v) i 15 = kF c i 15 from up2_b _ _ _ (by decide), show kF (kSetF c i 11 v) i 18 = kF c i 18 from up2_b _ _ _ (by decide), show kF (kSetF c i 11 v) i 19 = kF c i 19 from up2_b _ _ _ (by decide), show kF (kSetF c i 11 v) i 20 = kF c i 20 from up2_b _ _ _ (by decide), show kF (kSetF c i 11 v) i 16 = kF c i 16 from up2_b _ _ _ (by decide), show kF (kSetF c i 11 v) i 17 = kF c i 17 from up2_b _ _ _ (by decide), show kF (kSetF c i 11 v) i 22 = kF c i 22 from up2_b _ _ _ (by decide), show kF (kSetF c i 11 v) i 23 = kF c i 23 from up2_b _ _ _ (by decide), show kF (kSetF c i 11 v) i 21 = kF c i 21 from up2_b _ _ _ (by decide), show kF (kSetF c i 11 v) i 25 = kF c i 25 from up2_b _ _ _ (by decide)]
  rfl
theorem mBx_F12 (c : zCS) (i : Nat) (v : Int32) : (mBx c i).set 13 (.int v) = mBx (kSetF c i 12 v) i := by
  unfold mBx
  rw [show kF (kSetF c i 12 v) i 2 = kF c i 2 from up2_b _ _ _ (by decide), show kF (kSetF c i 12 v) i 3 = kF c i 3 from up2_b _ _ _ (by decide), show kF (kSetF c i 12 v) i 6 = kF c i 6 from up2_b _ _ _ (by decide), show kF (kSetF c i 12 v) i 7 = kF c i 7 from up2_b _ _ _ (by decide), show kF (kSetF c i 12 v) i 8 = kF c i 8 from up2_b _ _ _ (by decide), show kF (kSetF c i 12 v) i 9 = kF c i 9 from up2_b _ _ _ (by decide), show kF (kSetF c i 12 v) i 10 = kF c i 10 from up2_b _ _ _ (by decide), show kF (kSetF c i 12 v) i 11 = kF c i 11 from up2_b _ _ _ (by decide), show kF (kSetF c i 12 v) i 12 = v from up2_s _ _ _ _, show kF (kSetF c i 12 v) i 13 = kF c i 13 from up2_b _ _ _ (by decide), show kF (kSetF c i 12 v) i 14 = kF c i 14 from up2_b _ _ _ (by decide), show kF (kSetF c i 12 v) i 15 = kF c i 15 from up2_b _ _ _ (by decide), show kF (kSetF c i 12 v) i 18 = kF c i 18 from up2_b _ _ _ (by decide), show kF (kSetF c i 12 v) i 19 = kF c i 19 from up2_b _ _ _ (by decide), show kF (kSetF c i 12 v) i 20 = kF c i 20 from up2_b _ _ _ (by decide), show kF (kSetF c i 12 v) i 16 = kF c i 16 from up2_b _ _ _ (by decide), show kF (kSetF c i 12 v) i 17 = kF c i 17 from up2_b _ _ _ (by decide), show kF (kSetF c i 12 v) i 22 = kF c i 22 from up2_b _ _ _ (by decide), show kF (kSetF c i 12 v) i 23 = kF c i 23 from up2_b _ _ _ (by decide), show kF (kSetF c i 12 v) i 21 = kF c i 21 from up2_b _ _ _ (by decide), show kF (kSetF c i 12 v) i 25 = kF c i 25 from up2_b _ _ _ (by decide)]
  rfl
theorem mBx_F13 (c : zCS) (i : Nat) (v : Int32) : (mBx c i).set 14 (.int v) = mBx (kSetF c i 13 v) i := by
  unfold mBx
  rw [show kF (kSetF c i 13 v) i 2 = kF c i 2 from up2_b _ _ _ (by decide), show kF (kSetF c i 13 v) i 3 = kF c i 3 from up2_b _ _ _ (by decide), show kF (kSetF c i 13 v) i 6 = kF c i 6 from up2_b _ _ _ (by decide), show kF (kSetF c i 13 v) i 7 = kF c i 7 from up2_b _ _ _ (by decide), show kF (kSetF c i 13 v) i 8 = kF c i 8 from up2_b _ _ _ (by decide), show kF (kSetF c i 13 v) i 9 = kF c i 9 from up2_b _ _ _ (by decide), show kF (kSetF c i 13 v) i 10 = kF c i 10 from up2_b _ _ _ (by decide), show kF (kSetF c i 13 v) i 11 = kF c i 11 from up2_b _ _ _ (by decide), show kF (kSetF c i 13 v) i 12 = kF c i 12 from up2_b _ _ _ (by decide), show kF (kSetF c i 13 v) i 13 = v from up2_s _ _ _ _, show kF (kSetF c i 13 v) i 14 = kF c i 14 from up2_b _ _ _ (by decide), show kF (kSetF c i 13 v) i 15 = kF c i 15 from up2_b _ _ _ (by decide), show kF (kSetF c i 13 v) i 18 = kF c i 18 from up2_b _ _ _ (by decide), show kF (kSetF c i 13 v) i 19 = kF c i 19 from up2_b _ _ _ (by decide), show kF (kSetF c i 13 v) i 20 = kF c i 20 from up2_b _ _ _ (by decide), show kF (kSetF c i 13 v) i 16 = kF c i 16 from up2_b _ _ _ (by decide), show kF (kSetF c i 13 v) i 17 = kF c i 17 from up2_b _ _ _ (by decide), show kF (kSetF c i 13 v) i 22 = kF c i 22 from up2_b _ _ _ (by decide), show kF (kSetF c i 13 v) i 23 = kF c i 23 from up2_b _ _ _ (by decide), show kF (kSetF c i 13 v) i 21 = kF c i 21 from up2_b _ _ _ (by decide), show kF (kSetF c i 13 v) i 25 = kF c i 25 from up2_b _ _ _ (by decide)]
  rfl
theorem mBx_F14 (c : zCS) (i : Nat) (v : Int32) : (mBx c i).set 15 (.int v) = mBx (kSetF c i 14 v) i := by
  unfold mBx
  rw [show kF (kSetF c i 14 v) i 2 = kF c i 2 from up2_b _ _ _ (by decide), show kF (kSetF c i 14 v) i 3 = kF c i 3 from up2_b _ _ _ (by decide), show kF (kSetF c i 14 v) i 6 = kF c i 6 from up2_b _ _ _ (by decide), show kF (kSetF c i 14 v) i 7 = kF c i 7 from up2_b _ _ _ (by decide), show kF (kSetF c i 14 v) i 8 = kF c i 8 from up2_b _ _ _ (by decide), show kF (kSetF c i 14 v) i 9 = kF c i 9 from up2_b _ _ _ (by decide), show kF (kSetF c i 14 v) i 10 = kF c i 10 from up2_b _ _ _ (by decide), show kF (kSetF c i 14 v) i 11 = kF c i 11 from up2_b _ _ _ (by decide), show kF (kSetF c i 14 v) i 12 = kF c i 12 from up2_b _ _ _ (by decide), show kF (kSetF c i 14 v) i 13 = kF c i 13 from up2_b _ _ _ (by decide), show kF (kSetF c i 14 v) i 14 = v from up2_s _ _ _ _, show kF (kSetF c i 14 v) i 15 = kF c i 15 from up2_b _ _ _ (by decide), show kF (kSetF c i 14 v) i 18 = kF c i 18 from up2_b _ _ _ (by decide), show kF (kSetF c i 14 v) i 19 = kF c i 19 from up2_b _ _ _ (by decide), show kF (kSetF c i 14 v) i 20 = kF c i 20 from up2_b _ _ _ (by decide), show kF (kSetF c i 14 v) i 16 = kF c i 16 from up2_b _ _ _ (by decide), show kF (kSetF c i 14 v) i 17 = kF c i 17 from up2_b _ _ _ (by decide), show kF (kSetF c i 14 v) i 22 = kF c i 22 from up2_b _ _ _ (by decide), show kF (kSetF c i 14 v) i 23 = kF c i 23 from up2_b _ _ _ (by decide), show kF (kSetF c i 14 v) i 21 = kF c i 21 from up2_b _ _ _ (by decide), show kF (kSetF c i 14 v) i 25 = kF c i 25 from up2_b _ _ _ (by decide)]
  rfl
theorem mBx_F15 (c : zCS) (i : Nat) (v : Int32) : (mBx c i).set 16 (.int v) = mBx (kSetF c i 15 v) i := by
  unfold mBx
  rw [show kF (kSetF c i 15 v) i 2 = kF c i 2 from up2_b _ _ _ (by decide), show kF (kSetF c i 15 v) i 3 = kF c i 3 from up2_b _ _ _ (by decide), show kF (kSetF c i 15 v) i 6 = kF c i 6 from up2_b _ _ _ (by decide), show kF (kSetF c i 15 v) i 7 = kF c i 7 from up2_b _ _ _ (by decide), show kF (kSetF c i 15 v) i 8 = kF c i 8 from up2_b _ _ _ (by decide), show kF (kSetF c i 15 v) i 9 = kF c i 9 from up2_b _ _ _ (by decide), show kF (kSetF c i 15 v) i 10 = kF c i 10 from up2_b _ _ _ (by decide), show kF (kSetF c i 15 v) i 11 = kF c i 11 from up2_b _ _ _ (by decide), show kF (kSetF c i 15 v) i 12 = kF c i 12 from up2_b _ _ _ (by decide), show kF (kSetF c i 15 v) i 13 = kF c i 13 from up2_b _ _ _ (by decide), show kF (kSetF c i 15 v) i 14 = kF c i 14 from up2_b _ _ _ (by decide), show kF (kSetF c i 15 v) i 15 = v from up2_s _ _ _ _, show kF (kSetF c i 15 v) i 18 = kF c i 18 from up2_b _ _ _ (by decide), show kF (kSetF c i 15 v) i 19 = kF c i 19 from up2_b _ _ _ (by decide), show kF (kSetF c i 15 v) i 20 = kF c i 20 from up2_b _ _ _ (by decide), show kF (kSetF c i 15 v) i 16 = kF c i 16 from up2_b _ _ _ (by decide), show kF (kSetF c i 15 v) i 17 = kF c i 17 from up2_b _ _ _ (by decide), show kF (kSetF c i 15 v) i 22 = kF c i 22 from up2_b _ _ _ (by decide), show kF (kSetF c i 15 v) i 23 = kF c i 23 from up2_b _ _ _ (by decide), show kF (kSetF c i 15 v) i 21 = kF c i 21 from up2_b _ _ _ (by decide), show kF (kSetF c i 15 v) i 25 = kF c i 25 from up2_b _ _ _ (by decide)]
  rfl
theorem mBx_F18 (c : zCS) (i : Nat) (v : Int32) : (mBx c i).set 17 (.int v) = mBx (kSetF c i 18 v) i := by
  unfold mBx
  rw [show kF (kSetF c i 18 v) i 2 = kF c i 2 from up2_b _ _ _ (by decide), show kF (kSetF c i 18 v) i 3 = kF c i 3 from up2_b _ _ _ (by decide), show kF (kSetF c i 18 v) i 6 = kF c i 6 from up2_b _ _ _ (by decide), show kF (kSetF c i 18 v) i 7 = kF c i 7 from up2_b _ _ _ (by decide), show kF (kSetF c i 18 v) i 8 = kF c i 8 from up2_b _ _ _ (by decide), show kF (kSetF c i 18 v) i 9 = kF c i 9 from up2_b _ _ _ (by decide), show kF (kSetF c i 18 v) i 10 = kF c i 10 from up2_b _ _ _ (by decide), show kF (kSetF c i 18 v) i 11 = kF c i 11 from up2_b _ _ _ (by decide), show kF (kSetF c i 18 v) i 12 = kF c i 12 from up2_b _ _ _ (by decide), show kF (kSetF c i 18 v) i 13 = kF c i 13 from up2_b _ _ _ (by decide), show kF (kSetF c i 18 v) i 14 = kF c i 14 from up2_b _ _ _ (by decide), show kF (kSetF c i 18 v) i 15 = kF c i 15 from up2_b _ _ _ (by decide), show kF (kSetF c i 18 v) i 18 = v from up2_s _ _ _ _, show kF (kSetF c i 18 v) i 19 = kF c i 19 from up2_b _ _ _ (by decide), show kF (kSetF c i 18 v) i 20 = kF c i 20 from up2_b _ _ _ (by decide), show kF (kSetF c i 18 v) i 16 = kF c i 16 from up2_b _ _ _ (by decide), show kF (kSetF c i 18 v) i 17 = kF c i 17 from up2_b _ _ _ (by decide), show kF (kSetF c i 18 v) i 22 = kF c i 22 from up2_b _ _ _ (by decide), show kF (kSetF c i 18 v) i 23 = kF c i 23 from up2_b _ _ _ (by decide), show kF (kSetF c i 18 v) i 21 = kF c i 21 from up2_b _ _ _ (by decide), show kF (kSetF c i 18 v) i 25 = kF c i 25 from up2_b _ _ _ (by decide)]
  rfl
theorem mBx_F19 (c : zCS) (i : Nat) (v : Int32) : (mBx c i).set 18 (.int v) = mBx (kSetF c i 19 v) i := by
  unfold mBx
  rw [show kF (kSetF c i 19 v) i 2 = kF c i 2 from up2_b _ _ _ (by decide), show kF (kSetF c i 19 v) i 3 = kF c i 3 from up2_b _ _ _ (by decide), show kF (kSetF c i 19 v) i 6 = kF c i 6 from up2_b _ _ _ (by decide), show kF (kSetF c i 19 v) i 7 = kF c i 7 from up2_b _ _ _ (by decide), show kF (kSetF c i 19 v) i 8 = kF c i 8 from up2_b _ _ _ (by decide), show kF (kSetF c i 19 v) i 9 = kF c i 9 from up2_b _ _ _ (by decide), show kF (kSetF c i 19 v) i 10 = kF c i 10 from up2_b _ _ _ (by decide), show kF (kSetF c i 19 v) i 11 = kF c i 11 from up2_b _ _ _ (by decide), show kF (kSetF c i 19 v) i 12 = kF c i 12 from up2_b _ _ _ (by decide), show kF (kSetF c i 19 v) i 13 = kF c i 13 from up2_b _ _ _ (by decide), show kF (kSetF c i 19 v) i 14 = kF c i 14 from up2_b _ _ _ (by decide), show kF (kSetF c i 19 v) i 15 = kF c i 15 from up2_b _ _ _ (by decide), show kF (kSetF c i 19 v) i 18 = kF c i 18 from up2_b _ _ _ (by decide), show kF (kSetF c i 19 v) i 19 = v from up2_s _ _ _ _, show kF (kSetF c i 19 v) i 20 = kF c i 20 from up2_b _ _ _ (by decide), show kF (kSetF c i 19 v) i 16 = kF c i 16 from up2_b _ _ _ (by decide), show kF (kSetF c i 19 v) i 17 = kF c i 17 from up2_b _ _ _ (by decide), show kF (kSetF c i 19 v) i 22 = kF c i 22 from up2_b _ _ _ (by decide), show kF (kSetF c i 19 v) i 23 = kF c i 23 from up2_b _ _ _ (by decide), show kF (kSetF c i 19 v) i 21 = kF c i 21 from up2_b _ _ _ (by decide), show kF (kSetF c i 19 v) i 25 = kF c i 25 from up2_b _ _ _ (by decide)]
  rfl
theorem mBx_F20 (c : zCS) (i : Nat) (v : Int32) : (mBx c i).set 19 (.int v) = mBx (kSetF c i 20 v) i := by
  unfold mBx
  rw [show kF (kSetF c i 20 v) i 2 = kF c i 2 from up2_b _ _ _ (by decide), show kF (kSetF c i 20 v) i 3 = kF c i 3 from up2_b _ _ _ (by decide), show kF (kSetF c i 20 v) i 6 = kF c i 6 from up2_b _ _ _ (by decide), show kF (kSetF c i 20 v) i 7 = kF c i 7 from up2_b _ _ _ (by decide), show kF (kSetF c i 20 v) i 8 = kF c i 8 from up2_b _ _ _ (by decide), show kF (kSetF c i 20 v) i 9 = kF c i 9 from up2_b _ _ _ (by decide), show kF (kSetF c i 20 v) i 10 = kF c i 10 from up2_b _ _ _ (by decide), show kF (kSetF c i 20 v) i 11 = kF c i 11 from up2_b _ _ _ (by decide), show kF (kSetF c i 20 v) i 12 = kF c i 12 from up2_b _ _ _ (by decide), show kF (kSetF c i 20 v) i 13 = kF c i 13 from up2_b _ _ _ (by decide), show kF (kSetF c i 20 v) i 14 = kF c i 14 from up2_b _ _ _ (by decide), show kF (kSetF c i 20 v) i 15 = kF c i 15 from up2_b _ _ _ (by decide), show kF (kSetF c i 20 v) i 18 = kF c i 18 from up2_b _ _ _ (by decide), show kF (kSetF c i 20 v) i 19 = kF c i 19 from up2_b _ _ _ (by decide), show kF (kSetF c i 20 v) i 20 = v from up2_s _ _ _ _, show kF (kSetF c i 20 v) i 16 = kF c i 16 from up2_b _ _ _ (by decide), show kF (kSetF c i 20 v) i 17 = kF c i 17 from up2_b _ _ _ (by decide), show kF (kSetF c i 20 v) i 22 = kF c i 22 from up2_b _ _ _ (by decide), show kF (kSetF c i 20 v) i 23 = kF c i 23 from up2_b _ _ _ (by decide), show kF (kSetF c i 20 v) i 21 = kF c i 21 from up2_b _ _ _ (by decide), show kF (kSetF c i 20 v) i 25 = kF c i 25 from up2_b _ _ _ (by decide)]
  rfl
theorem mBx_F16 (c : zCS) (i : Nat) (v : Int32) : (mBx c i).set 20 (.int v) = mBx (kSetF c i 16 v) i := by
  unfold mBx
  rw [show kF (kSetF c i 16 v) i 2 = kF c i 2 from up2_b _ _ _ (by decide), show kF (kSetF c i 16 v) i 3 = kF c i 3 from up2_b _ _ _ (by decide), show kF (kSetF c i 16 v) i 6 = kF c i 6 from up2_b _ _ _ (by decide), show kF (kSetF c i 16 v) i 7 = kF c i 7 from up2_b _ _ _ (by decide), show kF (kSetF c i 16 v) i 8 = kF c i 8 from up2_b _ _ _ (by decide), show kF (kSetF c i 16 v) i 9 = kF c i 9 from up2_b _ _ _ (by decide), show kF (kSetF c i 16 v) i 10 = kF c i 10 from up2_b _ _ _ (by decide), show kF (kSetF c i 16 v) i 11 = kF c i 11 from up2_b _ _ _ (by decide), show kF (kSetF c i 16 v) i 12 = kF c i 12 from up2_b _ _ _ (by decide), show kF (kSetF c i 16 v) i 13 = kF c i 13 from up2_b _ _ _ (by decide), show kF (kSetF c i 16 v) i 14 = kF c i 14 from up2_b _ _ _ (by decide), show kF (kSetF c i 16 v) i 15 = kF c i 15 from up2_b _ _ _ (by decide), show kF (kSetF c i 16 v) i 18 = kF c i 18 from up2_b _ _ _ (by decide), show kF (kSetF c i 16 v) i 19 = kF c i 19 from up2_b _ _ _ (by decide), show kF (kSetF c i 16 v) i 20 = kF c i 20 from up2_b _ _ _ (by decide), show kF (kSetF c i 16 v) i 16 = v from up2_s _ _ _ _, show kF (kSetF c i 16 v) i 17 = kF c i 17 from up2_b _ _ _ (by decide), show kF (kSetF c i 16 v) i 22 = kF c i 22 from up2_b _ _ _ (by decide), show kF (kSetF c i 16 v) i 23 = kF c i 23 from up2_b _ _ _ (by decide), show kF (kSetF c i 16 v) i 21 = kF c i 21 from up2_b _ _ _ (by decide), show kF (kSetF c i 16 v) i 25 = kF c i 25 from up2_b _ _ _ (by decide)]
  rfl
theorem mBx_F17 (c : zCS) (i : Nat) (v : Int32) : (mBx c i).set 21 (.int v) = mBx (kSetF c i 17 v) i := by
  unfold mBx
  rw [show kF (kSetF c i 17 v) i 2 = kF c i 2 from up2_b _ _ _ (by decide), show kF (kSetF c i 17 v) i 3 = kF c i 3 from up2_b _ _ _ (by decide), show kF (kSetF c i 17 v) i 6 = kF c i 6 from up2_b _ _ _ (by decide), show kF (kSetF c i 17 v) i 7 = kF c i 7 from up2_b _ _ _ (by decide), show kF (kSetF c i 17 v) i 8 = kF c i 8 from up2_b _ _ _ (by decide), show kF (kSetF c i 17 v) i 9 = kF c i 9 from up2_b _ _ _ (by decide), show kF (kSetF c i 17 v) i 10 = kF c i 10 from up2_b _ _ _ (by decide), show kF (kSetF c i 17 v) i 11 = kF c i 11 from up2_b _ _ _ (by decide), show kF (kSetF c i 17 v) i 12 = kF c i 12 from up2_b _ _ _ (by decide), show kF (kSetF c i 17 v) i 13 = kF c i 13 from up2_b _ _ _ (by decide), show kF (kSetF c i 17 v) i 14 = kF c i 14 from up2_b _ _ _ (by decide), show kF (kSetF c i 17 v) i 15 = kF c i 15 from up2_b _ _ _ (by decide), show kF (kSetF c i 17 v) i 18 = kF c i 18 from up2_b _ _ _ (by decide), show kF (kSetF c i 17 v) i 19 = kF c i 19 from up2_b _ _ _ (by decide), show kF (kSetF c i 17 v) i 20 = kF c i 20 from up2_b _ _ _ (by decide), show kF (kSetF c i 17 v) i 16 = kF c i 16 from up2_b _ _ _ (by decide), show kF (kSetF c i 17 v) i 17 = v from up2_s _ _ _ _, show kF (kSetF c i 17 v) i 22 = kF c i 22 from up2_b _ _ _ (by decide), show kF (kSetF c i 17 v) i 23 = kF c i 23 from up2_b _ _ _ (by decide), show kF (kSetF c i 17 v) i 21 = kF c i 21 from up2_b _ _ _ (by decide), show kF (kSetF c i 17 v) i 25 = kF c i 25 from up2_b _ _ _ (by decide)]
  rfl
theorem mBx_F22 (c : zCS) (i : Nat) (v : Int32) : (mBx c i).set 22 (.int v) = mBx (kSetF c i 22 v) i := by
  unfold mBx
  rw [show kF (kSetF c i 22 v) i 2 = kF c i 2 from up2_b _ _ _ (by decide), show kF (kSetF c i 22 v) i 3 = kF c i 3 from up2_b _ _ _ (by decide), show kF (kSetF c i 22 v) i 6 = kF c i 6 from up2_b _ _ _ (by decide), show kF (kSetF c i 22 v) i 7 = kF c i 7 from up2_b _ _ _ (by decide), show kF (kSetF c i 22 v) i 8 = kF c i 8 from up2_b _ _ _ (by decide), show kF (kSetF c i 22 v) i 9 = kF c i 9 from up2_b _ _ _ (by decide), show kF (kSetF c i 22 v) i 10 = kF c i 10 from up2_b _ _ _ (by decide), show kF (kSetF c i 22 v) i 11 = kF c i 11 from up2_b _ _ _ (by decide), show kF (kSetF c i 22 v) i 12 = kF c i 12 from up2_b _ _ _ (by decide), show kF (kSetF c i 22 v) i 13 = kF c i 13 from up2_b _ _ _ (by decide), show kF (kSetF c i 22 v) i 14 = kF c i 14 from up2_b _ _ _ (by decide), show kF (kSetF c i 22 v) i 15 = kF c i 15 from up2_b _ _ _ (by decide), show kF (kSetF c i 22 v) i 18 = kF c i 18 from up2_b _ _ _ (by decide), show kF (kSetF c i 22 v) i 19 = kF c i 19 from up2_b _ _ _ (by decide), show kF (kSetF c i 22 v) i 20 = kF c i 20 from up2_b _ _ _ (by decide), show kF (kSetF c i 22 v) i 16 = kF c i 16 from up2_b _ _ _ (by decide), show kF (kSetF c i 22 v) i 17 = kF c i 17 from up2_b _ _ _ (by decide), show kF (kSetF c i 22 v) i 22 = v from up2_s _ _ _ _, show kF (kSetF c i 22 v) i 23 = kF c i 23 from up2_b _ _ _ (by decide), show kF (kSetF c i 22 v) i 21 = kF c i 21 from up2_b _ _ _ (by decide), show kF (kSetF c i 22 v) i 25 = kF c i 25 from up2_b _ _ _ (by decide)]
  rfl
theorem mBx_F23 (c : zCS) (i : Nat) (v : Int32) : (mBx c i).set 23 (.int v) = mBx (kSetF c i 23 v) i := by
  unfold mBx
  rw [show kF (kSetF c i 23 v) i 2 = kF c i 2 from up2_b _ _ _ (by decide), show kF (kSetF c i 23 v) i 3 = kF c i 3 from up2_b _ _ _ (by decide), show kF (kSetF c i 23 v) i 6 = kF c i 6 from up2_b _ _ _ (by decide), show kF (kSetF c i 23 v) i 7 = kF c i 7 from up2_b _ _ _ (by decide), show kF (kSetF c i 23 v) i 8 = kF c i 8 from up2_b _ _ _ (by decide), show kF (kSetF c i 23 v) i 9 = kF c i 9 from up2_b _ _ _ (by decide), show kF (kSetF c i 23 v) i 10 = kF c i 10 from up2_b _ _ _ (by decide), show kF (kSetF c i 23 v) i 11 = kF c i 11 from up2_b _ _ _ (by decide), show kF (kSetF c i 23 v) i 12 = kF c i 12 from up2_b _ _ _ (by decide), show kF (kSetF c i 23 v) i 13 = kF c i 13 from up2_b _ _ _ (by decide), show kF (kSetF c i 23 v) i 14 = kF c i 14 from up2_b _ _ _ (by decide), show kF (kSetF c i 23 v) i 15 = kF c i 15 from up2_b _ _ _ (by decide), show kF (kSetF c i 23 v) i 18 = kF c i 18 from up2_b _ _ _ (by decide), show kF (kSetF c i 23 v) i 19 = kF c i 19 from up2_b _ _ _ (by decide), show kF (kSetF c i 23 v) i 20 = kF c i 20 from up2_b _ _ _ (by decide), show kF (kSetF c i 23 v) i 16 = kF c i 16 from up2_b _ _ _ (by decide), show kF (kSetF c i 23 v) i 17 = kF c i 17 from up2_b _ _ _ (by decide), show kF (kSetF c i 23 v) i 22 = kF c i 22 from up2_b _ _ _ (by decide), show kF (kSetF c i 23 v) i 23 = v from up2_s _ _ _ _, show kF (kSetF c i 23 v) i 21 = kF c i 21 from up2_b _ _ _ (by decide), show kF (kSetF c i 23 v) i 25 = kF c i 25 from up2_b _ _ _ (by decide)]
  rfl
theorem mBx_F21 (c : zCS) (i : Nat) (v : Int32) : (mBx c i).set 24 (.int v) = mBx (kSetF c i 21 v) i := by
  unfold mBx
  rw [show kF (kSetF c i 21 v) i 2 = kF c i 2 from up2_b _ _ _ (by decide), show kF (kSetF c i 21 v) i 3 = kF c i 3 from up2_b _ _ _ (by decide), show kF (kSetF c i 21 v) i 6 = kF c i 6 from up2_b _ _ _ (by decide), show kF (kSetF c i 21 v) i 7 = kF c i 7 from up2_b _ _ _ (by decide), show kF (kSetF c i 21 v) i 8 = kF c i 8 from up2_b _ _ _ (by decide), show kF (kSetF c i 21 v) i 9 = kF c i 9 from up2_b _ _ _ (by decide), show kF (kSetF c i 21 v) i 10 = kF c i 10 from up2_b _ _ _ (by decide), show kF (kSetF c i 21 v) i 11 = kF c i 11 from up2_b _ _ _ (by decide), show kF (kSetF c i 21 v) i 12 = kF c i 12 from up2_b _ _ _ (by decide), show kF (kSetF c i 21 v) i 13 = kF c i 13 from up2_b _ _ _ (by decide), show kF (kSetF c i 21 v) i 14 = kF c i 14 from up2_b _ _ _ (by decide), show kF (kSetF c i 21 v) i 15 = kF c i 15 from up2_b _ _ _ (by decide), show kF (kSetF c i 21 v) i 18 = kF c i 18 from up2_b _ _ _ (by decide), show kF (kSetF c i 21 v) i 19 = kF c i 19 from up2_b _ _ _ (by decide), show kF (kSetF c i 21 v) i 20 = kF c i 20 from up2_b _ _ _ (by decide), show kF (kSetF c i 21 v) i 16 = kF c i 16 from up2_b _ _ _ (by decide), show kF (kSetF c i 21 v) i 17 = kF c i 17 from up2_b _ _ _ (by decide), show kF (kSetF c i 21 v) i 22 = kF c i 22 from up2_b _ _ _ (by decide), show kF (kSetF c i 21 v) i 23 = kF c i 23 from up2_b _ _ _ (by decide), show kF (kSetF c i 21 v) i 21 = v from up2_s _ _ _ _, show kF (kSetF c i 21 v) i 25 = kF c i 25 from up2_b _ _ _ (by decide)]
  rfl
theorem mBx_F25 (c : zCS) (i : Nat) (v : Int32) : (mBx c i).set 25 (.int v) = mBx (kSetF c i 25 v) i := by
  unfold mBx
  rw [show kF (kSetF c i 25 v) i 2 = kF c i 2 from up2_b _ _ _ (by decide), show kF (kSetF c i 25 v) i 3 = kF c i 3 from up2_b _ _ _ (by decide), show kF (kSetF c i 25 v) i 6 = kF c i 6 from up2_b _ _ _ (by decide), show kF (kSetF c i 25 v) i 7 = kF c i 7 from up2_b _ _ _ (by decide), show kF (kSetF c i 25 v) i 8 = kF c i 8 from up2_b _ _ _ (by decide), show kF (kSetF c i 25 v) i 9 = kF c i 9 from up2_b _ _ _ (by decide), show kF (kSetF c i 25 v) i 10 = kF c i 10 from up2_b _ _ _ (by decide), show kF (kSetF c i 25 v) i 11 = kF c i 11 from up2_b _ _ _ (by decide), show kF (kSetF c i 25 v) i 12 = kF c i 12 from up2_b _ _ _ (by decide), show kF (kSetF c i 25 v) i 13 = kF c i 13 from up2_b _ _ _ (by decide), show kF (kSetF c i 25 v) i 14 = kF c i 14 from up2_b _ _ _ (by decide), show kF (kSetF c i 25 v) i 15 = kF c i 15 from up2_b _ _ _ (by decide), show kF (kSetF c i 25 v) i 18 = kF c i 18 from up2_b _ _ _ (by decide), show kF (kSetF c i 25 v) i 19 = kF c i 19 from up2_b _ _ _ (by decide), show kF (kSetF c i 25 v) i 20 = kF c i 20 from up2_b _ _ _ (by decide), show kF (kSetF c i 25 v) i 16 = kF c i 16 from up2_b _ _ _ (by decide), show kF (kSetF c i 25 v) i 17 = kF c i 17 from up2_b _ _ _ (by decide), show kF (kSetF c i 25 v) i 22 = kF c i 22 from up2_b _ _ _ (by decide), show kF (kSetF c i 25 v) i 23 = kF c i 23 from up2_b _ _ _ (by decide), show kF (kSetF c i 25 v) i 21 = kF c i 21 from up2_b _ _ _ (by decide), show kF (kSetF c i 25 v) i 25 = v from up2_s _ _ _ _]
  rfl
theorem mBx_P4 (c : zCS) (i : Nat) (v : Int32) : (mBx c i).set 26 (.int v) = mBx (kSetP c i 4 v) i := by
  unfold mBx
  rw [show kP (kSetP c i 4 v) i 4 = v from up2_s _ _ _ _, show kP (kSetP c i 4 v) i 0 = kP c i 0 from up2_b _ _ _ (by decide), show kP (kSetP c i 4 v) i 1 = kP c i 1 from up2_b _ _ _ (by decide), show kP (kSetP c i 4 v) i 2 = kP c i 2 from up2_b _ _ _ (by decide), show kP (kSetP c i 4 v) i 3 = kP c i 3 from up2_b _ _ _ (by decide)]
  rfl
theorem mBx_P0 (c : zCS) (i : Nat) (v : Int32) : (mBx c i).set 27 (.int v) = mBx (kSetP c i 0 v) i := by
  unfold mBx
  rw [show kP (kSetP c i 0 v) i 4 = kP c i 4 from up2_b _ _ _ (by decide), show kP (kSetP c i 0 v) i 0 = v from up2_s _ _ _ _, show kP (kSetP c i 0 v) i 1 = kP c i 1 from up2_b _ _ _ (by decide), show kP (kSetP c i 0 v) i 2 = kP c i 2 from up2_b _ _ _ (by decide), show kP (kSetP c i 0 v) i 3 = kP c i 3 from up2_b _ _ _ (by decide)]
  rfl
theorem mBx_P1 (c : zCS) (i : Nat) (v : Int32) : (mBx c i).set 28 (.int v) = mBx (kSetP c i 1 v) i := by
  unfold mBx
  rw [show kP (kSetP c i 1 v) i 4 = kP c i 4 from up2_b _ _ _ (by decide), show kP (kSetP c i 1 v) i 0 = kP c i 0 from up2_b _ _ _ (by decide), show kP (kSetP c i 1 v) i 1 = v from up2_s _ _ _ _, show kP (kSetP c i 1 v) i 2 = kP c i 2 from up2_b _ _ _ (by decide), show kP (kSetP c i 1 v) i 3 = kP c i 3 from up2_b _ _ _ (by decide)]
  rfl
theorem mBx_P2 (c : zCS) (i : Nat) (v : Int32) : (mBx c i).set 29 (.int v) = mBx (kSetP c i 2 v) i := by
  unfold mBx
  rw [show kP (kSetP c i 2 v) i 4 = kP c i 4 from up2_b _ _ _ (by decide), show kP (kSetP c i 2 v) i 0 = kP c i 0 from up2_b _ _ _ (by decide), show kP (kSetP c i 2 v) i 1 = kP c i 1 from up2_b _ _ _ (by decide), show kP (kSetP c i 2 v) i 2 = v from up2_s _ _ _ _, show kP (kSetP c i 2 v) i 3 = kP c i 3 from up2_b _ _ _ (by decide)]
  rfl
theorem mBx_P3 (c : zCS) (i : Nat) (v : Int32) : (mBx c i).set 30 (.int v) = mBx (kSetP c i 3 v) i := by
  unfold mBx
  rw [show kP (kSetP c i 3 v) i 4 = kP c i 4 from up2_b _ _ _ (by decide), show kP (kSetP c i 3 v) i 0 = kP c i 0 from up2_b _ _ _ (by decide), show kP (kSetP c i 3 v) i 1 = kP c i 1 from up2_b _ _ _ (by decide), show kP (kSetP c i 3 v) i 2 = kP c i 2 from up2_b _ _ _ (by decide), show kP (kSetP c i 3 v) i 3 = v from up2_s _ _ _ _]
  rfl
def mOver (c : zCS) (i k : Nat) : Int32 := if kF c i k < 0 then 0 else kF c i k
def mFloat (c : zCS) (i : Nat) : Bool := !kRoot c i && (!kLifted c i && ((match kPar c i with | none => false | some p => decide (kF c p 2 = 98)) && !decide (kF c i 16 = 110)))
def mCtx (c : zCS) (i : Nat) : Bool := kRoot c i || (kLifted c i || (kItem c i || (mFloat c i || (decide (kF c i 2 = 102) || decide (kF c i 2 = 103)))))
theorem rootN {c : zCS} {i : Nat} (h : kPr c i = none) : kRoot c i = true := by unfold kRoot; rw [kPr_none h]; rfl
theorem rootS {c : zCS} {i a : Nat} (h : kPr c i = some a) : kRoot c i = false := by obtain ⟨p, hp, -⟩ := kPr_some h; unfold kRoot; rw [hp]; rfl
set_option maxHeartbeats 4000000 in
theorem c_X5_told {G : zG} {σ : zT} {d : Nat} {c : zCS} {th ct : Int32} {i : Nat} (hS : MSys G σ c th ct) (hi : i < kN c) : zC G I_X5_told d [.ref (kA c (rB i))] σ (.inl (some (.int (kTold c i)))) σ := by
  refine zCall.exact (zCall_of (ls := [(0, .ref (kA c (rB i)))]) (by decide) (Nat.le_of_ble_eq_true rfl) rfl ?_)
  refine zr_aload_n dX5_told_0 rfl rfl ?_
  refine zr_get (k := 2) (v := va_rf (kPr c i)) in_X5 (hS.bx hi) rfl (Nat.le_of_ble_eq_true rfl) q2096 (.inl rfl) rfl dX5_told_1 ?_
  refine zr_ifnonnullR (x := (kPr c i)) (tgt := 11) dX5_told_4 (by decide) (fun a_h h => ?_) (fun h => ?_)
  · refine zr_aload_n dX5_told_11 rfl rfl ?_
    refine zr_get (k := 7) (v := .int (kF c i 6)) in_X5 (hS.bx hi) rfl (Nat.le_of_ble_eq_true rfl) q2106 (.inl rfl) rfl dX5_told_12 ?_
    exact zr_iret rfl rfl dX5_told_15 (⟨by unfold kTold; rw [if_neg (by rw [rootS h]; decide)], rfl⟩)
  · refine zr_iconst (v := (-1)) dX5_told_7 (by decide) ?_
    refine zr_goto (tgt := 15) dX5_told_8 (by decide) ?_
    exact zr_iret rfl rfl dX5_told_15 (⟨by unfold kTold; rw [if_pos (rootN h)], rfl⟩)
set_option maxHeartbeats 4000000 in
theorem c_X5_isLifted {G : zG} {σ : zT} {d : Nat} {c : zCS} {th ct : Int32} {i : Nat} (hS : MSys G σ c th ct) (hi : i < kN c) : zC G I_X5_isLifted d [.ref (kA c (rB i))] σ (.inl (some (.int (bI (kLifted c i))))) σ := by
  refine zCall.exact (zCall_of (ls := [(0, .ref (kA c (rB i)))]) (by decide) (Nat.le_of_ble_eq_true rfl) rfl ?_)
  refine zr_aload_n dX5_isLifted_0 rfl rfl ?_
  refine zr_get (k := 2) (v := va_rf (kPr c i)) in_X5 (hS.bx hi) rfl (Nat.le_of_ble_eq_true rfl) q2096 (.inl rfl) rfl dX5_isLifted_1 ?_
  refine zr_ifnullR (x := (kPr c i)) (tgt := 20) dX5_isLifted_4 (by decide) (fun h => ?_) (fun a_h h => ?_)
  · refine zr_iconst (v := 0) dX5_isLifted_20 (by decide) ?_
    exact zr_iret rfl rfl dX5_isLifted_21 (⟨by rw [show kLifted c i = false from by unfold kLifted; rw [rootN h]; rfl]; rfl, rfl⟩)
  · refine zr_aload_n dX5_isLifted_7 rfl rfl ?_
    refine zr_get (k := 21) (v := .int (kF c i 17)) in_X5 (hS.bx hi) rfl (Nat.le_of_ble_eq_true rfl) q2134 (.inl rfl) rfl dX5_isLifted_8 ?_
    refine zr_bipush (v := 97) dX5_isLifted_11 (by decide) ?_
    refine zr_icmp_ne (tgt := 20) dX5_isLifted_13 (by decide) (fun h2 => ?_) (fun h2 => ?_)
    · refine zr_iconst (v := 0) dX5_isLifted_20 (by decide) ?_
      exact zr_iret rfl rfl dX5_isLifted_21 (⟨by rw [show kLifted c i = false from by unfold kLifted; rw [decide_eq_false h2, Bool.and_false]]; rfl, rfl⟩)
    · refine zr_iconst (v := 1) dX5_isLifted_16 (by decide) ?_
      refine zr_goto (tgt := 21) dX5_isLifted_17 (by decide) ?_
      exact zr_iret rfl rfl dX5_isLifted_21 (⟨by rw [show kLifted c i = true from by unfold kLifted; rw [rootS h, decide_eq_true h2]; rfl]; rfl, rfl⟩)
set_option maxHeartbeats 4000000 in
theorem c_X5_sides {G : zG} {σ : zT} {d : Nat} {c : zCS} {th ct : Int32} {i : Nat} (hS : MSys G σ c th ct) (hi : i < kN c) : zC G I_X5_sides d [.ref (kA c (rB i))] σ (.inl (some (.int (kSides c i)))) σ := by
  refine zCall.exact (zCall_of (ls := [(0, .ref (kA c (rB i)))]) (by decide) (Nat.le_of_ble_eq_true rfl) rfl ?_)
  refine zr_aload_n dX5_sides_0 rfl rfl ?_
  refine zr_get (k := 11) (v := .int (kF c i 10)) in_X5 (hS.bx hi) rfl (Nat.le_of_ble_eq_true rfl) q2114 (.inl rfl) rfl dX5_sides_1 ?_
  refine zr_aload_n dX5_sides_4 rfl rfl ?_
  refine zr_get (k := 12) (v := .int (kF c i 11)) in_X5 (hS.bx hi) rfl (Nat.le_of_ble_eq_true rfl) q2116 (.inl rfl) rfl dX5_sides_5 ?_
  refine zr_iadd dX5_sides_8 ?_
  exact zr_iret rfl rfl dX5_sides_9 (⟨rfl, rfl⟩)
set_option maxHeartbeats 4000000 in
theorem c_X5_over {G : zG} {σ : zT} {d : Nat} {c : zCS} {th ct : Int32} {i : Nat} (hS : MSys G σ c th ct) (hi : i < kN c) : zC G I_X5_over d [.ref (kA c (rB i))] σ (.inl (some (.int (mOver c i 8)))) σ := by
  refine zCall.exact (zCall_of (ls := [(0, .ref (kA c (rB i)))]) (by decide) (Nat.le_of_ble_eq_true rfl) rfl ?_)
  refine zr_aload_n dX5_over_0 rfl rfl ?_
  refine zr_get (k := 9) (v := .int (kF c i 8)) in_X5 (hS.bx hi) rfl (Nat.le_of_ble_eq_true rfl) q2110 (.inl rfl) rfl dX5_over_1 ?_
  refine zr_if_ge (tgt := 11) dX5_over_4 (by decide) (fun h => ?_) (fun h => ?_)
  · refine zr_aload_n dX5_over_11 rfl rfl ?_
    refine zr_get (k := 9) (v := .int (kF c i 8)) in_X5 (hS.bx hi) rfl (Nat.le_of_ble_eq_true rfl) q2110 (.inl rfl) rfl dX5_over_12 ?_
    exact zr_iret rfl rfl dX5_over_15 (⟨by unfold mOver; rw [if_neg (Int32.not_lt.mpr h)], rfl⟩)
  · refine zr_iconst (v := 0) dX5_over_7 (by decide) ?_
    refine zr_goto (tgt := 15) dX5_over_8 (by decide) ?_
    exact zr_iret rfl rfl dX5_over_15 (⟨by unfold mOver; rw [if_pos (Int32.not_le.mp h)], rfl⟩)
set_option maxHeartbeats 4000000 in
theorem c_X5_under {G : zG} {σ : zT} {d : Nat} {c : zCS} {th ct : Int32} {i : Nat} (hS : MSys G σ c th ct) (hi : i < kN c) : zC G I_X5_under d [.ref (kA c (rB i))] σ (.inl (some (.int (mOver c i 9)))) σ := by
  refine zCall.exact (zCall_of (ls := [(0, .ref (kA c (rB i)))]) (by decide) (Nat.le_of_ble_eq_true rfl) rfl ?_)
  refine zr_aload_n dX5_under_0 rfl rfl ?_
  refine zr_get (k := 10) (v := .int (kF c i 9)) in_X5 (hS.bx hi) rfl (Nat.le_of_ble_eq_true rfl) q2112 (.inl rfl) rfl dX5_under_1 ?_
  refine zr_if_ge (tgt := 11) dX5_under_4 (by decide) (fun h => ?_) (fun h => ?_)
  · refine zr_aload_n dX5_under_11 rfl rfl ?_
    refine zr_get (k := 10) (v := .int (kF c i 9)) in_X5 (hS.bx hi) rfl (Nat.le_of_ble_eq_true rfl) q2112 (.inl rfl) rfl dX5_under_12 ?_
    exact zr_iret rfl rfl dX5_under_15 (⟨by unfold mOver; rw [if_neg (Int32.not_lt.mpr h)], rfl⟩)
  · refine zr_iconst (v := 0) dX5_under_7 (by decide) ?_
    refine zr_goto (tgt := 15) dX5_under_8 (by decide) ?_
    exact zr_iret rfl rfl dX5_under_15 (⟨by unfold mOver; rw [if_pos (Int32.not_le.mp h)], rfl⟩)
set_option maxHeartbeats 4000000 in
theorem c_X5_isItem {G : zG} {σ : zT} {d : Nat} {c : zCS} {th ct : Int32} {i : Nat} (hd : 2 ≤ d) (hS : MSys G σ c th ct) (hi : i < kN c) : zC G I_X5_isItem d [.ref (kA c (rB i))] σ (.inl (some (.int (bI (kItem c i))))) σ := by
  refine zCall.exact (zCall_of (ls := [(0, .ref (kA c (rB i)))]) (by decide) (Nat.le_of_ble_eq_true rfl) rfl ?_)
  refine zr_aload_n dX5_isItem_0 rfl rfl ?_
  refine zr_get (k := 2) (v := va_rf (kPr c i)) in_X5 (hS.bx hi) rfl (Nat.le_of_ble_eq_true rfl) q2096 (.inl rfl) rfl dX5_isItem_1 ?_
  refine zr_ifnullR (x := (kPr c i)) (tgt := 42) dX5_isItem_4 (by decide) (fun h => ?_) (fun a_h h => ?_)
  · refine zr_iconst (v := 0) dX5_isItem_42 (by decide) ?_
    exact zr_iret rfl rfl dX5_isItem_43 (⟨by rw [show kItem c i = false from by unfold kItem; rw [kPr_none h]]; rfl, rfl⟩)
  · obtain ⟨p, hp, hpe⟩ := kPr_some h
    have hpn := hS.par hi hp
    have hpr : kPr c i = some (kA c (rB p)) := by rw [h, hpe]
    have hki : kItem c i = (kItems c p && !kLifted c i) := by unfold kItem; rw [hp]
    refine zr_aload_n dX5_isItem_7 rfl rfl ?_
    refine zr_get (k := 2) (v := va_rf (kPr c i)) in_X5 (hS.bx hi) rfl (Nat.le_of_ble_eq_true rfl) q2096 (.inl rfl) rfl dX5_isItem_8 ?_
    rw [hpr]
    show zR _ _ _ _ _ _ _ _ _ [.ref (kA c (rB p))] _ _
    refine zr_get (k := 1) (v := .int (kF c p 2)) in_X5 (hS.bx hpn) rfl (Nat.le_of_ble_eq_true rfl) q2094 (.inl rfl) rfl dX5_isItem_11 ?_
    refine zr_bipush (v := 102) dX5_isItem_14 (by decide) ?_
    refine zr_icmp_eq (tgt := 31) dX5_isItem_16 (by decide) (fun h2 => ?_) (fun h2 => ?_)
    · refine zr_aload_n dX5_isItem_31 rfl rfl ?_
      refine zr_call1 (rest := []) (zs_V (As := []) (by omega) ok_X5_isLifted q2368 q2334 q2335 q78 q2336 rfl (hS.bx hi) rfl rfl rfl (Nat.le_of_ble_eq_true rfl) dX5_isItem_32) (c_X5_isLifted hS hi) ?_
      refine zr_ifneB (tgt := 42) dX5_isItem_35 (by decide) (fun h4 => ?_) (fun h4 => ?_)
      · refine zr_iconst (v := 0) dX5_isItem_42 (by decide) ?_
        exact zr_iret rfl rfl dX5_isItem_43 (⟨by rw [show kItem c i = false from by rw [hki, h4, Bool.not_true, Bool.and_false]]; rfl, rfl⟩)
      · refine zr_iconst (v := 1) dX5_isItem_38 (by decide) ?_
        refine zr_goto (tgt := 43) dX5_isItem_39 (by decide) ?_
        exact zr_iret rfl rfl dX5_isItem_43 (⟨by rw [show kItem c i = true from by rw [hki, h4, show kItems c p = true from by unfold kItems; rw [decide_eq_true h2]; simp]; rfl]; rfl, rfl⟩)
    · refine zr_aload_n dX5_isItem_19 rfl rfl ?_
      refine zr_get (k := 2) (v := va_rf (kPr c i)) in_X5 (hS.bx hi) rfl (Nat.le_of_ble_eq_true rfl) q2096 (.inl rfl) rfl dX5_isItem_20 ?_
      rw [hpr]
      show zR _ _ _ _ _ _ _ _ _ [.ref (kA c (rB p))] _ _
      refine zr_get (k := 1) (v := .int (kF c p 2)) in_X5 (hS.bx hpn) rfl (Nat.le_of_ble_eq_true rfl) q2094 (.inl rfl) rfl dX5_isItem_23 ?_
      refine zr_bipush (v := 103) dX5_isItem_26 (by decide) ?_
      refine zr_icmp_ne (tgt := 42) dX5_isItem_28 (by decide) (fun h3 => ?_) (fun h3 => ?_)
      · refine zr_iconst (v := 0) dX5_isItem_42 (by decide) ?_
        exact zr_iret rfl rfl dX5_isItem_43 (⟨by rw [show kItem c i = false from by rw [hki, show kItems c p = false from by unfold kItems; rw [decide_eq_false h2, decide_eq_false h3]; rfl]; rfl]; rfl, rfl⟩)
      · refine zr_aload_n dX5_isItem_31 rfl rfl ?_
        refine zr_call1 (rest := []) (zs_V (As := []) (by omega) ok_X5_isLifted q2368 q2334 q2335 q78 q2336 rfl (hS.bx hi) rfl rfl rfl (Nat.le_of_ble_eq_true rfl) dX5_isItem_32) (c_X5_isLifted hS hi) ?_
        refine zr_ifneB (tgt := 42) dX5_isItem_35 (by decide) (fun h4 => ?_) (fun h4 => ?_)
        · refine zr_iconst (v := 0) dX5_isItem_42 (by decide) ?_
          exact zr_iret rfl rfl dX5_isItem_43 (⟨by rw [show kItem c i = false from by rw [hki, h4, Bool.not_true, Bool.and_false]]; rfl, rfl⟩)
        · refine zr_iconst (v := 1) dX5_isItem_38 (by decide) ?_
          refine zr_goto (tgt := 43) dX5_isItem_39 (by decide) ?_
          exact zr_iret rfl rfl dX5_isItem_43 (⟨by rw [show kItem c i = true from by rw [hki, h4, show kItems c p = true from by unfold kItems; rw [decide_eq_true h3]; simp]; rfl]; rfl, rfl⟩)
set_option maxHeartbeats 4000000 in
theorem c_X5_isFloat {G : zG} {σ : zT} {d : Nat} {c : zCS} {th ct : Int32} {i : Nat} (hd : 2 ≤ d) (hS : MSys G σ c th ct) (hi : i < kN c) : zC G I_X5_isFloat d [.ref (kA c (rB i))] σ (.inl (some (.int (bI (mFloat c i))))) σ := by
  refine zCall.exact (zCall_of (ls := [(0, .ref (kA c (rB i)))]) (by decide) (Nat.le_of_ble_eq_true rfl) rfl ?_)
  refine zr_aload_n dX5_isFloat_0 rfl rfl ?_
  refine zr_get (k := 2) (v := va_rf (kPr c i)) in_X5 (hS.bx hi) rfl (Nat.le_of_ble_eq_true rfl) q2096 (.inl rfl) rfl dX5_isFloat_1 ?_
  refine zr_ifnullR (x := (kPr c i)) (tgt := 39) dX5_isFloat_4 (by decide) (fun h => ?_) (fun a_h h => ?_)
  · refine zr_iconst (v := 0) dX5_isFloat_39 (by decide) ?_
    exact zr_iret rfl rfl dX5_isFloat_40 (⟨by rw [show mFloat c i = false from by unfold mFloat; rw [rootN h]; rfl]; rfl, rfl⟩)
  · obtain ⟨p, hp, hpe⟩ := kPr_some h
    have hpn := hS.par hi hp
    have hpr : kPr c i = some (kA c (rB p)) := by rw [h, hpe]
    have hki : mFloat c i = (!kLifted c i && (decide (kF c p 2 = 98) && !decide (kF c i 16 = 110))) := by unfold mFloat; rw [hp, rootS h]; rfl
    refine zr_aload_n dX5_isFloat_7 rfl rfl ?_
    refine zr_call1 (rest := []) (zs_V (As := []) (by omega) ok_X5_isLifted q2368 q2334 q2335 q78 q2336 rfl (hS.bx hi) rfl rfl rfl (Nat.le_of_ble_eq_true rfl) dX5_isFloat_8) (c_X5_isLifted hS hi) ?_
    refine zr_ifneB (tgt := 39) dX5_isFloat_11 (by decide) (fun h2 => ?_) (fun h2 => ?_)
    · refine zr_iconst (v := 0) dX5_isFloat_39 (by decide) ?_
      exact zr_iret rfl rfl dX5_isFloat_40 (⟨by rw [show mFloat c i = false from by rw [hki, h2]; rfl]; rfl, rfl⟩)
    · refine zr_aload_n dX5_isFloat_14 rfl rfl ?_
      refine zr_get (k := 2) (v := va_rf (kPr c i)) in_X5 (hS.bx hi) rfl (Nat.le_of_ble_eq_true rfl) q2096 (.inl rfl) rfl dX5_isFloat_15 ?_
      rw [hpr]
      show zR _ _ _ _ _ _ _ _ _ [.ref (kA c (rB p))] _ _
      refine zr_get (k := 1) (v := .int (kF c p 2)) in_X5 (hS.bx hpn) rfl (Nat.le_of_ble_eq_true rfl) q2094 (.inl rfl) rfl dX5_isFloat_18 ?_
      refine zr_bipush (v := 98) dX5_isFloat_21 (by decide) ?_
      refine zr_icmp_ne (tgt := 39) dX5_isFloat_23 (by decide) (fun h3 => ?_) (fun h3 => ?_)
      · refine zr_iconst (v := 0) dX5_isFloat_39 (by decide) ?_
        exact zr_iret rfl rfl dX5_isFloat_40 (⟨by rw [show mFloat c i = false from by rw [hki, decide_eq_false h3, Bool.false_and, Bool.and_false]]; rfl, rfl⟩)
      · refine zr_aload_n dX5_isFloat_26 rfl rfl ?_
        refine zr_get (k := 20) (v := .int (kF c i 16)) in_X5 (hS.bx hi) rfl (Nat.le_of_ble_eq_true rfl) q2132 (.inl rfl) rfl dX5_isFloat_27 ?_
        refine zr_bipush (v := 110) dX5_isFloat_30 (by decide) ?_
        refine zr_icmp_eq (tgt := 39) dX5_isFloat_32 (by decide) (fun h4 => ?_) (fun h4 => ?_)
        · refine zr_iconst (v := 0) dX5_isFloat_39 (by decide) ?_
          exact zr_iret rfl rfl dX5_isFloat_40 (⟨by rw [show mFloat c i = false from by rw [hki, decide_eq_true h4, Bool.not_true, Bool.and_false, Bool.and_false]]; rfl, rfl⟩)
        · refine zr_iconst (v := 1) dX5_isFloat_35 (by decide) ?_
          refine zr_goto (tgt := 40) dX5_isFloat_36 (by decide) ?_
          exact zr_iret rfl rfl dX5_isFloat_40 (⟨by rw [show mFloat c i = true from by rw [hki, h2, decide_eq_true h3, decide_eq_false h4]; rfl]; rfl, rfl⟩)
set_option maxHeartbeats 4000000 in
theorem c_X5_isContext {G : zG} {σ : zT} {d : Nat} {c : zCS} {th ct : Int32} {i : Nat} (hd : 4 ≤ d) (hS : MSys G σ c th ct) (hi : i < kN c) : zC G I_X5_isContext d [.ref (kA c (rB i))] σ (.inl (some (.int (bI (mCtx c i))))) σ := by
  refine zCall.exact (zCall_of (ls := [(0, .ref (kA c (rB i)))]) (by decide) (Nat.le_of_ble_eq_true rfl) rfl ?_)
  refine zr_aload_n dX5_isContext_0 rfl rfl ?_
  refine zr_get (k := 2) (v := va_rf (kPr c i)) in_X5 (hS.bx hi) rfl (Nat.le_of_ble_eq_true rfl) q2096 (.inl rfl) rfl dX5_isContext_1 ?_
  refine zr_ifnullR (x := (kPr c i)) (tgt := 46) dX5_isContext_4 (by decide) (fun h => ?_) (fun a_h h => ?_)
  · refine zr_iconst (v := 1) dX5_isContext_46 (by decide) ?_
    refine zr_goto (tgt := 51) dX5_isContext_47 (by decide) ?_
    exact zr_iret rfl rfl dX5_isContext_51 (⟨by rw [show mCtx c i = true from by unfold mCtx; rw [rootN h]; simp]; rfl, rfl⟩)
  · refine zr_aload_n dX5_isContext_7 rfl rfl ?_
    refine zr_call1 (rest := []) (zs_V (As := []) (by omega) ok_X5_isLifted q2368 q2334 q2335 q78 q2336 rfl (hS.bx hi) rfl rfl rfl (Nat.le_of_ble_eq_true rfl) dX5_isContext_8) (c_X5_isLifted hS hi) ?_
    refine zr_ifneB (tgt := 46) dX5_isContext_11 (by decide) (fun h2 => ?_) (fun h2 => ?_)
    · refine zr_iconst (v := 1) dX5_isContext_46 (by decide) ?_
      refine zr_goto (tgt := 51) dX5_isContext_47 (by decide) ?_
      exact zr_iret rfl rfl dX5_isContext_51 (⟨by rw [show mCtx c i = true from by unfold mCtx; rw [h2]; simp]; rfl, rfl⟩)
    · refine zr_aload_n dX5_isContext_14 rfl rfl ?_
      refine zr_call1 (rest := []) (zs_V (As := []) (by omega) ok_X5_isItem q2469 q2470 q2471 q78 q2472 rfl (hS.bx hi) rfl rfl rfl (Nat.le_of_ble_eq_true rfl) dX5_isContext_15) (c_X5_isItem (by omega) hS hi) ?_
      refine zr_ifneB (tgt := 46) dX5_isContext_18 (by decide) (fun h3 => ?_) (fun h3 => ?_)
      · refine zr_iconst (v := 1) dX5_isContext_46 (by decide) ?_
        refine zr_goto (tgt := 51) dX5_isContext_47 (by decide) ?_
        exact zr_iret rfl rfl dX5_isContext_51 (⟨by rw [show mCtx c i = true from by unfold mCtx; rw [h3]; simp]; rfl, rfl⟩)
      · refine zr_aload_n dX5_isContext_21 rfl rfl ?_
        refine zr_call1 (rest := []) (zs_V (As := []) (by omega) ok_X5_isFloat q2473 q2365 q2366 q78 q2367 rfl (hS.bx hi) rfl rfl rfl (Nat.le_of_ble_eq_true rfl) dX5_isContext_22) (c_X5_isFloat (by omega) hS hi) ?_
        refine zr_ifneB (tgt := 46) dX5_isContext_25 (by decide) (fun h4 => ?_) (fun h4 => ?_)
        · refine zr_iconst (v := 1) dX5_isContext_46 (by decide) ?_
          refine zr_goto (tgt := 51) dX5_isContext_47 (by decide) ?_
          exact zr_iret rfl rfl dX5_isContext_51 (⟨by rw [show mCtx c i = true from by unfold mCtx; rw [h4]; simp]; rfl, rfl⟩)
        · refine zr_aload_n dX5_isContext_28 rfl rfl ?_
          refine zr_get (k := 1) (v := .int (kF c i 2)) in_X5 (hS.bx hi) rfl (Nat.le_of_ble_eq_true rfl) q2094 (.inl rfl) rfl dX5_isContext_29 ?_
          refine zr_bipush (v := 102) dX5_isContext_32 (by decide) ?_
          refine zr_icmp_eq (tgt := 46) dX5_isContext_34 (by decide) (fun h5 => ?_) (fun h5 => ?_)
          · refine zr_iconst (v := 1) dX5_isContext_46 (by decide) ?_
            refine zr_goto (tgt := 51) dX5_isContext_47 (by decide) ?_
            exact zr_iret rfl rfl dX5_isContext_51 (⟨by rw [show mCtx c i = true from by unfold mCtx; rw [decide_eq_true h5]; simp]; rfl, rfl⟩)
          · refine zr_aload_n dX5_isContext_37 rfl rfl ?_
            refine zr_get (k := 1) (v := .int (kF c i 2)) in_X5 (hS.bx hi) rfl (Nat.le_of_ble_eq_true rfl) q2094 (.inl rfl) rfl dX5_isContext_38 ?_
            refine zr_bipush (v := 103) dX5_isContext_41 (by decide) ?_
            refine zr_icmp_ne (tgt := 50) dX5_isContext_43 (by decide) (fun h6 => ?_) (fun h6 => ?_)
            · refine zr_iconst (v := 0) dX5_isContext_50 (by decide) ?_
              exact zr_iret rfl rfl dX5_isContext_51 (⟨by rw [show mCtx c i = false from by unfold mCtx; rw [rootS h, h2, h3, h4, decide_eq_false h5, decide_eq_false h6]; rfl]; rfl, rfl⟩)
            · refine zr_iconst (v := 1) dX5_isContext_46 (by decide) ?_
              refine zr_goto (tgt := 51) dX5_isContext_47 (by decide) ?_
              exact zr_iret rfl rfl dX5_isContext_51 (⟨by rw [show mCtx c i = true from by unfold mCtx; rw [decide_eq_true h6]; simp]; rfl, rfl⟩)
