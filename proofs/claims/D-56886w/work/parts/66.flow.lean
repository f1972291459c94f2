/-! ===== the context: layChild (rows printed by tools/p66.py) ===== -/
/-- how many floats a block can bring -/
def FC : Nat → zCS → Nat → Nat
  | 0, _, _ => 0
  | f + 1, c, i => ((kCh c i).map (fun j => 1 + FC f c j)).sum
theorem FC_eq {c c' : zCS} (h : KEq c c') : ∀ (f i : Nat), FC f c' i = FC f c i := by
  intro f
  induction f with
  | zero => intro i; rfl
  | succ f ih => intro i; unfold FC; rw [h.ch i]; simp only [ih]
abbrev FlT : Type := zCS × Int32 → List F5 → Nat → Int32 → Int32 → (zCS × Int32) × List F5
def chW (c : zCS) (j i : Nat) : Int32 := if kTold c j ≠ -1 then kTold c j else imax (2 * kF c j 12) (kInner c i - kSides c j)
def cChild2 (L : LayT) (Fl : FlT) (c : zCS) (n : Int32) (fs : List F5) (j i : Nat) (x y top : Int32) (w lf : Int32) : (zCS × Int32) × List F5 :=
  if kItems c j = true then (L (kSetP (kSetP c j 0 lf) j 1 (top - y), n) j w, fs)
  else if kText c j = true then ((cLines (kSetP (kSetP (kSetP c j 0 lf) j 1 (top - y)) j 2 w) fs j (x + lf) top, n), fs)
  else Fl (kSetP (kSetP (kSetP c j 0 lf) j 1 (top - y)) j 2 w, n) fs j (x + lf) top
def cChild (L : LayT) (Fl : FlT) (s : zCS × Int32) (fs : List F5) (j i : Nat) (x y top : Int32) : (zCS × Int32) × List F5 :=
  cChild2 L Fl s.1 s.2 fs j i x y top (chW s.1 j i) (kF s.1 i 12 + kF s.1 j 10)
theorem LB_pos {c : zCS} {f i : Nat} (h : 0 < f) : 5000 * (kWd c i).length + 7000 ≤ LB f c i := by
  cases f with
  | zero => omega
  | succ f => rw [LB_succ]; omega
theorem chW_Z (c : zCS) (j i : Nat) : chW (kZ c) j i = chW c j i := by
  unfold chW
  rw [show kTold (kZ c) j = kTold c j from rfl, show kF (kZ c) j 12 = kF c j 12 from rfl, show kInner (kZ c) i = kInner c i from rfl, show kSides (kZ c) j = kSides c j from rfl]
theorem cChild_Z (L : LayT) (Fl : FlT) (c : zCS) (n : Int32) (fs : List F5) (j i : Nat) (x y top : Int32) : cChild L Fl (kZ c, n) fs j i x y top = cChild2 L Fl (kZ c) n fs j i x y top (chW c j i) (kF c i 12 + kF c j 10) := by
  show cChild2 L Fl (kZ c) n fs j i x y top (chW (kZ c) j i) (kF (kZ c) i 12 + kF (kZ c) j 10) = _
  rw [chW_Z, show kF (kZ c) i 12 = kF c i 12 from rfl, show kF (kZ c) j 10 = kF c j 10 from rfl]
theorem zX.leLB {G : zG} {S : Nat → Prop} {σ σ1 : zT} {c c3 : zCS} {f j : Nat} (h : zX G S σ σ1 (0 + 0 + 0 + (5000 * (kWd c3 j).length + 6000))) (hE : KEq c c3) (hf : 0 < f) : zX G S σ σ1 (LB f c j) := by
  have h1 := LB_pos (c := c) (i := j) hf
  rw [hE.wd j] at h
  have h2 : 0 + 0 + 0 + (5000 * (kWd c j).length + 6000) ≤ 5000 * (kWd c j).length + 7000 := by
    rw [Nat.add_zero, Nat.zero_add]
    exact Nat.add_le_add_left (by decide) _
  exact zX.le h (Nat.le_trans h2 h1)
theorem zX.leE {G : zG} {S : Nat → Prop} {σ σ1 : zT} {c c3 : zCS} {f j k : Nat} (h : zX G S σ σ1 (k + LB f c3 j)) (hk : k = 0) (hE : KEq c c3) : zX G S σ σ1 (LB f c j) := by
  rw [hk, LB_eq hE, Nat.zero_add] at h
  exact h
theorem SF_0 {fa : Nat} : ¬ SF fa 0 := fun h => by rcases h with h | h | h; exact SC_0 h; all_goals (unfold dT at h; omega)
