/-! ===== the plain law: what stays in a layout; the boxes laid with a box; frames ===== -/
/-- what a layout doesn't change, and reads: the tree, words, fields (but depth, break, kept or marked) -/
def stt (c : zCS) : zCS := (kN c, fun _ => 0, fun _ => 0, fun i k => if k = 22 then 97 else if k = 20 ∨ k = 25 then 0 else kF c i k, kPar c, kCh c, kWd c, fun _ _ => 0, fun _ => [], 0, 0)
def SS (S c : zCS) : Prop := stt c = S
theorem SS.n {S c : zCS} (h : SS S c) : kN c = kN S := by subst h; rfl
theorem SS.par {S c : zCS} (h : SS S c) : kPar c = kPar S := by subst h; rfl
theorem SS.ch {S c : zCS} (h : SS S c) : kCh c = kCh S := by subst h; rfl
theorem SS.wd {S c : zCS} (h : SS S c) : kWd c = kWd S := by subst h; rfl
theorem SS.f {S c : zCS} (h : SS S c) (i k : Nat) (hk : (k == 22 || (k == 20 || k == 25)) = false) : kF c i k = kF S i k := by
  subst h
  simp only [Bool.or_eq_false_iff, beq_eq_false_iff_ne] at hk
  show _ = (if k = 22 then (97 : Int32) else if k = 20 ∨ k = 25 then 0 else kF c i k)
  rw [if_neg hk.1, if_neg (fun h => h.elim hk.2.1 hk.2.2)]
theorem SS.root {S c : zCS} (h : SS S c) : kRoot c = kRoot S := by subst h; rfl
theorem SS.text {S c : zCS} (h : SS S c) : kText c = kText S := by subst h; rfl
theorem SS.itms {S c : zCS} (h : SS S c) : kItems c = kItems S := by subst h; rfl
theorem SS.lifted {S c : zCS} (h : SS S c) : kLifted c = kLifted S := by subst h; rfl
theorem SS.item {S c : zCS} (h : SS S c) : kItem c = kItem S := by subst h; rfl
theorem SS.float {S c : zCS} (h : SS S c) : kFloat c = kFloat S := by subst h; rfl
theorem SS.flow {S c : zCS} (h : SS S c) : kFlow c = kFlow S := by subst h; rfl
theorem SS.upper {S c : zCS} (h : SS S c) : kUpper c = kUpper S := by subst h; rfl
theorem SS.lower {S c : zCS} (h : SS S c) : kLower c = kLower S := by subst h; rfl
theorem SS.told {S c : zCS} (h : SS S c) : kTold c = kTold S := by subst h; rfl
theorem SS.sides {S c : zCS} (h : SS S c) : kSides c = kSides S := by subst h; rfl
theorem SS.ends {S c : zCS} (h : SS S c) : kEnds c = kEnds S := by subst h; rfl
theorem SS.over {S c : zCS} (h : SS S c) (i : Nat) : mOver c i 8 = mOver S i 8 := by subst h; rfl
theorem SS.under {S c : zCS} (h : SS S c) (i : Nat) : mOver c i 9 = mOver S i 9 := by subst h; rfl
theorem SS.mfl {S c : zCS} (h : SS S c) : mFloat c = mFloat S := by subst h; rfl
theorem SS.ctx {S c : zCS} (h : SS S c) : mCtx c = mCtx S := by subst h; rfl
theorem SS.items {S c : zCS} (h : SS S c) : kItemsOf c = kItemsOf S := by subst h; rfl
theorem cCW_st (c : zCS) : ∀ (f i : Nat) (l : Bool), cCW f (stt c) i l = cCW f c i l := by
  intro f
  induction f with
  | zero => intro i l; rfl
  | succ f ih =>
    intro i l
    have e : (fun i l => cCW f (stt c) i l) = fun i l => cCW f c i l := by funext i l; exact ih i l
    have e2 : cCW f (stt c) = cCW f c := e
    unfold cCW
    rw [e2]
    rfl
theorem SS.cw {S c : zCS} (h : SS S c) : cW c = cW S := by subst h; funext i l; exact (cCW_st c 24 i l).symm
theorem SS.fit {S c : zCS} (h : SS S c) : cFit c = cFit S := by
  funext i w
  unfold cFit
  rw [h.told, h.cw]
theorem FC_st (c : zCS) : ∀ (f i : Nat), FC f (stt c) i = FC f c i := by
  intro f
  induction f with
  | zero => intro i; rfl
  | succ f ih => intro i; unfold FC; simp only [ih]; rfl
theorem stt_stt (c : zCS) : stt (stt c) = stt c := by
  have e : (fun i k => if k = 22 then (97 : Int32) else if k = 20 ∨ k = 25 then 0 else kF (stt c) i k) = fun i k => if k = 22 then (97 : Int32) else if k = 20 ∨ k = 25 then 0 else kF c i k := by
    funext i k
    by_cases h1 : k = 22
    · rw [if_pos h1, if_pos h1]
    · by_cases h2 : k = 20 ∨ k = 25
      · rw [if_neg h1, if_neg h1, if_pos h2, if_pos h2]
      · rw [if_neg h1, if_neg h1, if_neg h2, if_neg h2]
        exact (if_neg h1).trans (if_neg h2)
  exact congrArg (fun F => ((kN c, fun _ => 0, fun _ => 0, F, kPar c, kCh c, kWd c, fun _ _ => 0, fun _ => [], 0, 0) : zCS)) e
theorem SS.self {S c : zCS} (h : SS S c) : SS S S := by unfold SS at h ⊢; rw [← h, stt_stt]
theorem stt_K {c c' : zCS} (h : KEq c c') : stt c' = stt c := by
  unfold stt
  rw [h.n, show kPar c' = kPar c from h.2.2.2.1, show kCh c' = kCh c from h.2.2.2.2.1, show kWd c' = kWd c from h.2.2.2.2.2.1]
  congr 3
  congr 1
  funext i k
  split
  · rfl
  · split
    · rfl
    · rename_i h2
      exact h.f i k (fun e => h2 (Or.inr e))
theorem SS.K {S c c' : zCS} (h : SS S c) (g : KEq c c') : SS S c' := (stt_K g).trans h
theorem SS.setP {S c : zCS} (h : SS S c) (i k : Nat) (v : Int32) : SS S (kSetP c i k v) := h.K (KEq.setP c i k v)
theorem SS.setF {S c : zCS} (h : SS S c) (i : Nat) (v : Int32) : SS S (kSetF c i 25 v) := h.K (KEq.setF c i v)
/-- what holds of the tree at all times -/
def WS (S : zCS) : Prop := KWf S ∧ (∀ x p, kPar S x = some p → x < kN S ∧ x ∈ kCh S p ∧ kF S p 2 ≠ 116) ∧ 0 < kN S ∧ (∀ j, j < kN S → (kPar S j = none ↔ j = 0))
theorem KWf.st {c : zCS} (h : KWf c) : KWf (stt c) := by
  refine ⟨h.1, fun i hi => ?_⟩
  obtain ⟨a1, a2, a3, a4, a5⟩ := h.2 i hi
  refine ⟨a1, a2, a3, a4, fun k => ?_⟩
  show KVal k (if k = 22 then (97 : Int32) else if k = 20 ∨ k = 25 then 0 else kF c i k)
  split <;> rename_i h1
  · subst h1; exact Or.inl rfl
  · split <;> rename_i h2
    · rcases h2 with rfl | rfl
      · show btw 0 (-5) 5 = true
        decide
      · trivial
    · exact a5 k
/-- k steps up from x to i, past boxes that are not lifted out -/
def dUp (S : zCS) : Nat → Nat → Nat → Prop
  | 0, i, x => x = i
  | k + 1, i, x => kLifted S x = false ∧ ∃ p, kPar S x = some p ∧ dUp S k i p
/-- x is laid with i -/
def Dm (S : zCS) (i x : Nat) : Prop := ∃ k, dUp S k i x
theorem Dm.rf (S : zCS) (i : Nat) : Dm S i i := ⟨0, rfl⟩
theorem Dm.up {S : zCS} {i x p : Nat} (hl : kLifted S x = false) (hp : kPar S x = some p) (h : Dm S i p) : Dm S i x := by
  obtain ⟨k, h⟩ := h
  exact ⟨k + 1, hl, p, hp, h⟩
theorem Dm.cases {S : zCS} {i x : Nat} (h : Dm S i x) : x = i ∨ ∃ p, kPar S x = some p ∧ kLifted S x = false ∧ Dm S i p := by
  obtain ⟨k, h⟩ := h
  cases k with
  | zero => exact Or.inl h
  | succ k =>
    obtain ⟨a, p, b, d⟩ := h
    exact Or.inr ⟨p, b, a, k, d⟩
theorem Dm.down {S : zCS} {i j x : Nat} (hl : kLifted S j = false) (hp : kPar S j = some i) (h : Dm S j x) : Dm S i x := by
  obtain ⟨k, h⟩ := h
  induction k generalizing x with
  | zero => rw [show x = j from h]; exact Dm.up hl hp (Dm.rf S i)
  | succ k ih =>
    obtain ⟨a, p, b, d⟩ := h
    exact Dm.up a b (ih d)
theorem Dm.child {S : zCS} {i x : Nat} (h : Dm S i x) (hx : x ≠ i) : ∃ j, kPar S j = some i ∧ kLifted S j = false ∧ Dm S j x := by
  obtain ⟨k, h⟩ := h
  induction k generalizing x with
  | zero => exact absurd h hx
  | succ k ih =>
    obtain ⟨a, p, b, d⟩ := h
    by_cases hp : p = i
    · subst hp; exact ⟨x, b, a, Dm.rf S x⟩
    · obtain ⟨j, h1, h2, h3⟩ := ih hp d
      exact ⟨j, h1, h2, Dm.up a b h3⟩
theorem Dm.trans {S : zCS} {i j x : Nat} (h : Dm S i j) (g : Dm S j x) : Dm S i x := by
  obtain ⟨k, g⟩ := g
  induction k generalizing x with
  | zero => rw [show x = j from g]; exact h
  | succ k ih =>
    obtain ⟨a, p, b, d⟩ := g
    exact Dm.up a b (ih d)
theorem dUp_K {S : zCS} : ∀ (k i x : Nat), dUp S k i x → upK S k x = some i := by
  intro k
  induction k with
  | zero => intro i x h; rw [show x = i from h]; rfl
  | succ k ih =>
    intro i x h
    obtain ⟨a, p, b, d⟩ := h
    have e := ih i p d
    have h1 : upK S 1 x = some p := b
    rw [Nat.add_comm, upK_add, h1]
    exact e
theorem Dm.le {S : zCS} (hK : KWf S) {i x : Nat} (hx : x < kN S) (h : Dm S i x) : i ≤ x := by
  obtain ⟨k, h⟩ := h
  exact upK_le hK k x i hx (dUp_K k i x h)
theorem Dm.lt {S : zCS} (hW : WS S) {i x : Nat} (hi : i < kN S) (h : Dm S i x) : x < kN S := by
  rcases h.cases with e | ⟨p, h1, -, -⟩
  · rw [e]; exact hi
  · exact (hW.2.1 x p h1).1
theorem Dm.same {S : zCS} (hK : KWf S) {i a b x : Nat} (hx : x < kN S) (ha : Dm S a x) (hb : Dm S b x) (pa : kPar S a = some i) (pb : kPar S b = some i) : a = b := by
  obtain ⟨k, ha⟩ := ha
  obtain ⟨m, hb⟩ := hb
  rcases Nat.le_total k m with hkm | hkm
  · exact up_same hK hx hkm (dUp_K _ _ _ ha) (dUp_K _ _ _ hb) pa pb
  · exact (up_same hK hx hkm (dUp_K _ _ _ hb) (dUp_K _ _ _ ha) pb pa).symm
/-- the data of a box are as they were -/
def sm (c c' : zCS) (x : Nat) : Prop := (∀ k, kP c' x k = kP c x k) ∧ kF c' x 25 = kF c x 25 ∧ kLn c' x = kLn c x
/-- .. but for its place and height -/
def sl (c c' : zCS) (x : Nat) : Prop := (kP c' x 2 = kP c x 2 ∧ kP c' x 4 = kP c x 4) ∧ kF c' x 25 = kF c x 25 ∧ kLn c' x = kLn c x
theorem sm.rf (c : zCS) (x : Nat) : sm c c x := ⟨fun _ => rfl, rfl, rfl⟩
theorem sm.trans {a b c : zCS} {x : Nat} (h : sm a b x) (g : sm b c x) : sm a c x := ⟨fun k => (g.1 k).trans (h.1 k), g.2.1.trans h.2.1, g.2.2.trans h.2.2⟩
theorem sm.sl {a b : zCS} {x : Nat} (h : sm a b x) : sl a b x := ⟨⟨h.1 2, h.1 4⟩, h.2⟩
theorem sl.rf (c : zCS) (x : Nat) : sl c c x := (sm.rf c x).sl
theorem sl.trans {a b c : zCS} {x : Nat} (h : sl a b x) (g : sl b c x) : sl a c x := ⟨⟨g.1.1.trans h.1.1, g.1.2.trans h.1.2⟩, g.2.1.trans h.2.1, g.2.2.trans h.2.2⟩
theorem sm.P (c : zCS) {i x : Nat} (k : Nat) (v : Int32) (h : x ≠ i) : sm c (kSetP c i k v) x := ⟨fun b => up2_a _ _ _ _ h, rfl, rfl⟩
theorem sl.P (c : zCS) (i x k : Nat) (v : Int32) (h2 : k ≠ 2) (h4 : k ≠ 4) : sl c (kSetP c i k v) x := by
  by_cases hx : x = i
  · subst hx; exact ⟨⟨up2_b _ _ _ (Ne.symm h2), up2_b _ _ _ (Ne.symm h4)⟩, rfl, rfl⟩
  · exact (sm.P c k v hx).sl
theorem kP_s (c : zCS) (i k : Nat) (v : Int32) : kP (kSetP c i k v) i k = v := up2_s _ _ _ _
theorem kP_n (c : zCS) (i : Nat) {k b : Nat} (v : Int32) (h : b ≠ k) : kP (kSetP c i k v) i b = kP c i b := up2_b _ _ _ h
theorem kP_a (c : zCS) {i a : Nat} (k b : Nat) (v : Int32) (h : a ≠ i) : kP (kSetP c i k v) a b = kP c a b := up2_a _ _ _ _ h
theorem kF_s (c : zCS) (i k : Nat) (v : Int32) : kF (kSetF c i k v) i k = v := up2_s _ _ _ _
theorem kF_a (c : zCS) {i a : Nat} (k b : Nat) (v : Int32) (h : a ≠ i) : kF (kSetF c i k v) a b = kF c a b := up2_a _ _ _ _ h
/-- only the boxes of F have changed -/
def Fr (F : Nat → Prop) (c c' : zCS) : Prop := ∀ x, ¬ F x → sm c c' x
theorem Fr.rf (F : Nat → Prop) (c : zCS) : Fr F c c := fun x _ => sm.rf c x
theorem Fr.trans {F : Nat → Prop} {a b c : zCS} (h : Fr F a b) (g : Fr F b c) : Fr F a c := fun x hx => (h x hx).trans (g x hx)
theorem Fr.mono {F F2 : Nat → Prop} {a b : zCS} (h : Fr F a b) (hs : ∀ x, F x → F2 x) : Fr F2 a b := fun x hx => h x (fun q => hx (hs x q))
theorem Fr.P {F : Nat → Prop} (c : zCS) {i : Nat} (k : Nat) (v : Int32) (h : F i) : Fr F c (kSetP c i k v) := fun x hx => sm.P c k v (fun e => hx (e ▸ h))
theorem Fr.F {F : Nat → Prop} (c : zCS) {i : Nat} (v : Int32) (h : F i) : Fr F c (kSetF c i 25 v) := fun x hx => ⟨fun _ => rfl, kF_a c 25 25 v (fun e => hx (e ▸ h)), rfl⟩
theorem Fr.L {F : Nat → Prop} (c : zCS) {i : Nat} (ls : List (Int32 × Int32 × Int32)) (h : F i) : Fr F c (kULn c (fun a => if a = i then ls else kLn c a)) := fun x hx => ⟨fun _ => rfl, rfl, if_neg (fun e : x = i => hx (e ▸ h))⟩
theorem Fr.fold {α β : Type} {F : Nat → Prop} (g : α → zCS) (f : α → β → α) : ∀ (l : List β) (s : α), (∀ s x, x ∈ l → Fr F (g s) (g (f s x))) → Fr F (g s) (g (l.foldl f s)) := by
  intro l
  induction l with
  | nil => intro s _; exact Fr.rf F _
  | cons x l ih => intro s h; exact (h s x List.mem_cons_self).trans (ih (f s x) (fun s y hy => h s y (List.mem_cons_of_mem _ hy)))
