/-! ===== the layout changes places, lines and what is kept alone; checking changes no field ===== -/
def NQ (chk : Bool) (c c' : zCS) : Prop := KEq c c' ∧ kA c' = kA c ∧ (chk = true → kF c' = kF c)
theorem NQ.rf (b : Bool) (c : zCS) : NQ b c c := ⟨KEq.rf c, rfl, fun _ => rfl⟩
theorem NQ.trans {b : Bool} {c d e : zCS} (h : NQ b c d) (g : NQ b d e) : NQ b c e := ⟨h.1.trans g.1, g.2.1.trans h.2.1, fun hb => (g.2.2 hb).trans (h.2.2 hb)⟩
theorem NQ.setP (b : Bool) (c : zCS) (i k : Nat) (v : Int32) : NQ b c (kSetP c i k v) := ⟨KEq.setP c i k v, rfl, fun _ => rfl⟩
theorem NQ.SH (b : Bool) (c : zCS) (i : Nat) (v : Int32) : NQ b c (cSH c i v) := NQ.setP b c i 3 _
theorem NQ.Str (b : Bool) (c : zCS) (i : Nat) (v : Int32) : NQ b c (cStr c i v) := by
  unfold cStr
  split
  · exact NQ.setP b c i 3 _
  · exact NQ.rf b c
theorem NQ.Put (b : Bool) (c : zCS) (i : Nat) (x y : Int32) : NQ b c (cPut c i x y) := (NQ.setP b _ _ _ _).trans (NQ.setP b _ _ _ _)
theorem NQ.uln (b : Bool) (c : zCS) (l : Nat → List (Int32 × Int32 × Int32)) : NQ b c (kULn c l) := ⟨⟨fun _ _ _ => rfl, rfl, rfl, rfl, rfl, rfl, fun _ _ _ => rfl, rfl, rfl⟩, rfl, fun _ => rfl⟩
theorem NQ.Lines (b : Bool) (c : zCS) (fs : List F5) (i : Nat) (x y : Int32) : NQ b c (cLines c fs i x y) := (NQ.uln b c _).trans (NQ.SH b _ _ _)
theorem NQ.fold {α β : Type} {b : Bool} (g : α → zCS) (f : α → β → α) (h : ∀ s x, NQ b (g s) (g (f s x))) : ∀ (l : List β) (s : α), NQ b (g s) (g (l.foldl f s)) := by
  intro l
  induction l with
  | nil => intro s; exact NQ.rf b _
  | cons x l ih => intro s; exact (h s x).trans (ih (f s x))
theorem NQ.Strs (b : Bool) (c : zCS) (es : List Nat) (h : Int32) : NQ b c (cStrs c es h) := NQ.fold (fun c => c) (fun c j => cStr c j h) (fun c j => NQ.Str b c j h) es c
abbrev NL (b : Bool) (L : LayT) : Prop := ∀ s i w, NQ b s.1 (L s i w).1
abbrev NF (b : Bool) (Fl : FlT) : Prop := ∀ s fs i x y, NQ b s.1 (Fl s fs i x y).1.1
theorem NQ.Row {b : Bool} {L : LayT} (hL : NL b L) (s : zCS × Int32) (i : Nat) : NQ b s.1 (cRow L s i).1 := by
  have h1 : NQ b s.1 (rowE L s i).1.1 := NQ.fold (fun t : (zCS × Int32) × Int32 × Int32 => t.1.1) (rowB L i (cRowW s.1 i)) (fun t q => (hL t.1 q.2 _).trans (NQ.Put b _ _ _ _)) _ (s, kF s.1 i 12, 0)
  exact (h1.trans (NQ.Strs b _ _ _)).trans (NQ.SH b _ _ _)
theorem NQ.Cells {b : Bool} {L : LayT} (hL : NL b L) (s : zCS × Int32) (es : List Nat) (g : Nat → Int32) (l t : Int32) : NQ b s.1 (cCells L s es g l t).1.1 := by
  have h1 : NQ b s.1 (cellE L s es g l t).1.1 := NQ.fold (fun t : (zCS × Int32) × Int32 × Int32 => t.1.1) (gcB L g t) (fun u q => (hL u.1 q.2 _).trans (NQ.Put b _ _ _ _)) _ (s, l, 0)
  exact h1.trans (NQ.Strs b _ _ _)
theorem NQ.gLoop {b : Bool} {L : LayT} (hL : NL b L) (g : Nat → Int32) (i m : Nat) : ∀ (f : Nat) (es : List Nat) (s : zCS × Int32) (y : Int32), NQ b s.1 (gLoop L g i m f es s y).1.1 := by
  intro f
  induction f with
  | zero => intro es s y; exact NQ.rf b _
  | succ f ih =>
    intro es s y
    cases es with
    | nil => exact NQ.rf b _
    | cons e r => exact (NQ.Cells hL s _ g _ _).trans (ih _ _ _)
theorem NQ.Grid {b : Bool} {L : LayT} (hL : NL b L) (s : zCS × Int32) (i : Nat) : NQ b s.1 (cGrid L s i).1 := (NQ.gLoop hL _ _ _ _ _ s _).trans (NQ.SH b _ _ _)
theorem NQ.Float {b : Bool} {L : LayT} (hL : NL b L) (s : zCS × Int32) (fs : List F5) (j i : Nat) (x y t : Int32) : NQ b s.1 (cFloat L s fs j i x y t).1.1 := (hL s j _).trans (NQ.Put b _ _ _ _)
theorem NQ.Child {b : Bool} {L : LayT} {Fl : FlT} (hL : NL b L) (hF : NF b Fl) (s : zCS × Int32) (fs : List F5) (j i : Nat) (x y t : Int32) : NQ b s.1 (cChild L Fl s fs j i x y t).1.1 := by
  unfold cChild cChild2
  split
  · exact ((NQ.setP b _ _ _ _).trans (NQ.setP b _ _ _ _)).trans (hL _ j _)
  · split
    · exact (((NQ.setP b _ _ _ _).trans (NQ.setP b _ _ _ _)).trans (NQ.setP b _ _ _ _)).trans (NQ.Lines b _ _ _ _ _)
    · exact (((NQ.setP b _ _ _ _).trans (NQ.setP b _ _ _ _)).trans (NQ.setP b _ _ _ _)).trans (hF _ _ _ _ _)
theorem NQ.fwS {b : Bool} {L : LayT} {Fl : FlT} (hL : NL b L) (hF : NF b Fl) (i : Nat) (x y : Int32) (s : FwT) (j : Nat) : NQ b s.1.1.1 (fwS L Fl i x y s j).1.1.1 := by
  unfold Pilot.CColumnarPressLaw_law_r6471_6693c1.fwS
  split
  · exact NQ.Float hL _ _ _ _ _ _ _
  · split
    · exact NQ.Child hL hF _ _ _ _ _ _ _
    · exact NQ.rf b _
theorem NQ.Flow {b : Bool} {L : LayT} {Fl : FlT} (hL : NL b L) (hF : NF b Fl) (s : zCS × Int32) (fs : List F5) (i : Nat) (x y : Int32) : NQ b s.1 (cFlow L Fl s fs i x y).1.1 := by
  have h1 : NQ b s.1 (cFlowA L Fl s fs i x y).1.1.1 := NQ.fold (fun t : FwT => t.1.1.1) (Pilot.CColumnarPressLaw_law_r6471_6693c1.fwS L Fl i x y) (fun t q => NQ.fwS hL hF i x y t q) _ ((s, fs), y + kF s.1 i 12, 0, 0)
  exact h1.trans (NQ.SH b _ _ _)
theorem NQ.Fill {b : Bool} {L : LayT} {Fl : FlT} (hL : NL b L) (hF : NF b Fl) (s : zCS × Int32) (i : Nat) : NQ b s.1 (cFill L Fl s i).1 := by
  unfold cFill
  split
  · exact NQ.Lines b _ _ _ _ _
  · have h := NQ.Flow hL hF s [] i 0 0
    unfold cFill2
    split
    · exact h.trans (NQ.setP b _ _ _ _)
    · exact h
theorem NQ.Lay2 {b : Bool} {L : LayT} {Fl : FlT} (hL : NL b L) (hF : NF b Fl) (s : zCS × Int32) (i : Nat) : NQ b s.1 (cLay2 L Fl s i).1 := by
  unfold cLay2
  split
  · exact NQ.Row hL s i
  · split
    · exact NQ.Grid hL s i
    · exact NQ.Fill hL hF s i
theorem NQ.Lay {b : Bool} {L : LayT} {Fl : FlT} (hL : NL b L) (hF : NF b Fl) (s : zCS × Int32) (i : Nat) (w : Int32) : NQ b s.1 (cLay b L Fl s i w).1 := by
  unfold cLay
  split
  · exact NQ.setP b _ _ _ _
  · have h := (NQ.setP b s.1 i 2 w).trans (NQ.Lay2 hL hF (kSetP s.1 i 2 w, s.2 + 1) i)
    refine h.trans ?_
    unfold cLay3
    cases b with
    | true => exact NQ.setP _ _ _ _ _
    | false => exact (NQ.setP _ _ _ _ _).trans ⟨KEq.setF _ _ _, rfl, fun h => by cases h⟩
theorem NQ.LF (b : Bool) : ∀ f, NL b (cLF b f).1 ∧ NF b (cLF b f).2 := by
  intro f
  induction f with
  | zero => exact ⟨fun s _ _ => NQ.rf b _, fun s _ _ _ _ => NQ.rf b _⟩
  | succ f ih => exact ⟨fun s i w => NQ.Lay ih.1 ih.2 s i w, fun s fs i x y => NQ.Flow ih.1 ih.2 s fs i x y⟩
theorem NQ.All (b : Bool) (s : zCS × Int32) (w : Int32) : NQ b s.1 (cAll (L24 b) s w).1 := by
  have hL := (NQ.LF b 24).1
  refine (hL s 0 w).trans (NQ.fold (fun t : zCS × Int32 => t.1) (cAllS (L24 b)) (fun t i => ?_) _ _)
  unfold cAllS
  split
  · exact ((NQ.setP b _ _ _ _).trans (NQ.setP b _ _ _ _)).trans (hL _ i _)
  · exact NQ.rf b _
