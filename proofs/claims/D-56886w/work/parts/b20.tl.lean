/-! ===== the plain law: what is no text has no lines ===== -/
theorem kText_K {c c' : zCS} (h : KEq c c') (x : Nat) : kText c' x = kText c x := by unfold kText; rw [h.f x 2 (by decide)]
def TL (c c' : zCS) : Prop := KEq c c' ∧ ∀ x, kText c x = false → kLn c' x = kLn c x
theorem TL.rf (c : zCS) : TL c c := ⟨KEq.rf c, fun _ _ => rfl⟩
theorem TL.trans {a b c : zCS} (h : TL a b) (g : TL b c) : TL a c := ⟨h.1.trans g.1, fun x hx => (g.2 x ((kText_K h.1 x).trans hx)).trans (h.2 x hx)⟩
theorem TL.setP (c : zCS) (i k : Nat) (v : Int32) : TL c (kSetP c i k v) := ⟨KEq.setP c i k v, fun _ _ => rfl⟩
theorem TL.setF (c : zCS) (i : Nat) (v : Int32) : TL c (kSetF c i 25 v) := ⟨KEq.setF c i v, fun _ _ => rfl⟩
theorem TL.SH (c : zCS) (i : Nat) (v : Int32) : TL c (cSH c i v) := TL.setP c i 3 _
theorem TL.Str (c : zCS) (i : Nat) (v : Int32) : TL c (cStr c i v) := by
  unfold cStr
  split
  · exact TL.setP c i 3 _
  · exact TL.rf c
theorem TL.Put (c : zCS) (i : Nat) (x y : Int32) : TL c (cPut c i x y) := (TL.setP _ _ _ _).trans (TL.setP _ _ _ _)
theorem TL.Lines (c : zCS) (fs : List F5) (i : Nat) (x y : Int32) (h : kText c i = true) : TL c (cLines c fs i x y) := by
  refine TL.trans (b := kULn c (fun a => if a = i then (lyGo fs (kF c i 23) x y (x + kF c i 12) (kInner c i) (25 * (kWd c i).length + 25) (kWd c i) (y + kF c i 12) []).1 else kLn c a)) ⟨(NQ.uln true c _).1, fun z hz => ?_⟩ (TL.SH _ _ _)
  exact if_neg (fun e : z = i => by rw [e, h] at hz; cases hz)
theorem TL.fold {α β : Type} (g : α → zCS) (f : α → β → α) (h : ∀ s x, TL (g s) (g (f s x))) : ∀ (l : List β) (s : α), TL (g s) (g (l.foldl f s)) := by
  intro l
  induction l with
  | nil => intro s; exact TL.rf _
  | cons x l ih => intro s; exact (h s x).trans (ih (f s x))
theorem TL.Strs (c : zCS) (es : List Nat) (h : Int32) : TL c (cStrs c es h) := TL.fold (fun c => c) (fun c j => cStr c j h) (fun c j => TL.Str c j h) es c
abbrev TLL (L : LayT) : Prop := ∀ s i w, TL s.1 (L s i w).1
abbrev TLF (Fl : FlT) : Prop := ∀ s fs i x y, TL s.1 (Fl s fs i x y).1.1
theorem TL.Row {L : LayT} (hL : TLL L) (s : zCS × Int32) (i : Nat) : TL s.1 (cRow L s i).1 := by
  have h1 : TL s.1 (rowE L s i).1.1 := TL.fold (fun t : (zCS × Int32) × Int32 × Int32 => t.1.1) (rowB L i (cRowW s.1 i)) (fun t q => (hL t.1 q.2 _).trans (TL.Put _ _ _ _)) _ (s, kF s.1 i 12, 0)
  exact (h1.trans (TL.Strs _ _ _)).trans (TL.SH _ _ _)
theorem TL.Cells {L : LayT} (hL : TLL L) (s : zCS × Int32) (es : List Nat) (g : Nat → Int32) (l t : Int32) : TL s.1 (cCells L s es g l t).1.1 := by
  have h1 : TL s.1 (cellE L s es g l t).1.1 := TL.fold (fun t : (zCS × Int32) × Int32 × Int32 => t.1.1) (gcB L g t) (fun u q => (hL u.1 q.2 _).trans (TL.Put _ _ _ _)) _ (s, l, 0)
  exact h1.trans (TL.Strs _ _ _)
theorem TL.gLoop {L : LayT} (hL : TLL L) (g : Nat → Int32) (i m : Nat) : ∀ (f : Nat) (es : List Nat) (s : zCS × Int32) (y : Int32), TL s.1 (gLoop L g i m f es s y).1.1 := by
  intro f
  induction f with
  | zero => intro es s y; exact TL.rf _
  | succ f ih =>
    intro es s y
    cases es with
    | nil => exact TL.rf _
    | cons e r => exact (TL.Cells hL s _ g _ _).trans (ih _ _ _)
theorem TL.Grid {L : LayT} (hL : TLL L) (s : zCS × Int32) (i : Nat) : TL s.1 (cGrid L s i).1 := (TL.gLoop hL _ _ _ _ _ s _).trans (TL.SH _ _ _)
theorem TL.Float {L : LayT} (hL : TLL L) (s : zCS × Int32) (fs : List F5) (j i : Nat) (x y t : Int32) : TL s.1 (cFloat L s fs j i x y t).1.1 := (hL s j _).trans (TL.Put _ _ _ _)
theorem TL.Child {L : LayT} {Fl : FlT} (hL : TLL L) (hF : TLF Fl) (s : zCS × Int32) (fs : List F5) (j i : Nat) (x y t : Int32) : TL s.1 (cChild L Fl s fs j i x y t).1.1 := by
  unfold cChild cChild2
  split
  · exact ((TL.setP _ _ _ _).trans (TL.setP _ _ _ _)).trans (hL _ j _)
  · split
    · rename_i ht
      have h0 := ((TL.setP s.1 j 0 (kF s.1 i 12 + kF s.1 j 10)).trans (TL.setP _ j 1 (t - y))).trans (TL.setP _ j 2 (chW s.1 j i))
      exact h0.trans (TL.Lines _ _ _ _ _ ((kText_K h0.1 j).trans ht))
    · exact (((TL.setP _ _ _ _).trans (TL.setP _ _ _ _)).trans (TL.setP _ _ _ _)).trans (hF _ _ _ _ _)
theorem TL.fwS {L : LayT} {Fl : FlT} (hL : TLL L) (hF : TLF Fl) (i : Nat) (x y : Int32) (s : FwT) (j : Nat) : TL s.1.1.1 (fwS L Fl i x y s j).1.1.1 := by
  unfold Pilot.CColumnarPressLaw_law_r6471_6693c1.fwS
  split
  · exact TL.Float hL _ _ _ _ _ _ _
  · split
    · exact TL.Child hL hF _ _ _ _ _ _ _
    · exact TL.rf _
theorem TL.Flow {L : LayT} {Fl : FlT} (hL : TLL L) (hF : TLF Fl) (s : zCS × Int32) (fs : List F5) (i : Nat) (x y : Int32) : TL s.1 (cFlow L Fl s fs i x y).1.1 := by
  have h1 : TL s.1 (cFlowA L Fl s fs i x y).1.1.1 := TL.fold (fun t : FwT => t.1.1.1) (Pilot.CColumnarPressLaw_law_r6471_6693c1.fwS L Fl i x y) (fun t q => TL.fwS hL hF i x y t q) _ ((s, fs), y + kF s.1 i 12, 0, 0)
  exact h1.trans (TL.SH _ _ _)
theorem TL.Fill {L : LayT} {Fl : FlT} (hL : TLL L) (hF : TLF Fl) (s : zCS × Int32) (i : Nat) : TL s.1 (cFill L Fl s i).1 := by
  unfold cFill
  split
  · rename_i ht
    exact TL.Lines _ _ _ _ _ ht
  · have h := TL.Flow hL hF s [] i 0 0
    unfold cFill2
    split
    · exact h.trans (TL.setP _ _ _ _)
    · exact h
theorem TL.Lay2 {L : LayT} {Fl : FlT} (hL : TLL L) (hF : TLF Fl) (s : zCS × Int32) (i : Nat) : TL s.1 (cLay2 L Fl s i).1 := by
  unfold cLay2
  split
  · exact TL.Row hL s i
  · split
    · exact TL.Grid hL s i
    · exact TL.Fill hL hF s i
theorem TL.Lay (chk : Bool) {L : LayT} {Fl : FlT} (hL : TLL L) (hF : TLF Fl) (s : zCS × Int32) (i : Nat) (w : Int32) : TL s.1 (cLay chk L Fl s i w).1 := by
  unfold cLay
  split
  · exact TL.setP _ _ _ _
  · have h := (TL.setP s.1 i 2 w).trans (TL.Lay2 hL hF (kSetP s.1 i 2 w, s.2 + 1) i)
    refine h.trans ?_
    unfold cLay3
    cases chk with
    | true => exact TL.setP _ _ _ _
    | false => exact (TL.setP _ _ _ _).trans (TL.setF _ _ _)
theorem TL.LF (chk : Bool) : ∀ f, TLL (cLF chk f).1 ∧ TLF (cLF chk f).2 := by
  intro f
  induction f with
  | zero => exact ⟨fun s _ _ => TL.rf _, fun s _ _ _ _ => TL.rf _⟩
  | succ f ih => exact ⟨fun s i w => TL.Lay chk ih.1 ih.2 s i w, fun s fs i x y => TL.Flow ih.1 ih.2 s fs i x y⟩
theorem TL.R2 (hi : Int32) (c : zCS) (j : Nat) : TL c (mR2 hi c j) := by
  unfold mR2
  split
  · exact TL.setP _ _ _ _
  · exact TL.rf _
theorem TL.Rn {L : LM} (hL : ∀ s j w b, TL s.1 (L s j w b).1) (b : Bool) (g : Nat → Int32) (s : MT) (rs : List Nat) (fr : Nat) : TL s.1 (mRn L b g s rs fr).1.1 :=
  (TL.fold (fun p : MT × Int32 => p.1.1) (mR1 L b g) (fun p q => hL p.1 q.2 _ b) _ (s, 0)).trans (TL.fold (fun c => c) (mR2 _) (fun c j => TL.R2 _ c j) rs _)
theorem TL.Rx (i : Nat) (p : zCS × Int32) (j : Nat) : TL p.1 (mRx i p j).1 := (TL.setP _ _ _ _).trans (TL.setP _ _ _ _)
theorem TL.mRow {L : LM} (hL : ∀ s j w b, TL s.1 (L s j w b).1) (s : MT) (i : Nat) (b : Bool) : TL s.1 (mRow L s i b).1.1 :=
  (TL.Rn hL b _ s _ 0).trans (TL.fold (fun p : zCS × Int32 => p.1) (mRx i) (fun p j => TL.Rx i p j) _ _)
theorem TL.Gx (g : Nat → Int32) (fr : Nat) (y : Int32) (p : zCS × Int32) (q : Nat × Nat) : TL p.1 (mGx g fr y p q).1 := (TL.setP _ _ _ _).trans (TL.setP _ _ _ _)
theorem TL.GLoop {L : LM} (hL : ∀ s j w b, TL s.1 (L s j w b).1) (b : Bool) (g gw : Nat → Int32) (es : List Nat) (m : Nat) (pd : Int32) : ∀ (f fr : Nat) (s : MT) (y : Int32), TL s.1 (mGLoop L b g gw es m pd f fr s y).1.1 := by
  intro f
  induction f with
  | zero => intro fr s y; exact TL.rf _
  | succ f ih =>
    intro fr s y
    show TL s.1 (if fr < es.length then _ else (s, y)).1.1
    split
    · exact ((TL.Rn hL b gw s _ fr).trans (TL.fold (fun p : zCS × Int32 => p.1) (mGx g fr y) (fun p q => TL.Gx g fr y p q) _ (_, pd))).trans (ih _ _ _)
    · exact TL.rf _
theorem TL.mGrid {L : LM} (hL : ∀ s j w b, TL s.1 (L s j w b).1) (s : MT) (i : Nat) (b : Bool) : TL s.1 (mGrid L s i b).1.1 := TL.GLoop hL b _ _ _ _ _ _ _ _ _
theorem TL.Fl1 (c : zCS) (ps : List P5) (j : Nat) (a b d : Int32) : TL c (mFl1 c ps j a b d).1 := (TL.setP _ _ _ _).trans (TL.setP _ _ _ _)
theorem TL.XY (c : zCS) (j : Nat) (x y : Int32) : TL c (mXY c j x y) := (TL.setP _ _ _ _).trans (TL.setP _ _ _ _)
theorem TL.Flows {L : LM} {C : CM} (hL : ∀ s j w b, TL s.1 (L s j w b).1) (hC : ∀ s ps i x y b, TL s.1 (C s ps i x y b).1.1.1) (s : MT) (ps : List P5) (j : Nat) (x y w : Int32) (b : Bool) : TL s.1 (mFlows L C s ps j x y w b).1.1 := by
  unfold mFlows
  split
  · exact (TL.XY s.1 j x y).trans (hL (mXY s.1 j x y, s.2) j w b)
  · exact (((TL.XY s.1 j x y).trans (TL.setP _ _ _ _)).trans (hC (kSetP (mXY s.1 j x y) j 2 w, s.2) ps j x y b)).trans (TL.setP _ _ _ _)
theorem TL.Floats {L : LM} (hL : ∀ s j w b, TL s.1 (L s j w b).1) (s : MT) (ps : List P5) (j : Nat) (a l r : Int32) (b : Bool) : TL s.1 (mFloats L s ps j a l r b).1.1 := (hL s j _ b).trans (TL.Fl1 _ _ _ _ _ _)
theorem TL.BkS {L : LM} {C : CM} (hL : ∀ s j w b, TL s.1 (L s j w b).1) (hC : ∀ s ps i x y b, TL s.1 (C s ps i x y b).1.1.1) (edge inner y : Int32) (b : Bool) (s : BT) (j : Nat) : TL s.1.1.1 (mBkS L C edge inner y b s j).1.1.1 := by
  unfold mBkS
  split
  · exact TL.rf _
  · split
    · exact TL.Floats hL _ _ _ _ _ _ _
    · exact TL.Flows hL hC _ _ _ _ _ _ _
theorem TL.Block {L : LM} {C : CM} (hL : ∀ s j w b, TL s.1 (L s j w b).1) (hC : ∀ s ps i x y b, TL s.1 (C s ps i x y b).1.1.1) (s : MT) (ps : List P5) (i : Nat) (x y : Int32) (b : Bool) : TL s.1 (mBlock L C s ps i x y b).1.1.1 :=
  TL.fold (fun t : BT => t.1.1.1) (mBkS L C _ _ y b) (fun t j => TL.BkS hL hC _ _ y b t j) _ ((s, ps), kF s.1 i 12, 0, 0)
theorem TL.Con {L : LM} {C : CM} (hL : ∀ s j w b, TL s.1 (L s j w b).1) (hC : ∀ s ps i x y b, TL s.1 (C s ps i x y b).1.1.1) (s : MT) (ps : List P5) (i : Nat) (x y : Int32) (b : Bool) : TL s.1 (mCon L C s ps i x y b).1.1.1 := by
  unfold mCon
  split
  · exact TL.Block hL hC s ps i x y b
  · split
    · rename_i ht
      refine ⟨(MQe.SL s.1 i _).1, fun z hz => if_neg (fun e : z = i => ?_)⟩
      subst e
      unfold kText at hz
      rw [ht] at hz
      cases hz
    · split
      · exact TL.mRow hL s i b
      · exact TL.mGrid hL s i b
theorem TL.L1 (c : zCS) (i : Nat) (w : Int32) : TL c (mL1 c i w) := ((TL.setP _ _ _ _).trans (TL.setF _ _ _)).trans (TL.setP _ _ _ _)
theorem TL.Lays {L : LM} {C : CM} (hL : ∀ s j w b, TL s.1 (L s j w b).1) (hC : ∀ s ps i x y b, TL s.1 (C s ps i x y b).1.1.1) (s : MT) (i : Nat) (w : Int32) (b : Bool) : TL s.1 (mLays L C s i w b).1 :=
  ((TL.L1 s.1 i w).trans (TL.Con hL hC (mL1 s.1 i w, s.2 + (if mAnew s.1 i w b = true then 1 else 0)) [] i 0 0 (mAnew s.1 i w b))).trans (TL.setP _ _ _ _)
theorem TL.mLF (f : Nat) : (∀ s j w b, TL s.1 ((mLF f).1 s j w b).1) ∧ ∀ s ps i x y b, TL s.1 ((mLF f).2 s ps i x y b).1.1.1 := by
  induction f with
  | zero => exact ⟨fun s j w b => TL.rf _, fun s ps i x y b => TL.rf _⟩
  | succ f ih => exact ⟨fun s j w b => TL.Lays ih.1 ih.2 s j w b, fun s ps i x y b => TL.Con ih.1 ih.2 s ps i x y b⟩
