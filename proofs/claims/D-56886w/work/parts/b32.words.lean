/-! ===== the plain law: no more lines than words (rows printed by tools/mk32.py out of b20) ===== -/
theorem ly_len (fs : List F5) (al x y lf inner : Int32) : ∀ (f : Nat) (ws : List Int32) (top : Int32) (acc : List (Int32 × Int32 × Int32)), (lyGo fs al x y lf inner f ws top acc).1.length ≤ acc.length + ws.length := by
  intro f
  induction f with
  | zero => intro ws top acc; exact Nat.le_add_right _ _
  | succ f ih =>
    intro ws top acc
    cases ws with
    | nil => exact Nat.le_refl _
    | cons w0 r =>
      unfold lyGo
      split
      · exact ih _ _ _
      · refine Nat.le_trans (ih _ _ _) ?_
        have hm := (lnGo_m ((cEd fs top 10 lf (lf + inner)).2.1 - (cEd fs top 10 lf (lf + inner)).1) r w0 1).1
        simp only [List.length_append, List.length_drop, List.length_cons, List.length_nil]
        omega
theorem mTx_len (ps : List P5) (al x y lf rt : Int32) : ∀ (f : Nat) (ws : List Int32) (top e : Int32) (acc : List (Int32 × Int32 × Int32)), (mTx ps al x y lf rt f ws top e acc).1.length ≤ acc.length + ws.length := by
  intro f
  induction f with
  | zero => intro ws top e acc; exact Nat.le_add_right _ _
  | succ f ih =>
    intro ws top e acc
    cases ws with
    | nil => exact Nat.le_refl _
    | cons w0 r =>
      unfold mTx
      split
      · exact ih _ _ _ _
      · refine Nat.le_trans (ih _ _ _ _) ?_
        have hm := (lnGo_m (mRight ps rt top 10 - mLeft ps lf top 10) r w0 1).1
        simp only [List.length_append, List.length_drop, List.length_cons, List.length_nil]
        omega
def TW (c c' : zCS) : Prop := KEq c c' ∧ ∀ x, (kLn c x).length ≤ (kWd c x).length → (kLn c' x).length ≤ (kWd c x).length
theorem TW.rf (c : zCS) : TW c c := ⟨KEq.rf c, fun _ h => h⟩
theorem TW.trans {a b c : zCS} (h : TW a b) (g : TW b c) : TW a c := ⟨h.1.trans g.1, fun x hx => by
  have e : kWd b = kWd a := h.1.2.2.2.2.2.1
  have := g.2 x (by rw [e]; exact h.2 x hx)
  rw [e] at this
  exact this⟩
theorem TW.setP (c : zCS) (i k : Nat) (v : Int32) : TW c (kSetP c i k v) := ⟨KEq.setP c i k v, fun _ h => h⟩
theorem TW.setF (c : zCS) (i : Nat) (v : Int32) : TW c (kSetF c i 25 v) := ⟨KEq.setF c i v, fun _ h => h⟩
theorem TW.SH (c : zCS) (i : Nat) (v : Int32) : TW c (cSH c i v) := TW.setP c i 3 _
theorem TW.Str (c : zCS) (i : Nat) (v : Int32) : TW c (cStr c i v) := by
  unfold cStr
  split
  · exact TW.setP c i 3 _
  · exact TW.rf c
theorem TW.Put (c : zCS) (i : Nat) (x y : Int32) : TW c (cPut c i x y) := (TW.setP _ _ _ _).trans (TW.setP _ _ _ _)
theorem TW.Lines (c : zCS) (fs : List F5) (i : Nat) (x y : Int32) : TW c (cLines c fs i x y) := by
  refine TW.trans (b := kULn c (fun a => if a = i then (lyGo fs (kF c i 23) x y (x + kF c i 12) (kInner c i) (25 * (kWd c i).length + 25) (kWd c i) (y + kF c i 12) []).1 else kLn c a)) ⟨(NQ.uln true c _).1, fun z hz => ?_⟩ (TW.SH _ _ _)
  show (if z = i then _ else kLn c z).length ≤ (kWd c z).length
  by_cases e : z = i
  · rw [if_pos e, e]
    have := ly_len fs (kF c i 23) x y (x + kF c i 12) (kInner c i) (25 * (kWd c i).length + 25) (kWd c i) (y + kF c i 12) []
    rw [List.length_nil, Nat.zero_add] at this
    exact this
  · rw [if_neg e]; exact hz
theorem TW.fold {α β : Type} (g : α → zCS) (f : α → β → α) (h : ∀ s x, TW (g s) (g (f s x))) : ∀ (l : List β) (s : α), TW (g s) (g (l.foldl f s)) := by
  intro l
  induction l with
  | nil => intro s; exact TW.rf _
  | cons x l ih => intro s; exact (h s x).trans (ih (f s x))
theorem TW.Strs (c : zCS) (es : List Nat) (h : Int32) : TW c (cStrs c es h) := TW.fold (fun c => c) (fun c j => cStr c j h) (fun c j => TW.Str c j h) es c
abbrev TWL (L : LayT) : Prop := ∀ s i w, TW s.1 (L s i w).1
abbrev TWF (Fl : FlT) : Prop := ∀ s fs i x y, TW s.1 (Fl s fs i x y).1.1
theorem TW.Row {L : LayT} (hL : TWL L) (s : zCS × Int32) (i : Nat) : TW s.1 (cRow L s i).1 := by
  have h1 : TW s.1 (rowE L s i).1.1 := TW.fold (fun t : (zCS × Int32) × Int32 × Int32 => t.1.1) (rowB L i (cRowW s.1 i)) (fun t q => (hL t.1 q.2 _).trans (TW.Put _ _ _ _)) _ (s, kF s.1 i 12, 0)
  exact (h1.trans (TW.Strs _ _ _)).trans (TW.SH _ _ _)
theorem TW.Cells {L : LayT} (hL : TWL L) (s : zCS × Int32) (es : List Nat) (g : Nat → Int32) (l t : Int32) : TW s.1 (cCells L s es g l t).1.1 := by
  have h1 : TW s.1 (cellE L s es g l t).1.1 := TW.fold (fun t : (zCS × Int32) × Int32 × Int32 => t.1.1) (gcB L g t) (fun u q => (hL u.1 q.2 _).trans (TW.Put _ _ _ _)) _ (s, l, 0)
  exact h1.trans (TW.Strs _ _ _)
theorem TW.gLoop {L : LayT} (hL : TWL L) (g : Nat → Int32) (i m : Nat) : ∀ (f : Nat) (es : List Nat) (s : zCS × Int32) (y : Int32), TW s.1 (gLoop L g i m f es s y).1.1 := by
  intro f
  induction f with
  | zero => intro es s y; exact TW.rf _
  | succ f ih =>
    intro es s y
    cases es with
    | nil => exact TW.rf _
    | cons e r => exact (TW.Cells hL s _ g _ _).trans (ih _ _ _)
theorem TW.Grid {L : LayT} (hL : TWL L) (s : zCS × Int32) (i : Nat) : TW s.1 (cGrid L s i).1 := (TW.gLoop hL _ _ _ _ _ s _).trans (TW.SH _ _ _)
theorem TW.Float {L : LayT} (hL : TWL L) (s : zCS × Int32) (fs : List F5) (j i : Nat) (x y t : Int32) : TW s.1 (cFloat L s fs j i x y t).1.1 := (hL s j _).trans (TW.Put _ _ _ _)
theorem TW.Child {L : LayT} {Fl : FlT} (hL : TWL L) (hF : TWF Fl) (s : zCS × Int32) (fs : List F5) (j i : Nat) (x y t : Int32) : TW s.1 (cChild L Fl s fs j i x y t).1.1 := by
  unfold cChild cChild2
  split
  · exact ((TW.setP _ _ _ _).trans (TW.setP _ _ _ _)).trans (hL _ j _)
  · split
    · exact (((TW.setP _ _ _ _).trans (TW.setP _ _ _ _)).trans (TW.setP _ _ _ _)).trans (TW.Lines _ _ _ _ _)
    · exact (((TW.setP _ _ _ _).trans (TW.setP _ _ _ _)).trans (TW.setP _ _ _ _)).trans (hF _ _ _ _ _)
theorem TW.fwS {L : LayT} {Fl : FlT} (hL : TWL L) (hF : TWF Fl) (i : Nat) (x y : Int32) (s : FwT) (j : Nat) : TW s.1.1.1 (fwS L Fl i x y s j).1.1.1 := by
  unfold Pilot.CColumnarPressLaw_law_r6471_6693c1.fwS
  split
  · exact TW.Float hL _ _ _ _ _ _ _
  · split
    · exact TW.Child hL hF _ _ _ _ _ _ _
    · exact TW.rf _
theorem TW.Flow {L : LayT} {Fl : FlT} (hL : TWL L) (hF : TWF Fl) (s : zCS × Int32) (fs : List F5) (i : Nat) (x y : Int32) : TW s.1 (cFlow L Fl s fs i x y).1.1 := by
  have h1 : TW s.1 (cFlowA L Fl s fs i x y).1.1.1 := TW.fold (fun t : FwT => t.1.1.1) (Pilot.CColumnarPressLaw_law_r6471_6693c1.fwS L Fl i x y) (fun t q => TW.fwS hL hF i x y t q) _ ((s, fs), y + kF s.1 i 12, 0, 0)
  exact h1.trans (TW.SH _ _ _)
theorem TW.Fill {L : LayT} {Fl : FlT} (hL : TWL L) (hF : TWF Fl) (s : zCS × Int32) (i : Nat) : TW s.1 (cFill L Fl s i).1 := by
  unfold cFill
  split
  · exact TW.Lines _ _ _ _ _
  · have h := TW.Flow hL hF s [] i 0 0
    unfold cFill2
    split
    · exact h.trans (TW.setP _ _ _ _)
    · exact h
theorem TW.Lay2 {L : LayT} {Fl : FlT} (hL : TWL L) (hF : TWF Fl) (s : zCS × Int32) (i : Nat) : TW s.1 (cLay2 L Fl s i).1 := by
  unfold cLay2
  split
  · exact TW.Row hL s i
  · split
    · exact TW.Grid hL s i
    · exact TW.Fill hL hF s i
theorem TW.Lay (chk : Bool) {L : LayT} {Fl : FlT} (hL : TWL L) (hF : TWF Fl) (s : zCS × Int32) (i : Nat) (w : Int32) : TW s.1 (cLay chk L Fl s i w).1 := by
  unfold cLay
  split
  · exact TW.setP _ _ _ _
  · have h := (TW.setP s.1 i 2 w).trans (TW.Lay2 hL hF (kSetP s.1 i 2 w, s.2 + 1) i)
    refine h.trans ?_
    unfold cLay3
    cases chk with
    | true => exact TW.setP _ _ _ _
    | false => exact (TW.setP _ _ _ _).trans (TW.setF _ _ _)
theorem TW.LF (chk : Bool) : ∀ f, TWL (cLF chk f).1 ∧ TWF (cLF chk f).2 := by
  intro f
  induction f with
  | zero => exact ⟨fun s _ _ => TW.rf _, fun s _ _ _ _ => TW.rf _⟩
  | succ f ih => exact ⟨fun s i w => TW.Lay chk ih.1 ih.2 s i w, fun s fs i x y => TW.Flow ih.1 ih.2 s fs i x y⟩
theorem TW.R2 (hi : Int32) (c : zCS) (j : Nat) : TW c (mR2 hi c j) := by
  unfold mR2
  split
  · exact TW.setP _ _ _ _
  · exact TW.rf _
theorem TW.Rn {L : LM} (hL : ∀ s j w b, TW s.1 (L s j w b).1) (b : Bool) (g : Nat → Int32) (s : MT) (rs : List Nat) (fr : Nat) : TW s.1 (mRn L b g s rs fr).1.1 :=
  (TW.fold (fun p : MT × Int32 => p.1.1) (mR1 L b g) (fun p q => hL p.1 q.2 _ b) _ (s, 0)).trans (TW.fold (fun c => c) (mR2 _) (fun c j => TW.R2 _ c j) rs _)
theorem TW.Rx (i : Nat) (p : zCS × Int32) (j : Nat) : TW p.1 (mRx i p j).1 := (TW.setP _ _ _ _).trans (TW.setP _ _ _ _)
theorem TW.mRow {L : LM} (hL : ∀ s j w b, TW s.1 (L s j w b).1) (s : MT) (i : Nat) (b : Bool) : TW s.1 (mRow L s i b).1.1 :=
  (TW.Rn hL b _ s _ 0).trans (TW.fold (fun p : zCS × Int32 => p.1) (mRx i) (fun p j => TW.Rx i p j) _ _)
theorem TW.Gx (g : Nat → Int32) (fr : Nat) (y : Int32) (p : zCS × Int32) (q : Nat × Nat) : TW p.1 (mGx g fr y p q).1 := (TW.setP _ _ _ _).trans (TW.setP _ _ _ _)
theorem TW.GLoop {L : LM} (hL : ∀ s j w b, TW s.1 (L s j w b).1) (b : Bool) (g gw : Nat → Int32) (es : List Nat) (m : Nat) (pd : Int32) : ∀ (f fr : Nat) (s : MT) (y : Int32), TW s.1 (mGLoop L b g gw es m pd f fr s y).1.1 := by
  intro f
  induction f with
  | zero => intro fr s y; exact TW.rf _
  | succ f ih =>
    intro fr s y
    show TW s.1 (if fr < es.length then _ else (s, y)).1.1
    split
    · exact ((TW.Rn hL b gw s _ fr).trans (TW.fold (fun p : zCS × Int32 => p.1) (mGx g fr y) (fun p q => TW.Gx g fr y p q) _ (_, pd))).trans (ih _ _ _)
    · exact TW.rf _
theorem TW.mGrid {L : LM} (hL : ∀ s j w b, TW s.1 (L s j w b).1) (s : MT) (i : Nat) (b : Bool) : TW s.1 (mGrid L s i b).1.1 := TW.GLoop hL b _ _ _ _ _ _ _ _ _
theorem TW.Fl1 (c : zCS) (ps : List P5) (j : Nat) (a b d : Int32) : TW c (mFl1 c ps j a b d).1 := (TW.setP _ _ _ _).trans (TW.setP _ _ _ _)
theorem TW.XY (c : zCS) (j : Nat) (x y : Int32) : TW c (mXY c j x y) := (TW.setP _ _ _ _).trans (TW.setP _ _ _ _)
theorem TW.Flows {L : LM} {C : CM} (hL : ∀ s j w b, TW s.1 (L s j w b).1) (hC : ∀ s ps i x y b, TW s.1 (C s ps i x y b).1.1.1) (s : MT) (ps : List P5) (j : Nat) (x y w : Int32) (b : Bool) : TW s.1 (mFlows L C s ps j x y w b).1.1 := by
  unfold mFlows
  split
  · exact (TW.XY s.1 j x y).trans (hL (mXY s.1 j x y, s.2) j w b)
  · exact (((TW.XY s.1 j x y).trans (TW.setP _ _ _ _)).trans (hC (kSetP (mXY s.1 j x y) j 2 w, s.2) ps j x y b)).trans (TW.setP _ _ _ _)
theorem TW.Floats {L : LM} (hL : ∀ s j w b, TW s.1 (L s j w b).1) (s : MT) (ps : List P5) (j : Nat) (a l r : Int32) (b : Bool) : TW s.1 (mFloats L s ps j a l r b).1.1 := (hL s j _ b).trans (TW.Fl1 _ _ _ _ _ _)
theorem TW.BkS {L : LM} {C : CM} (hL : ∀ s j w b, TW s.1 (L s j w b).1) (hC : ∀ s ps i x y b, TW s.1 (C s ps i x y b).1.1.1) (edge inner y : Int32) (b : Bool) (s : BT) (j : Nat) : TW s.1.1.1 (mBkS L C edge inner y b s j).1.1.1 := by
  unfold mBkS
  split
  · exact TW.rf _
  · split
    · exact TW.Floats hL _ _ _ _ _ _ _
    · exact TW.Flows hL hC _ _ _ _ _ _ _
theorem TW.Block {L : LM} {C : CM} (hL : ∀ s j w b, TW s.1 (L s j w b).1) (hC : ∀ s ps i x y b, TW s.1 (C s ps i x y b).1.1.1) (s : MT) (ps : List P5) (i : Nat) (x y : Int32) (b : Bool) : TW s.1 (mBlock L C s ps i x y b).1.1.1 :=
  TW.fold (fun t : BT => t.1.1.1) (mBkS L C _ _ y b) (fun t j => TW.BkS hL hC _ _ y b t j) _ ((s, ps), kF s.1 i 12, 0, 0)
theorem TW.Con {L : LM} {C : CM} (hL : ∀ s j w b, TW s.1 (L s j w b).1) (hC : ∀ s ps i x y b, TW s.1 (C s ps i x y b).1.1.1) (s : MT) (ps : List P5) (i : Nat) (x y : Int32) (b : Bool) : TW s.1 (mCon L C s ps i x y b).1.1.1 := by
  unfold mCon
  split
  · exact TW.Block hL hC s ps i x y b
  · split
    · refine ⟨(MQe.SL s.1 i _).1, fun z hz => ?_⟩
      show (if z = i then (mTxt s.1 ps i x y).1 else kLn s.1 z).length ≤ (kWd s.1 z).length
      by_cases e : z = i
      · rw [if_pos e, e]
        have := mTx_len ps (kF s.1 i 23) x y (x + kF s.1 i 12) (x + kF s.1 i 12 + kInner s.1 i) (25 * (kWd s.1 i).length + 25) (kWd s.1 i) (y + kF s.1 i 12) (y + kF s.1 i 12) []
        rw [List.length_nil, Nat.zero_add] at this
        exact this
      · rw [if_neg e]; exact hz
    · split
      · exact TW.mRow hL s i b
      · exact TW.mGrid hL s i b
theorem TW.L1 (c : zCS) (i : Nat) (w : Int32) : TW c (mL1 c i w) := ((TW.setP _ _ _ _).trans (TW.setF _ _ _)).trans (TW.setP _ _ _ _)
theorem TW.Lays {L : LM} {C : CM} (hL : ∀ s j w b, TW s.1 (L s j w b).1) (hC : ∀ s ps i x y b, TW s.1 (C s ps i x y b).1.1.1) (s : MT) (i : Nat) (w : Int32) (b : Bool) : TW s.1 (mLays L C s i w b).1 :=
  ((TW.L1 s.1 i w).trans (TW.Con hL hC (mL1 s.1 i w, s.2 + (if mAnew s.1 i w b = true then 1 else 0)) [] i 0 0 (mAnew s.1 i w b))).trans (TW.setP _ _ _ _)
theorem TW.mLF (f : Nat) : (∀ s j w b, TW s.1 ((mLF f).1 s j w b).1) ∧ ∀ s ps i x y b, TW s.1 ((mLF f).2 s ps i x y b).1.1.1 := by
  induction f with
  | zero => exact ⟨fun s j w b => TW.rf _, fun s ps i x y b => TW.rf _⟩
  | succ f ih => exact ⟨fun s j w b => TW.Lays ih.1 ih.2 s j w b, fun s ps i x y b => TW.Con ih.1 ih.2 s ps i x y b⟩
theorem TW.All (b : Bool) (s : zCS × Int32) (w : Int32) : TW s.1 (cAll (L24 b) s w).1 := by
  have hL := (TW.LF b 24).1
  refine (hL s 0 w).trans (TW.fold (fun t : zCS × Int32 => t.1) (cAllS (L24 b)) (fun t i => ?_) _ _)
  unfold cAllS
  split
  · exact ((TW.setP _ _ _ _).trans (TW.setP _ _ _ _)).trans (hL _ i _)
  · exact TW.rf _
theorem TW.mAll (s : MT) (w : Int32) : TW s.1 (mAllL M24 s w).1 := by
  have hL := (TW.mLF 24).1
  refine (hL s 0 w true).trans (TW.fold (fun t : MT => t.1) (mAllS M24) (fun t i => ?_) _ _)
  unfold mAllS
  split
  · exact hL _ i _ _
  · exact TW.rf _
