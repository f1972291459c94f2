/-! ===== the plain law: a layout looks at its boxes alone ===== -/
def bl (Q : Nat → Bool) (c : zCS) : zCS := (0, fun _ => 0, fun _ => 0, fun i k => if Q i = true then kF c i k else 0, fun i => if Q i = true then kPar c i else none, fun i => if Q i = true then kCh c i else [], fun i => if Q i = true then kWd c i else [], fun i k => if Q i = true then kP c i k else 0, fun i => if Q i = true then kLn c i else [], 0, 0)
theorem bl_f {Q : Nat → Bool} (c : zCS) {i : Nat} (h : Q i = true) (k : Nat) : kF (bl Q c) i k = kF c i k := if_pos h
theorem bl_par {Q : Nat → Bool} (c : zCS) {i : Nat} (h : Q i = true) : kPar (bl Q c) i = kPar c i := if_pos h
theorem bl_ch {Q : Nat → Bool} (c : zCS) {i : Nat} (h : Q i = true) : kCh (bl Q c) i = kCh c i := if_pos h
theorem bl_wd {Q : Nat → Bool} (c : zCS) {i : Nat} (h : Q i = true) : kWd (bl Q c) i = kWd c i := if_pos h
theorem bl_p {Q : Nat → Bool} (c : zCS) {i : Nat} (h : Q i = true) (k : Nat) : kP (bl Q c) i k = kP c i k := if_pos h
theorem bl_ln {Q : Nat → Bool} (c : zCS) {i : Nat} (h : Q i = true) : kLn (bl Q c) i = kLn c i := if_pos h
/-- closed under children -/
def CL (Q : Nat → Bool) (c : zCS) : Prop := ∀ i, Q i = true → ∀ j, j ∈ kCh c i → Q j = true ∧ kPar c j = some i
theorem CL.K {Q : Nat → Bool} {c c' : zCS} (h : CL Q c) (g : KEq c c') : CL Q c' := fun i hi j hj => by
  rw [g.ch i] at hj
  have := h i hi j hj
  rw [show kPar c' = kPar c from g.2.2.2.1]
  exact this
theorem fold_mem {α β : Type} {f g : α → β → α} : ∀ (l : List β) (a : α), (∀ a x, x ∈ l → f a x = g a x) → l.foldl f a = l.foldl g a := by
  intro l
  induction l with
  | nil => intro a _; rfl
  | cons x l ih => intro a h; rw [List.foldl_cons, List.foldl_cons, h a x List.mem_cons_self]; exact ih _ (fun a y hy => h a y (List.mem_cons_of_mem _ hy))
theorem fold_cm {α β : Type} (P : α → Prop) (φ : α → α) {f : α → β → α} : ∀ (l : List β) (s : α), (∀ s x, x ∈ l → P s → f (φ s) x = φ (f s x) ∧ P (f s x)) → P s → l.foldl f (φ s) = φ (l.foldl f s) ∧ P (l.foldl f s) := by
  intro l
  induction l with
  | nil => intro s _ h; exact ⟨rfl, h⟩
  | cons x l ih =>
    intro s h hs
    obtain ⟨h1, h2⟩ := h s x List.mem_cons_self hs
    rw [List.foldl_cons, List.foldl_cons, h1]
    exact ih _ (fun s y hy => h s y (List.mem_cons_of_mem _ hy)) h2
theorem bl_root {Q : Nat → Bool} (c : zCS) {i : Nat} (h : Q i = true) : kRoot (bl Q c) i = kRoot c i := by unfold kRoot; rw [bl_par c h]
theorem bl_lifted {Q : Nat → Bool} (c : zCS) {i : Nat} (h : Q i = true) : kLifted (bl Q c) i = kLifted c i := by unfold kLifted; rw [bl_root c h, bl_f c h]
theorem bl_text {Q : Nat → Bool} (c : zCS) {i : Nat} (h : Q i = true) : kText (bl Q c) i = kText c i := by unfold kText; rw [bl_f c h]
theorem bl_itms {Q : Nat → Bool} (c : zCS) {i : Nat} (h : Q i = true) : kItems (bl Q c) i = kItems c i := by unfold kItems; rw [bl_f c h]
theorem bl_told {Q : Nat → Bool} (c : zCS) {i : Nat} (h : Q i = true) : kTold (bl Q c) i = kTold c i := by unfold kTold; rw [bl_root c h, bl_f c h]
theorem bl_sides {Q : Nat → Bool} (c : zCS) {i : Nat} (h : Q i = true) : kSides (bl Q c) i = kSides c i := by unfold kSides; rw [bl_f c h, bl_f c h]
theorem bl_inner {Q : Nat → Bool} (c : zCS) {i : Nat} (h : Q i = true) : kInner (bl Q c) i = kInner c i := by unfold kInner; rw [bl_f c h, bl_p c h]
theorem bl_over {Q : Nat → Bool} (c : zCS) {i : Nat} (h : Q i = true) (k : Nat) : mOver (bl Q c) i k = mOver c i k := by unfold mOver; rw [bl_f c h]
theorem bl_item {Q : Nat → Bool} (c : zCS) {i j : Nat} (hj : Q j = true) (hi : Q i = true) (hp : kPar c j = some i) : kItem (bl Q c) j = kItem c j := by
  unfold kItem
  rw [bl_par c hj, hp]
  show (kItems (bl Q c) i && !kLifted (bl Q c) j) = (kItems c i && !kLifted c j)
  rw [bl_itms c hi, bl_lifted c hj]
theorem bl_mfl {Q : Nat → Bool} (c : zCS) {i j : Nat} (hj : Q j = true) (hi : Q i = true) (hp : kPar c j = some i) : mFloat (bl Q c) j = mFloat c j := by
  unfold mFloat
  rw [bl_root c hj, bl_lifted c hj, bl_par c hj, hp, bl_f c hj]
  show (!kRoot c j && (!kLifted c j && (decide (kF (bl Q c) i 2 = 98) && _))) = (!kRoot c j && (!kLifted c j && (decide (kF c i 2 = 98) && _)))
  rw [bl_f c hi]
theorem bl_ctx {Q : Nat → Bool} (c : zCS) {i j : Nat} (hj : Q j = true) (hi : Q i = true) (hp : kPar c j = some i) : mCtx (bl Q c) j = mCtx c j := by
  unfold mCtx
  rw [bl_root c hj, bl_lifted c hj, bl_item c hj hi hp, bl_mfl c hj hi hp, bl_f c hj]
theorem bl_items {Q : Nat → Bool} {c : zCS} (hC : CL Q c) {i : Nat} (h : Q i = true) : kItemsOf (bl Q c) i = kItemsOf c i := by
  unfold kItemsOf
  rw [bl_ch c h]
  exact List.filter_congr (fun j hj => by rw [bl_lifted c (hC i h j hj).1])
theorem items_Q {Q : Nat → Bool} {c : zCS} (hC : CL Q c) {i : Nat} (h : Q i = true) {j : Nat} (hj : j ∈ kItemsOf c i) : Q j = true := (hC i h j (List.mem_filter.mp hj).1).1
theorem bl_setP {Q : Nat → Bool} (c : zCS) {i : Nat} (k : Nat) (v : Int32) (h : Q i = true) : bl Q (kSetP c i k v) = kSetP (bl Q c) i k v := by
  have e : (fun a b => if Q a = true then kP (kSetP c i k v) a b else 0) = kP (kSetP (bl Q c) i k v) := by
    funext a b
    by_cases ha : a = i
    · subst ha
      rw [if_pos h]
      by_cases hb : b = k
      · subst hb; rw [kP_s, kP_s]
      · rw [kP_n _ _ _ hb, kP_n _ _ _ hb]; exact (if_pos h).symm
    · rw [kP_a _ _ _ _ ha, kP_a _ _ _ _ ha]
      rfl
  exact congrArg (fun X => ((0, fun _ => 0, fun _ => 0, fun i k => if Q i = true then kF c i k else 0, fun i => if Q i = true then kPar c i else none, fun i => if Q i = true then kCh c i else [], fun i => if Q i = true then kWd c i else [], X, fun i => if Q i = true then kLn c i else [], 0, 0) : zCS)) e
theorem bl_setF {Q : Nat → Bool} (c : zCS) {i : Nat} (k : Nat) (v : Int32) (h : Q i = true) : bl Q (kSetF c i k v) = kSetF (bl Q c) i k v := by
  have e : (fun a b => if Q a = true then kF (kSetF c i k v) a b else 0) = kF (kSetF (bl Q c) i k v) := by
    funext a b
    by_cases ha : a = i
    · subst ha
      rw [if_pos h]
      by_cases hb : b = k
      · subst hb; rw [kF_s, kF_s]
      · show up2 (kF c) a k v a b = up2 (kF (bl Q c)) a k v a b
        rw [up2_b _ _ _ hb, up2_b _ _ _ hb]
        exact (if_pos h).symm
    · rw [kF_a _ _ _ _ ha, kF_a _ _ _ _ ha]
      rfl
  exact congrArg (fun X => ((0, fun _ => 0, fun _ => 0, X, fun i => if Q i = true then kPar c i else none, fun i => if Q i = true then kCh c i else [], fun i => if Q i = true then kWd c i else [], fun i k => if Q i = true then kP c i k else 0, fun i => if Q i = true then kLn c i else [], 0, 0) : zCS)) e
theorem bl_SL {Q : Nat → Bool} (c : zCS) {i : Nat} (ls : List (Int32 × Int32 × Int32)) (h : Q i = true) : bl Q (mSL c i ls) = mSL (bl Q c) i ls := by
  have e : (fun a => if Q a = true then kLn (mSL c i ls) a else []) = kLn (mSL (bl Q c) i ls) := by
    funext a
    show (if Q a = true then (if a = i then ls else kLn c a) else []) = if a = i then ls else (if Q a = true then kLn c a else [])
    by_cases ha : a = i
    · subst ha; rw [if_pos h, if_pos rfl, if_pos rfl]
    · rw [if_neg ha, if_neg ha]
  exact congrArg (fun X => ((0, fun _ => 0, fun _ => 0, fun i k => if Q i = true then kF c i k else 0, fun i => if Q i = true then kPar c i else none, fun i => if Q i = true then kCh c i else [], fun i => if Q i = true then kWd c i else [], fun i k => if Q i = true then kP c i k else 0, X, 0, 0) : zCS)) e
theorem bl_colf {Q : Nat → Bool} {c : zCS} {q : Nat × Nat} {w w' : Nat → Int32} {cols : Int32} {f : Nat → Int32} (h : Q q.2 = true) (hw : w q.2 = w' q.2) : colf (bl Q c) w cols f q = colf c w' cols f q := by
  unfold colf
  rw [bl_sides c h, hw]
theorem bl_cw {Q : Nat → Bool} {c : zCS} (hC : CL Q c) : ∀ (f i : Nat) (l : Bool), Q i = true → cCW f (bl Q c) i l = cCW f c i l := by
  intro f
  induction f with
  | zero => intro i l _; rfl
  | succ f ih =>
    intro i l h
    have e1 : (kCh c i).foldl (fun w j => if kLifted (bl Q c) j = true then w else imax w (cCW f (bl Q c) j l + kSides (bl Q c) j)) 0 = (kCh c i).foldl (fun w j => if kLifted c j = true then w else imax w (cCW f c j l + kSides c j)) 0 := fold_mem _ _ (fun a j hj => by
      have hq := (hC i h j hj).1
      rw [bl_lifted c hq, bl_sides c hq, ih j l hq])
    have e2 : (kItemsOf c i).foldl (fun w j => w + (cCW f (bl Q c) j l + kSides (bl Q c) j)) 0 = (kItemsOf c i).foldl (fun w j => w + (cCW f c j l + kSides c j)) 0 := fold_mem _ _ (fun a j hj => by
      have hq := items_Q hC h hj
      rw [bl_sides c hq, ih j l hq])
    have e3 : (nums (kItemsOf c i) 0).foldl (colf (bl Q c) (fun j => cCW f (bl Q c) j l) (kF c i 15)) (fun _ => 0) = (nums (kItemsOf c i) 0).foldl (colf c (fun j => cCW f c j l) (kF c i 15)) (fun _ => 0) := fold_mem _ _ (fun a q hq => by
      have hq := items_Q hC h (nums_mem hq)
      exact bl_colf hq (ih q.2 l hq))
    unfold cCW
    rw [bl_told c h, bl_text c h, bl_f c h, bl_f c h, bl_f c h, bl_wd c h, bl_ch c h, bl_items hC h, e1, e2, e3]
theorem bl_w {Q : Nat → Bool} {c : zCS} (hC : CL Q c) {i : Nat} (h : Q i = true) (l : Bool) : cW (bl Q c) i l = cW c i l := bl_cw hC 24 i l h
theorem bl_fit {Q : Nat → Bool} {c : zCS} (hC : CL Q c) {i : Nat} (h : Q i = true) (w : Int32) : cFit (bl Q c) i w = cFit c i w := by
  unfold cFit
  rw [bl_told c h, bl_w hC h, bl_w hC h]
theorem bl_grow {Q : Nat → Bool} {c : zCS} {es : List Nat} (hq : ∀ j, j ∈ es → Q j = true) (free : Int32) (g : Nat → Int32) : cGrow (bl Q c) es free g = cGrow c es free g := by
  have e1 : gSum (bl Q c) es = gSum c es := fold_mem _ _ (fun a j hj => by rw [bl_f c (hq j hj)])
  have e2 : ∀ (s : Int32) (p : (Nat → Int32) × Int32), (nums es 0).foldl (gr1 (bl Q c) free s) p = (nums es 0).foldl (gr1 c free s) p := fun s p => fold_mem _ _ (fun a q h => by unfold gr1; rw [bl_f c (hq q.2 (nums_mem h))])
  have e3 : ∀ (p : (Nat → Int32) × Int32), (nums es 0).foldl (gr2 (bl Q c)) p = (nums es 0).foldl (gr2 c) p := fun p => fold_mem _ _ (fun a q h => by unfold gr2; rw [bl_f c (hq q.2 (nums_mem h))])
  unfold cGrow cGrow1
  rw [e1, e2, e3]
theorem bl_shrunk {Q : Nat → Bool} {c : zCS} (hC : CL Q c) {es : List Nat} (hq : ∀ j, j ∈ es → Q j = true) (inner : Int32) (g : Nat → Int32) : mShrunk (bl Q c) es inner g = mShrunk c es inner g := by
  have e0 : mBds (bl Q c) es g = mBds c es g := fold_mem _ _ (fun a q h => by unfold mBd; rw [bl_w hC (hq q.2 (nums_mem h))])
  have e1 : ∀ (b : Nat → Bool) (bd : Nat → Int32), mP1 (bl Q c) es inner b bd g = mP1 c es inner b bd g := fun b bd => fold_mem _ _ (fun a q h => by unfold mS1; rw [bl_sides c (hq q.2 (nums_mem h)), bl_f c (hq q.2 (nums_mem h))])
  have e2 : ∀ (b : Nat → Bool) (bd : Nat → Int32), mP2 (bl Q c) es inner b bd g = mP2 c es inner b bd g := fun b bd => by
    unfold mP2
    rw [e1]
    exact fold_mem _ _ (fun a q h => by unfold mS2 mLoss; rw [bl_f c (hq q.2 (nums_mem h))])
  have e3 : ∀ (b : Nat → Bool) (bd : Nat → Int32) (p : (Nat → Int32) × Int32), (nums es 0).foldl (mS3 (bl Q c) b bd g) p = (nums es 0).foldl (mS3 c b bd g) p := fun b bd p => fold_mem _ _ (fun a q h => by unfold mS3; rw [bl_f c (hq q.2 (nums_mem h))])
  have e4 : ∀ (bd : Nat → Int32) (f : Nat) (b : Nat → Bool), mShGo (bl Q c) es inner bd g f b = mShGo c es inner bd g f b := by
    intro bd f
    induction f with
    | zero => intro b; rfl
    | succ f ih => intro b; unfold mShGo; rw [e1, e2, e3, ih]
  unfold mShrunk
  rw [e0, e4]
theorem bl_rowW {Q : Nat → Bool} {c : zCS} (hC : CL Q c) {i : Nat} (h : Q i = true) : mRowW (bl Q c) i = mRowW c i := by
  have e1 : ∀ p : (Nat → Int32) × Int32, (nums (kItemsOf c i) 0).foldl (rwA (bl Q c)) p = (nums (kItemsOf c i) 0).foldl (rwA c) p := fun p => fold_mem _ _ (fun a q hq => by
    have hj := items_Q hC h (nums_mem hq)
    unfold rwA
    rw [bl_w hC hj, bl_sides c hj])
  unfold mRowW
  rw [bl_items hC h, bl_inner c h, e1, bl_grow (fun j hj => items_Q hC h hj), bl_shrunk hC (fun j hj => items_Q hC h hj)]
theorem bl_gWs {Q : Nat → Bool} {c : zCS} (hC : CL Q c) {i : Nat} (h : Q i = true) (k : Nat) : gWs (bl Q c) i k = gWs c i k := by
  have e1 : gcol (bl Q c) i = gcol c i := by
    unfold gcol
    rw [bl_items hC h, bl_f c h]
    exact fold_mem _ _ (fun a q hq => by
      have hj := items_Q hC h (nums_mem hq)
      exact bl_colf hj (bl_w hC hj true))
  unfold gWs gFree
  rw [e1, bl_inner c h]
theorem bl_mGWs {Q : Nat → Bool} {c : zCS} (hC : CL Q c) {i : Nat} (h : Q i = true) (k : Nat) : mGWs (bl Q c) i k = mGWs c i k := by
  unfold mGWs
  rw [bl_items hC h, bl_gWs hC h]
  exact fold_mem _ _ (fun a q hq => by
    have hj := items_Q hC h (nums_mem hq)
    unfold mGw
    rw [bl_f c hj, bl_f c hj, bl_sides c hj])
/-- .. and so do the layouts -/
def CML (Q : Nat → Bool) (L : LM) : Prop := ∀ (s : MT) (j : Nat) (w : Int32) (b : Bool), CL Q s.1 → Q j = true → L (bl Q s.1, s.2) j w b = (bl Q (L s j w b).1, (L s j w b).2)
def CMC (Q : Nat → Bool) (C : CM) : Prop := ∀ (s : MT) (ps : List P5) (i : Nat) (x y : Int32) (b : Bool), CL Q s.1 → Q i = true → C (bl Q s.1, s.2) ps i x y b = (((bl Q (C s ps i x y b).1.1.1, (C s ps i x y b).1.1.2), (C s ps i x y b).1.2), (C s ps i x y b).2)
abbrev NM (L : LM) : Prop := ∀ s j w b, MQe s.1 (L s j w b).1
abbrev NC (C : CM) : Prop := ∀ s ps i x y b, MQe s.1 (C s ps i x y b).1.1.1
theorem cm_Rn {Q : Nat → Bool} {L : LM} (hN : NM L) (hL : CML Q L) (b : Bool) (g : Nat → Int32) (s : MT) (rs : List Nat) (fr : Nat) (hC : CL Q s.1) (hq : ∀ j, j ∈ rs → Q j = true) : mRn L b g (bl Q s.1, s.2) rs fr = ((bl Q (mRn L b g s rs fr).1.1, (mRn L b g s rs fr).1.2), (mRn L b g s rs fr).2) := by
  obtain ⟨h1, h2⟩ := fold_cm (fun p : MT × Int32 => CL Q p.1.1) (fun p => ((bl Q p.1.1, p.1.2), p.2)) (f := mR1 L b g) (nums rs fr) (s, 0) (fun p q hq2 hp => by
    have hj := hq q.2 (nums_mem hq2)
    have e := hL p.1 q.2 (g q.1) b hp hj
    refine ⟨?_, hp.K (hN p.1 q.2 (g q.1) b).1⟩
    show (L (bl Q p.1.1, p.1.2) q.2 (g q.1) b, imax p.2 (mOver (L (bl Q p.1.1, p.1.2) q.2 (g q.1) b).1 q.2 8 + kP (L (bl Q p.1.1, p.1.2) q.2 (g q.1) b).1 q.2 3 + mOver (L (bl Q p.1.1, p.1.2) q.2 (g q.1) b).1 q.2 9)) = _
    rw [e, bl_over _ hj, bl_over _ hj, bl_p _ hj]
    rfl) hC
  have h1' : (nums rs fr).foldl (mR1 L b g) ((bl Q s.1, s.2), 0) = ((bl Q ((nums rs fr).foldl (mR1 L b g) (s, 0)).1.1, ((nums rs fr).foldl (mR1 L b g) (s, 0)).1.2), ((nums rs fr).foldl (mR1 L b g) (s, 0)).2) := h1
  unfold mRn
  rw [h1']
  obtain ⟨h3, -⟩ := fold_cm (fun _ : zCS => True) (fun c => bl Q c) (f := mR2 ((nums rs fr).foldl (mR1 L b g) (s, 0)).2) rs ((nums rs fr).foldl (mR1 L b g) (s, 0)).1.1 (fun c j hj _ => by
    have hqj := hq j hj
    refine ⟨?_, trivial⟩
    show mR2 _ (bl Q c) j = bl Q (mR2 _ c j)
    unfold mR2
    rw [bl_f c hqj, bl_p c hqj, bl_over c hqj, bl_over c hqj]
    split
    · exact (bl_setP c 3 _ hqj).symm
    · rfl) trivial
  rw [h3]
theorem cm_Row {Q : Nat → Bool} {L : LM} (hN : NM L) (hL : CML Q L) (s : MT) (i : Nat) (b : Bool) (hC : CL Q s.1) (hi : Q i = true) : mRow L (bl Q s.1, s.2) i b = ((bl Q (mRow L s i b).1.1, (mRow L s i b).1.2), (mRow L s i b).2) := by
  have hq : ∀ j, j ∈ kItemsOf s.1 i → Q j = true := fun j hj => items_Q hC hi hj
  have e1 := cm_Rn hN hL b (mRowW s.1 i) s (kItemsOf s.1 i) 0 hC hq
  obtain ⟨h3, -⟩ := fold_cm (fun _ : zCS × Int32 => True) (fun p => (bl Q p.1, p.2)) (f := mRx i) (kItemsOf s.1 i) ((mRn L b (mRowW s.1 i) s (kItemsOf s.1 i) 0).1.1, kF s.1 i 12) (fun p j hj _ => by
    have hqj := hq j hj
    refine ⟨?_, trivial⟩
    show mRx i (bl Q p.1, p.2) j = (bl Q (mRx i p j).1, (mRx i p j).2)
    unfold mRx
    show (kSetP (kSetP (bl Q p.1) j 0 (p.2 + kF (bl Q p.1) j 10)) j 1 (kF (bl Q p.1) i 12 + mOver (bl Q p.1) j 8), p.2 + (kP (bl Q p.1) j 2 + kSides (bl Q p.1) j)) = (bl Q (kSetP (kSetP p.1 j 0 (p.2 + kF p.1 j 10)) j 1 (kF p.1 i 12 + mOver p.1 j 8)), p.2 + (kP p.1 j 2 + kSides p.1 j))
    rw [bl_f _ hqj, bl_f _ hi, bl_over _ hqj, bl_p _ hqj, bl_sides _ hqj, bl_setP _ 1 _ hqj, bl_setP _ 0 _ hqj]) trivial
  unfold mRow
  show ((((kItemsOf (bl Q s.1) i).foldl (mRx i) ((mRn L b (mRowW (bl Q s.1) i) (bl Q s.1, s.2) (kItemsOf (bl Q s.1) i) 0).1.1, kF (bl Q s.1) i 12)).1, (mRn L b (mRowW (bl Q s.1) i) (bl Q s.1, s.2) (kItemsOf (bl Q s.1) i) 0).1.2), (mRn L b (mRowW (bl Q s.1) i) (bl Q s.1, s.2) (kItemsOf (bl Q s.1) i) 0).2 + 2 * kF (bl Q s.1) i 12) = _
  rw [bl_items hC hi, bl_rowW hC hi, bl_f _ hi, e1, h3]
theorem cm_GLoop {Q : Nat → Bool} {L : LM} (hN : NM L) (hL : CML Q L) (b : Bool) (g gw : Nat → Int32) (es : List Nat) (k : Nat) (pd : Int32) (hq : ∀ j, j ∈ es → Q j = true) : ∀ (f fr : Nat) (s : MT) (y : Int32), CL Q s.1 → mGLoop L b g gw es k pd f fr (bl Q s.1, s.2) y = ((bl Q (mGLoop L b g gw es k pd f fr s y).1.1, (mGLoop L b g gw es k pd f fr s y).1.2), (mGLoop L b g gw es k pd f fr s y).2) := by
  intro f
  induction f with
  | zero => intro fr s y _; rfl
  | succ f ih =>
    intro fr s y hC
    have hqr : ∀ j, j ∈ (es.drop fr).take (min es.length (fr + k) - fr) → Q j = true := fun j hj => hq j (List.mem_of_mem_drop (List.mem_of_mem_take hj))
    have e1 := cm_Rn hN hL b gw s ((es.drop fr).take (min es.length (fr + k) - fr)) fr hC hqr
    obtain ⟨h3, -⟩ := fold_cm (fun _ : zCS × Int32 => True) (fun p => (bl Q p.1, p.2)) (f := mGx g fr y) (nums ((es.drop fr).take (min es.length (fr + k) - fr)) fr) ((mRn L b gw s ((es.drop fr).take (min es.length (fr + k) - fr)) fr).1.1, pd) (fun p q hj _ => by
      have hqj := hqr q.2 (nums_mem hj)
      refine ⟨?_, trivial⟩
      show (kSetP (kSetP (bl Q p.1) q.2 0 (p.2 + kF (bl Q p.1) q.2 10)) q.2 1 (y + mOver (bl Q p.1) q.2 8), p.2 + g (q.1 - fr)) = (bl Q (kSetP (kSetP p.1 q.2 0 (p.2 + kF p.1 q.2 10)) q.2 1 (y + mOver p.1 q.2 8)), p.2 + g (q.1 - fr))
      rw [bl_f _ hqj, bl_over _ hqj, bl_setP _ 1 _ hqj, bl_setP _ 0 _ hqj]) trivial
    have hC2 : CL Q ((nums ((es.drop fr).take (min es.length (fr + k) - fr)) fr).foldl (mGx g fr y) ((mRn L b gw s ((es.drop fr).take (min es.length (fr + k) - fr)) fr).1.1, pd)).1 := (hC.K (MQe.Rn hN b gw s _ fr).1).K (MQe.fold (fun p : zCS × Int32 => p.1) (mGx g fr y) (fun p q => MQe.Gx g fr y p q) _ ((mRn L b gw s ((es.drop fr).take (min es.length (fr + k) - fr)) fr).1.1, pd)).1
    unfold mGLoop
    by_cases hl : fr < es.length
    · rw [if_pos hl, if_pos hl, e1]
      show mGLoop L b g gw es k pd f (fr + k) (((nums ((es.drop fr).take (min es.length (fr + k) - fr)) fr).foldl (mGx g fr y) (bl Q (mRn L b gw s ((es.drop fr).take (min es.length (fr + k) - fr)) fr).1.1, pd)).1, (mRn L b gw s ((es.drop fr).take (min es.length (fr + k) - fr)) fr).1.2) (y + (mRn L b gw s ((es.drop fr).take (min es.length (fr + k) - fr)) fr).2) = _
      rw [h3]
      exact ih (fr + k) (_, (mRn L b gw s ((es.drop fr).take (min es.length (fr + k) - fr)) fr).1.2) _ hC2
    · rw [if_neg hl, if_neg hl]
theorem cm_Grid {Q : Nat → Bool} {L : LM} (hN : NM L) (hL : CML Q L) (s : MT) (i : Nat) (b : Bool) (hC : CL Q s.1) (hi : Q i = true) : mGrid L (bl Q s.1, s.2) i b = ((bl Q (mGrid L s i b).1.1, (mGrid L s i b).1.2), (mGrid L s i b).2) := by
  unfold mGrid
  show ((mGLoop L b (gWs (bl Q s.1) i (kF (bl Q s.1) i 15).toNatClampNeg) (mGWs (bl Q s.1) i (kF (bl Q s.1) i 15).toNatClampNeg) (kItemsOf (bl Q s.1) i) (kF (bl Q s.1) i 15).toNatClampNeg (kF (bl Q s.1) i 12) 25 0 (bl Q s.1, s.2) (kF (bl Q s.1) i 12)).1, (mGLoop L b (gWs (bl Q s.1) i (kF (bl Q s.1) i 15).toNatClampNeg) (mGWs (bl Q s.1) i (kF (bl Q s.1) i 15).toNatClampNeg) (kItemsOf (bl Q s.1) i) (kF (bl Q s.1) i 15).toNatClampNeg (kF (bl Q s.1) i 12) 25 0 (bl Q s.1, s.2) (kF (bl Q s.1) i 12)).2 + kF (bl Q s.1) i 12) = _
  rw [bl_f _ hi, bl_f _ hi, bl_gWs hC hi, bl_mGWs hC hi, bl_items hC hi, cm_GLoop hN hL b _ _ _ _ _ (fun j hj => items_Q hC hi hj) 25 0 s _ hC]
theorem cm_Floats {Q : Nat → Bool} {L : LM} (hL : CML Q L) (s : MT) (ps : List P5) (j : Nat) (a l r : Int32) (b : Bool) (hC : CL Q s.1) (hj : Q j = true) : mFloats L (bl Q s.1, s.2) ps j a l r b = ((bl Q (mFloats L s ps j a l r b).1.1, (mFloats L s ps j a l r b).1.2), (mFloats L s ps j a l r b).2) := by
  unfold mFloats
  show (((mFl1 (L (bl Q s.1, s.2) j (cFit (bl Q s.1) j (imax 0 (r - l) - kSides (bl Q s.1) j)) b).1 ps j a l r).1, (L (bl Q s.1, s.2) j (cFit (bl Q s.1) j (imax 0 (r - l) - kSides (bl Q s.1) j)) b).2), (mFl1 (L (bl Q s.1, s.2) j (cFit (bl Q s.1) j (imax 0 (r - l) - kSides (bl Q s.1) j)) b).1 ps j a l r).2) = _
  rw [bl_sides _ hj, bl_fit hC hj, hL s j _ b hC hj]
  generalize L s j (cFit s.1 j (imax 0 (r - l) - kSides s.1 j)) b = T
  have e1 : mWide (bl Q T.1) j = mWide T.1 j := by unfold mWide; rw [bl_p _ hj, bl_sides _ hj]
  have e2 : mWhole (bl Q T.1) j = mWhole T.1 j := by unfold mWhole; rw [bl_p _ hj, bl_over _ hj, bl_over _ hj]
  have e3 : mFlA (bl Q T.1) ps j a l r = mFlA T.1 ps j a l r := by unfold mFlA; rw [e1, e2]
  have e4 : ∀ y, mFlX (bl Q T.1) ps j l r y = mFlX T.1 ps j l r y := fun y => by unfold mFlX; rw [e1, e2, bl_f _ hj]
  have e5 : ∀ x y, mFl2 (bl Q T.1) ps j x y = (bl Q (mFl2 T.1 ps j x y).1, (mFl2 T.1 ps j x y).2) := fun x y => by
    unfold mFl2
    rw [e1, e2, bl_f _ hj, bl_f _ hj, bl_over _ hj, bl_setP _ 1 _ hj, bl_setP _ 0 _ hj]
  show (((mFl1 (bl Q T.1) ps j a l r).1, T.2), (mFl1 (bl Q T.1) ps j a l r).2) = _
  unfold mFl1
  rw [e3, e4, e5]
theorem cm_Flows {Q : Nat → Bool} {L : LM} {C : CM} (hNC : NC C) (hL : CML Q L) (hCM : CMC Q C) {i : Nat} (hi : Q i = true) (s : MT) (ps : List P5) (j : Nat) (x y w : Int32) (b : Bool) (hC : CL Q s.1) (hj : Q j = true) (hp : kPar s.1 j = some i) : mFlows L C (bl Q s.1, s.2) ps j x y w b = ((bl Q (mFlows L C s ps j x y w b).1.1, (mFlows L C s ps j x y w b).1.2), (mFlows L C s ps j x y w b).2) := by
  have e0 : mXY (bl Q s.1) j x y = bl Q (mXY s.1 j x y) := by unfold mXY; rw [bl_setP _ 1 _ hj, bl_setP _ 0 _ hj]
  have hC0 : CL Q (mXY s.1 j x y) := hC.K (MQe.XY s.1 j x y).1
  unfold mFlows
  show (if mCtx (bl Q s.1) j = true then (L (mXY (bl Q s.1) j x y, s.2) j w b, ps) else ((mH (C (kSetP (mXY (bl Q s.1) j x y) j 2 w, s.2) ps j x y b).1.1.1 j (C (kSetP (mXY (bl Q s.1) j x y) j 2 w, s.2) ps j x y b).2, (C (kSetP (mXY (bl Q s.1) j x y) j 2 w, s.2) ps j x y b).1.1.2), (C (kSetP (mXY (bl Q s.1) j x y) j 2 w, s.2) ps j x y b).1.2)) = _
  rw [bl_ctx _ hj hi hp, e0]
  by_cases hc : mCtx s.1 j = true
  · rw [if_pos hc, if_pos hc, hL (mXY s.1 j x y, s.2) j w b hC0 hj]
  · rw [if_neg hc, if_neg hc, ← bl_setP _ 2 _ hj]
    have e1 := hCM (kSetP (mXY s.1 j x y) j 2 w, s.2) ps j x y b (hC0.K (KEq.setP _ _ _ _)) hj
    have e1' : C (bl Q (kSetP (mXY s.1 j x y) j 2 w), s.2) ps j x y b = (((bl Q (C (kSetP (mXY s.1 j x y) j 2 w, s.2) ps j x y b).1.1.1, (C (kSetP (mXY s.1 j x y) j 2 w, s.2) ps j x y b).1.1.2), (C (kSetP (mXY s.1 j x y) j 2 w, s.2) ps j x y b).1.2), (C (kSetP (mXY s.1 j x y) j 2 w, s.2) ps j x y b).2) := e1
    rw [e1']
    generalize C (kSetP (mXY s.1 j x y) j 2 w, s.2) ps j x y b = T
    show ((mH (bl Q T.1.1.1) j T.2, T.1.1.2), T.1.2) = ((bl Q (mH T.1.1.1 j T.2), T.1.1.2), T.1.2)
    unfold mH
    rw [bl_f _ hj, bl_setP _ 3 _ hj]
theorem cm_BkS {Q : Nat → Bool} {L : LM} {C : CM} (hNC : NC C) (hL : CML Q L) (hCM : CMC Q C) {i : Nat} (hi : Q i = true) (edge inner y : Int32) (b : Bool) (s : BT) (j : Nat) (hC : CL Q s.1.1.1) (hj : Q j = true) (hp : kPar s.1.1.1 j = some i) : mBkS L C edge inner y b (((bl Q s.1.1.1, s.1.1.2), s.1.2), s.2) j = (((bl Q (mBkS L C edge inner y b s j).1.1.1, (mBkS L C edge inner y b s j).1.1.2), (mBkS L C edge inner y b s j).1.2), (mBkS L C edge inner y b s j).2) := by
  obtain ⟨⟨⟨c, ct⟩, ps⟩, pl, mo, le⟩ := s
  have hC' : CL Q c := hC
  have hp' : kPar c j = some i := hp
  unfold mBkS
  show (if kLifted (bl Q c) j = true then (((bl Q c, ct), ps), pl, mo, le) else if mFloat (bl Q c) j = true then (mFloats L (bl Q c, ct) ps j (y + pl + mo + le) edge (edge + inner) b, pl, mo, le) else mBkI L C edge inner y b ((bl Q c, ct), ps) j pl (imax mo (kF (bl Q c) j 8)) (imin le (kF (bl Q c) j 8))) = _
  rw [bl_lifted _ hj, bl_mfl _ hj hi hp', bl_f _ hj]
  by_cases h1 : kLifted c j = true
  · rw [if_pos h1, if_pos h1]
  · rw [if_neg h1, if_neg h1]
    by_cases h2 : mFloat c j = true
    · rw [if_pos h2, if_pos h2]
      have e := cm_Floats hL (c, ct) ps j (y + pl + mo + le) edge (edge + inner) b hC' hj
      have e' : mFloats L (bl Q c, ct) ps j (y + pl + mo + le) edge (edge + inner) b = ((bl Q (mFloats L (c, ct) ps j (y + pl + mo + le) edge (edge + inner) b).1.1, (mFloats L (c, ct) ps j (y + pl + mo + le) edge (edge + inner) b).1.2), (mFloats L (c, ct) ps j (y + pl + mo + le) edge (edge + inner) b).2) := e
      rw [e']
    · rw [if_neg h2, if_neg h2]
      show mBkI L C edge inner y b ((bl Q c, ct), ps) j pl (imax mo (kF c j 8)) (imin le (kF c j 8)) = (((bl Q (mBkI L C edge inner y b ((c, ct), ps) j pl (imax mo (kF c j 8)) (imin le (kF c j 8))).1.1.1, (mBkI L C edge inner y b ((c, ct), ps) j pl (imax mo (kF c j 8)) (imin le (kF c j 8))).1.1.2), (mBkI L C edge inner y b ((c, ct), ps) j pl (imax mo (kF c j 8)) (imin le (kF c j 8))).1.2), (mBkI L C edge inner y b ((c, ct), ps) j pl (imax mo (kF c j 8)) (imin le (kF c j 8))).2)
      generalize imax mo (kF c j 8) = g
      generalize imin le (kF c j 8) = l
      have et : mTop (bl Q c) ps y j (pl + g + l) = mTop c ps y j (pl + g + l) := by unfold mTop; rw [bl_f _ hj, bl_itms _ hj]
      have ew : mBW (bl Q c) inner j = mBW c inner j := by unfold mBW; rw [bl_f _ hj, bl_f _ hj, bl_sides _ hj]
      unfold mBkI
      show mBkA (mFlows L C (bl Q c, ct) ps j (edge + kF (bl Q c) j 10) (y + mTop (bl Q c) ps y j (pl + g + l)) (mBW (bl Q c) inner j) b) j pl g l (mTop (bl Q c) ps y j (pl + g + l)) = (((bl Q (mBkA (mFlows L C (c, ct) ps j (edge + kF c j 10) (y + mTop c ps y j (pl + g + l)) (mBW c inner j) b) j pl g l (mTop c ps y j (pl + g + l))).1.1.1, (mBkA (mFlows L C (c, ct) ps j (edge + kF c j 10) (y + mTop c ps y j (pl + g + l)) (mBW c inner j) b) j pl g l (mTop c ps y j (pl + g + l))).1.1.2), (mBkA (mFlows L C (c, ct) ps j (edge + kF c j 10) (y + mTop c ps y j (pl + g + l)) (mBW c inner j) b) j pl g l (mTop c ps y j (pl + g + l))).1.2), (mBkA (mFlows L C (c, ct) ps j (edge + kF c j 10) (y + mTop c ps y j (pl + g + l)) (mBW c inner j) b) j pl g l (mTop c ps y j (pl + g + l))).2)
      rw [et, ew, bl_f _ hj]
      have e := cm_Flows hNC hL hCM hi (c, ct) ps j (edge + kF c j 10) (y + mTop c ps y j (pl + g + l)) (mBW c inner j) b hC' hj hp'
      have e' : mFlows L C (bl Q c, ct) ps j (edge + kF c j 10) (y + mTop c ps y j (pl + g + l)) (mBW c inner j) b = ((bl Q (mFlows L C (c, ct) ps j (edge + kF c j 10) (y + mTop c ps y j (pl + g + l)) (mBW c inner j) b).1.1, (mFlows L C (c, ct) ps j (edge + kF c j 10) (y + mTop c ps y j (pl + g + l)) (mBW c inner j) b).1.2), (mFlows L C (c, ct) ps j (edge + kF c j 10) (y + mTop c ps y j (pl + g + l)) (mBW c inner j) b).2) := e
      rw [e']
      generalize mFlows L C (c, ct) ps j (edge + kF c j 10) (y + mTop c ps y j (pl + g + l)) (mBW c inner j) b = T
      unfold mBkA
      show ((((bl Q T.1.1, T.1.2), T.2), (if kP (bl Q T.1.1) j 3 = 0 then pl else mTop c ps y j (pl + g + l) + kP (bl Q T.1.1) j 3), imax (if kP (bl Q T.1.1) j 3 = 0 then g else 0) (kF (bl Q T.1.1) j 9), imin (if kP (bl Q T.1.1) j 3 = 0 then l else 0) (kF (bl Q T.1.1) j 9)) : BT) = _
      rw [bl_p _ hj, bl_f _ hj]
theorem cm_Block {Q : Nat → Bool} {L : LM} {C : CM} (hN : NM L) (hNC : NC C) (hL : CML Q L) (hCM : CMC Q C) (s : MT) (ps : List P5) (i : Nat) (x y : Int32) (b : Bool) (hC : CL Q s.1) (hi : Q i = true) : mBlock L C (bl Q s.1, s.2) ps i x y b = (((bl Q (mBlock L C s ps i x y b).1.1.1, (mBlock L C s ps i x y b).1.1.2), (mBlock L C s ps i x y b).1.2), (mBlock L C s ps i x y b).2) := by
  obtain ⟨h1, -⟩ := fold_cm (fun t : BT => KEq s.1 t.1.1.1) (fun t => (((bl Q t.1.1.1, t.1.1.2), t.1.2), t.2)) (f := mBkS L C (x + kF s.1 i 12) (kInner s.1 i) y b) (kCh s.1 i) ((s, ps), kF s.1 i 12, 0, 0) (fun t j hj ht => by
    obtain ⟨a1, a2⟩ := hC i hi j hj
    exact ⟨cm_BkS hNC hL hCM hi _ _ y b t j (hC.K ht) a1 (by rw [show kPar t.1.1.1 = kPar s.1 from ht.2.2.2.1]; exact a2), ht.trans (MQe.BkS hN hNC _ _ y b t j).1⟩) (KEq.rf s.1)
  have e : mBlkA L C (bl Q s.1, s.2) ps i x y b = (((bl Q (mBlkA L C s ps i x y b).1.1.1, (mBlkA L C s ps i x y b).1.1.2), (mBlkA L C s ps i x y b).1.2), (mBlkA L C s ps i x y b).2) := by
    unfold mBlkA
    show (kCh (bl Q s.1) i).foldl (mBkS L C (x + kF (bl Q s.1) i 12) (kInner (bl Q s.1) i) y b) (((bl Q s.1, s.2), ps), kF (bl Q s.1) i 12, 0, 0) = _
    rw [bl_ch _ hi, bl_f _ hi, bl_inner _ hi]
    exact h1
  unfold mBlock
  rw [e]
  show ((((bl Q (mBlkA L C s ps i x y b).1.1.1, (mBlkA L C s ps i x y b).1.1.2), (mBlkA L C s ps i x y b).1.2), imax _ (kF (bl Q s.1) i 12) + kF (bl Q s.1) i 12) : (MT × List P5) × Int32) = _
  rw [bl_f _ hi]
theorem cm_Con {Q : Nat → Bool} {L : LM} {C : CM} (hN : NM L) (hNC : NC C) (hL : CML Q L) (hCM : CMC Q C) : CMC Q (mCon L C) := by
  intro s ps i x y b hC hi
  have eb := cm_Block hN hNC hL hCM s ps i x y b hC hi
  have er := cm_Row hN hL s i b hC hi
  have eg := cm_Grid hN hL s i b hC hi
  unfold mCon
  show (if kF (bl Q s.1) i 2 = 98 then mBlock L C (bl Q s.1, s.2) ps i x y b else if kF (bl Q s.1) i 2 = 116 then (((mSL (bl Q s.1) i (mTxt (bl Q s.1) ps i x y).1, s.2), ps), (mTxt (bl Q s.1) ps i x y).2 - y + kF (bl Q s.1) i 12) else if kF (bl Q s.1) i 2 = 102 then (((mRow L (bl Q s.1, s.2) i b).1, ps), (mRow L (bl Q s.1, s.2) i b).2) else (((mGrid L (bl Q s.1, s.2) i b).1, ps), (mGrid L (bl Q s.1, s.2) i b).2)) = _
  rw [bl_f _ hi, bl_f _ hi, eb, er, eg]
  by_cases h1 : kF s.1 i 2 = 98
  · rw [if_pos h1, if_pos h1]
  · rw [if_neg h1, if_neg h1]
    by_cases h2 : kF s.1 i 2 = 116
    · rw [if_pos h2, if_pos h2]
      have et : mTxt (bl Q s.1) ps i x y = mTxt s.1 ps i x y := by unfold mTxt; rw [bl_f _ hi, bl_f _ hi, bl_inner _ hi, bl_wd _ hi]
      rw [et, ← bl_SL _ _ hi]
    · rw [if_neg h2, if_neg h2]
      by_cases h3 : kF s.1 i 2 = 102
      · rw [if_pos h3, if_pos h3]
      · rw [if_neg h3, if_neg h3]
theorem cm_Lays {Q : Nat → Bool} {L : LM} {C : CM} (hN : NM L) (hNC : NC C) (hL : CML Q L) (hCM : CMC Q C) : CML Q (mLays L C) := by
  intro s i w b hC hi
  have e1 : mAnew (bl Q s.1) i w b = mAnew s.1 i w b := by unfold mAnew; rw [bl_p _ hi, bl_f _ hi]
  have e2 : mL1 (bl Q s.1) i w = bl Q (mL1 s.1 i w) := by unfold mL1; rw [bl_setP _ 2 _ hi, bl_setF _ 25 _ hi, bl_setP _ 4 _ hi]
  have e3 := cm_Con hN hNC hL hCM (mL1 s.1 i w, s.2 + (if mAnew s.1 i w b = true then 1 else 0)) [] i 0 0 (mAnew s.1 i w b) (hC.K (MQe.L1 s.1 i w).1) hi
  unfold mLays
  show mLay2 (mCon L C (mL1 (bl Q s.1) i w, s.2 + (if mAnew (bl Q s.1) i w b = true then 1 else 0)) [] i 0 0 (mAnew (bl Q s.1) i w b)) i = _
  rw [e1, e2]
  have e3' : mCon L C (bl Q (mL1 s.1 i w), s.2 + (if mAnew s.1 i w b = true then 1 else 0)) [] i 0 0 (mAnew s.1 i w b) = (((bl Q (mCon L C (mL1 s.1 i w, s.2 + (if mAnew s.1 i w b = true then 1 else 0)) [] i 0 0 (mAnew s.1 i w b)).1.1.1, (mCon L C (mL1 s.1 i w, s.2 + (if mAnew s.1 i w b = true then 1 else 0)) [] i 0 0 (mAnew s.1 i w b)).1.1.2), (mCon L C (mL1 s.1 i w, s.2 + (if mAnew s.1 i w b = true then 1 else 0)) [] i 0 0 (mAnew s.1 i w b)).1.2), (mCon L C (mL1 s.1 i w, s.2 + (if mAnew s.1 i w b = true then 1 else 0)) [] i 0 0 (mAnew s.1 i w b)).2) := e3
  rw [e3']
  generalize mCon L C (mL1 s.1 i w, s.2 + (if mAnew s.1 i w b = true then 1 else 0)) [] i 0 0 (mAnew s.1 i w b) = T
  unfold mLay2
  show (kSetP (bl Q T.1.1.1) i 3 (mHv (bl Q T.1.1.1) T.1.2 i T.2), T.1.1.2) = (bl Q (kSetP T.1.1.1 i 3 (mHv T.1.1.1 T.1.2 i T.2)), T.1.1.2)
  have e4 : mHv (bl Q T.1.1.1) T.1.2 i T.2 = mHv T.1.1.1 T.1.2 i T.2 := by unfold mHv; rw [bl_f _ hi, bl_f _ hi, bl_f _ hi]
  rw [e4, bl_setP _ 3 _ hi]
theorem cm_all (Q : Nat → Bool) : ∀ f, CML Q (mLF f).1 ∧ CMC Q (mLF f).2 := by
  intro f
  induction f with
  | zero => exact ⟨fun s j w b _ _ => rfl, fun s ps i x y b _ _ => rfl⟩
  | succ f ih => exact ⟨cm_Lays (MQe.mLF f).1 (MQe.mLF f).2 ih.1 ih.2, cm_Con (MQe.mLF f).1 (MQe.mLF f).2 ih.1 ih.2⟩
