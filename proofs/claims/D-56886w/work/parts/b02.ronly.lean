/-! ===== the plain law: what the reference's layout changes (marks, widths, what isn't counted) ===== -/
theorem sm.F (c : zCS) {i x : Nat} (v : Int32) (h : x ≠ i) : sm c (kSetF c i 25 v) x := ⟨fun _ => rfl, kF_a c 25 25 v h, rfl⟩
def MKx (S m T : zCS) (x : Nat) : Prop := (mCtx S x = true → kF T x 25 = 0 ∧ kP T x 4 = kP T x 2) ∧ (mCtx S x = false → kF T x 25 = kF m x 25 ∧ kP T x 4 = kP m x 4)
def MK (S m T : zCS) (j : Nat) : Prop := ∀ x, Dm S j x → MKx S m T x
theorem MKx.st {S m m' T T' : zCS} {x : Nat} (h : MKx S m T x) (h1 : sm m' m x) (h2 : sl T T' x) : MKx S m' T' x :=
  ⟨fun hx => ⟨h2.2.1.trans (h.1 hx).1, (h2.1.2.trans (h.1 hx).2).trans h2.1.1.symm⟩, fun hx => ⟨(h2.2.1.trans (h.2 hx).1).trans h1.2.1, (h2.1.2.trans (h.2 hx).2).trans (h1.1 4)⟩⟩
def RLc (S : zCS) (s t : MT) (j : Nat) (w : Int32) (b : Bool) : Prop := MQe s.1 t.1 ∧ Fr (Dm S j) s.1 t.1 ∧ kP t.1 j 2 = w ∧ (kP t.1 j 0 = kP s.1 j 0 ∧ kP t.1 j 1 = kP s.1 j 1) ∧ MK S s.1 t.1 j ∧ (b = false → t.2 = s.2)
def RCc (S : zCS) (s t : MT) (i : Nat) (b : Bool) : Prop := MQe s.1 t.1 ∧ Fr (Dm S i) s.1 t.1 ∧ ((∀ k, kP t.1 i k = kP s.1 i k) ∧ kF t.1 i 25 = kF s.1 i 25) ∧ (∀ x, Dm S i x → x ≠ i → MKx S s.1 t.1 x) ∧ (b = false → t.2 = s.2)
def RLP (S : zCS) (f : Nat) (L : LM) : Prop := ∀ s j w b, SS S s.1 → j < kN S → kN S ≤ f + j → mCtx S j = true → RLc S s (L s j w b) j w b
def RCP (S : zCS) (f : Nat) (C : CM) : Prop := ∀ s ps i x y b, SS S s.1 → i < kN S → kN S ≤ f + i → RCc S s (C s ps i x y b).1.1 i b
/-- what is laid below children of i: untouched elsewhere -/
theorem RK.fold {α β : Type} {S : zCS} {i : Nat} {b : Bool} (hW : WS S) (hi : i < kN S) (g : α → MT) (f : α → β → α) (bx : β → Nat) : ∀ (l : List β) (s : α), SS S (g s).1 → (l.map bx).Nodup → (∀ q, q ∈ l → kPar S (bx q) = some i) →
    (∀ s q, q ∈ l → SS S (g s).1 → (kLifted S (bx q) = true → g (f s q) = g s) ∧ (kLifted S (bx q) = false → MQe (g s).1 (g (f s q)).1 ∧ Fr (Dm S (bx q)) (g s).1 (g (f s q)).1 ∧ MK S (g s).1 (g (f s q)).1 (bx q) ∧ (b = false → (g (f s q)).2 = (g s).2))) →
    MQe (g s).1 (g (l.foldl f s)).1 ∧ Fr (fun x => ∃ q, q ∈ l ∧ kLifted S (bx q) = false ∧ Dm S (bx q) x) (g s).1 (g (l.foldl f s)).1 ∧ (∀ q, q ∈ l → kLifted S (bx q) = false → MK S (g s).1 (g (l.foldl f s)).1 (bx q)) ∧ (b = false → (g (l.foldl f s)).2 = (g s).2) := by
  intro l
  induction l with
  | nil => intro s _ _ _ _; exact ⟨MQe.rf _, Fr.rf _ _, fun q h => absurd h List.not_mem_nil, fun _ => rfl⟩
  | cons a l ih =>
    intro s hs hn hp hst
    obtain ⟨hna, hnl⟩ := List.nodup_cons.mp hn
    have ha := hst s a List.mem_cons_self hs
    cases hla : kLifted S (bx a) with
    | true =>
      have e := ha.1 hla
      obtain ⟨i1, i2, i3, i4⟩ := ih (f s a) (by rw [e]; exact hs) hnl (fun q hq => hp q (List.mem_cons_of_mem _ hq)) (fun s q hq => hst s q (List.mem_cons_of_mem _ hq))
      rw [e] at i1 i2 i3 i4
      refine ⟨i1, i2.mono (fun x ⟨q, h1, h2⟩ => ⟨q, List.mem_cons_of_mem _ h1, h2⟩), fun q hq hl => ?_, i4⟩
      rcases List.mem_cons.mp hq with e1 | hq
      · rw [e1, hla] at hl; cases hl
      · exact i3 q hq hl
    | false =>
      obtain ⟨a1, a2, a3, a4⟩ := ha.2 hla
      obtain ⟨i1, i2, i3, i4⟩ := ih (f s a) (hs.K a1.1) hnl (fun q hq => hp q (List.mem_cons_of_mem _ hq)) (fun s q hq => hst s q (List.mem_cons_of_mem _ hq))
      have hdis : ∀ q, q ∈ l → ∀ x, x < kN S → Dm S (bx q) x → ¬ Dm S (bx a) x := fun q hq x hx h1 h2 => by
        have := Dm.same hW.1 hx h1 h2 (hp q (List.mem_cons_of_mem _ hq)) (hp a List.mem_cons_self)
        exact hna (this ▸ List.mem_map_of_mem hq)
      refine ⟨a1.trans i1, (a2.mono (fun x h => ⟨a, List.mem_cons_self, hla, h⟩)).trans (i2.mono (fun x ⟨q, h1, h2⟩ => ⟨q, List.mem_cons_of_mem _ h1, h2⟩)), fun q hq hl => ?_, fun hb => (i4 hb).trans (a4 hb)⟩
      rcases List.mem_cons.mp hq with e1 | hq
      · subst e1
        intro x hx
        have hxN := Dm.lt hW (hW.2.1 _ _ (hp q List.mem_cons_self)).1 hx
        exact (a3 x hx).st (sm.rf _ _) (i2 x (fun ⟨q2, h1, _, h3⟩ => hdis q2 h1 x hxN h3 hx)).sl
      · intro x hx
        have hxN := Dm.lt hW (hW.2.1 _ _ (hp q (List.mem_cons_of_mem _ hq))).1 hx
        exact (i3 q hq hl x hx).st (a2 x (hdis q hq x hxN hx)) (sl.rf _ _)
/-- only places and heights have changed, of boxes of F -/
def Lt (F : Nat → Prop) (c c' : zCS) : Prop := MQe c c' ∧ Fr F c c' ∧ ∀ x, sl c c' x
theorem Lt.rf (F : Nat → Prop) (c : zCS) : Lt F c c := ⟨MQe.rf c, Fr.rf F c, fun x => sl.rf c x⟩
theorem Lt.trans {F : Nat → Prop} {a b c : zCS} (h : Lt F a b) (g : Lt F b c) : Lt F a c := ⟨h.1.trans g.1, h.2.1.trans g.2.1, fun x => (h.2.2 x).trans (g.2.2 x)⟩
theorem Lt.P {F : Nat → Prop} (c : zCS) {i : Nat} (k : Nat) (v : Int32) (h : F i) (h2 : k ≠ 2) (h4 : k ≠ 4) : Lt F c (kSetP c i k v) := ⟨MQe.setP c i k v, Fr.P c k v h, fun x => sl.P c i x k v h2 h4⟩
theorem Lt.mono {F F2 : Nat → Prop} {a b : zCS} (h : Lt F a b) (hs : ∀ x, F x → F2 x) : Lt F2 a b := ⟨h.1, h.2.1.mono hs, h.2.2⟩
theorem Lt.fold {α β : Type} {F : Nat → Prop} (g : α → zCS) (f : α → β → α) : ∀ (l : List β) (s : α), (∀ s x, x ∈ l → Lt F (g s) (g (f s x))) → Lt F (g s) (g (l.foldl f s)) := by
  intro l
  induction l with
  | nil => intro s _; exact Lt.rf F _
  | cons x l ih => intro s h; exact (h s x List.mem_cons_self).trans (ih (f s x) (fun s y hy => h s y (List.mem_cons_of_mem _ hy)))
theorem nums_map (es : List Nat) : ∀ k, (nums es k).map (fun q => q.2) = es := by
  induction es with
  | nil => intro k; rfl
  | cons a r ih => intro k; show a :: (nums r (k + 1)).map _ = _; rw [ih]
theorem nums_mem {es : List Nat} : ∀ {k : Nat} {q : Nat × Nat}, q ∈ nums es k → q.2 ∈ es := fun {k} {q} h => by
  have := List.mem_map_of_mem (f := fun q : Nat × Nat => q.2) h
  rw [nums_map] at this
  exact this
theorem Lt.R2 (F : Nat → Prop) (hi : Int32) (c : zCS) (j : Nat) (h : F j) : Lt F c (mR2 hi c j) := by
  unfold mR2
  split
  · exact Lt.P c 3 _ h (by decide) (by decide)
  · exact Lt.rf F c
/-- children of a row or grid are contexts -/
theorem ctx_item {S : zCS} {i j : Nat} (hp : kPar S j = some i) (hl : kLifted S j = false) (hk : kItems S i = true) : mCtx S j = true := by
  have : kItem S j = true := by
    unfold kItem
    rw [hp]
    show (kItems S i && !kLifted S j) = true
    rw [hk, hl]; rfl
  unfold mCtx
  rw [this]; simp
theorem items_mem {S : zCS} (hW : WS S) {i j : Nat} (hi : i < kN S) (h : j ∈ kItemsOf S i) : kPar S j = some i ∧ kLifted S j = false ∧ i < j ∧ j < kN S := by
  obtain ⟨h1, h2⟩ := List.mem_filter.mp h
  obtain ⟨a, b, d⟩ := hW.1.ch hi h1
  refine ⟨d, ?_, a, b⟩
  cases hl : kLifted S j with
  | false => rfl
  | true => rw [hl] at h2; cases h2
theorem mem_items {S : zCS} (hW : WS S) {i j : Nat} (hp : kPar S j = some i) (hl : kLifted S j = false) : j ∈ kItemsOf S i :=
  List.mem_filter.mpr ⟨(hW.2.1 j i hp).2.1, by rw [hl]; rfl⟩
theorem items_nd {S : zCS} (hW : WS S) {i : Nat} (hi : i < kN S) : (kItemsOf S i).Nodup := (hW.1.nd hi).sublist List.filter_sublist
theorem RK.Rn {S : zCS} {i f : Nat} {L : LM} (hW : WS S) (hi : i < kN S) (hk : kItems S i = true) (hL : RLP S f L) (hf : kN S ≤ f + 1 + i) (b : Bool) (g : Nat → Int32) (s : MT) (rs : List Nat) (fr : Nat) (hs : SS S s.1) (hn : rs.Nodup) (hm : ∀ j, j ∈ rs → j ∈ kItemsOf S i) :
    MQe s.1 (mRn L b g s rs fr).1.1 ∧ Fr (fun x => ∃ j, j ∈ rs ∧ Dm S j x) s.1 (mRn L b g s rs fr).1.1 ∧ (∀ j, j ∈ rs → MK S s.1 (mRn L b g s rs fr).1.1 j) ∧ (b = false → (mRn L b g s rs fr).1.2 = s.2) := by
  have h1 := RK.fold (b := b) hW hi (fun p : MT × Int32 => p.1) (mR1 L b g) (fun q : Nat × Nat => q.2) (nums rs fr) (s, 0) hs (by rw [nums_map]; exact hn) (fun q hq => (items_mem hW hi (hm _ (nums_mem hq))).1) (fun t q hq ht => by
    obtain ⟨a1, a2, a3, a4⟩ := items_mem hW hi (hm _ (nums_mem hq))
    refine ⟨fun h => absurd h (by rw [a2]; decide), fun _ => ?_⟩
    obtain ⟨r1, r2, -, -, r5, r6⟩ := hL t.1 q.2 (g q.1) b ht a4 (by omega) (ctx_item a1 a2 hk)
    exact ⟨r1, r2, r5, r6⟩)
  obtain ⟨b1, b2, b3, b4⟩ := h1
  have h2 : Lt (fun x => ∃ j, j ∈ rs ∧ Dm S j x) ((nums rs fr).foldl (mR1 L b g) (s, 0)).1.1 (mRn L b g s rs fr).1.1 := Lt.fold (fun c : zCS => c) (mR2 ((nums rs fr).foldl (mR1 L b g) (s, 0)).2) rs _ (fun c j hj => Lt.R2 _ _ c j ⟨j, hj, Dm.rf S j⟩)
  refine ⟨b1.trans h2.1, (b2.mono (fun x ⟨q, q1, _, q3⟩ => ⟨q.2, nums_mem q1, q3⟩)).trans h2.2.1, fun j hj x hx => ?_, b4⟩
  obtain ⟨q, hq, e⟩ : ∃ q, q ∈ nums rs fr ∧ q.2 = j := by
    rw [← nums_map rs fr] at hj
    obtain ⟨q, h1, h2⟩ := List.mem_map.mp hj
    exact ⟨q, h1, h2⟩
  subst e
  exact (b3 q hq (items_mem hW hi (hm _ (nums_mem hq))).2.1 x hx).st (sm.rf _ _) (h2.2.2 x)
theorem RK.done {S : zCS} (hW : WS S) {s t : MT} {i : Nat} {b : Bool} (hi : i < kN S) (h1 : MQe s.1 t.1) (h2 : Fr (fun x => ∃ j, j ∈ kItemsOf S i ∧ Dm S j x) s.1 t.1) (h3 : ∀ j, j ∈ kItemsOf S i → MK S s.1 t.1 j) (h4 : b = false → t.2 = s.2) : RCc S s t i b := by
  have hni : ¬ ∃ j, j ∈ kItemsOf S i ∧ Dm S j i := fun ⟨j, hj, hd⟩ => by
    obtain ⟨a1, a2, a3, a4⟩ := items_mem hW hi hj
    have := Dm.le hW.1 hi hd
    omega
  refine ⟨h1, h2.mono (fun x ⟨j, hj, hd⟩ => ?_), ⟨(h2 i hni).1, (h2 i hni).2.1⟩, fun x hx hne => ?_, h4⟩
  · obtain ⟨a1, a2, -, -⟩ := items_mem hW hi hj
    exact Dm.down a2 a1 hd
  · obtain ⟨j, p1, p2, p3⟩ := hx.child hne
    exact h3 j (mem_items hW p1 p2) x p3
theorem RK.Row {S : zCS} {i f : Nat} {L : LM} (hW : WS S) (hi : i < kN S) (hk : kItems S i = true) (hL : RLP S f L) (hf : kN S ≤ f + 1 + i) (b : Bool) (s : MT) (hs : SS S s.1) : RCc S s (mRow L s i b).1 i b := by
  have e : kItemsOf s.1 i = kItemsOf S i := congrFun hs.items i
  unfold mRow
  rw [e]
  obtain ⟨b1, b2, b3, b4⟩ := RK.Rn hW hi hk hL hf b (mRowW s.1 i) s (kItemsOf S i) 0 hs (items_nd hW hi) (fun j hj => hj)
  have h2 : Lt (fun x => ∃ j, j ∈ kItemsOf S i ∧ Dm S j x) (mRn L b (mRowW s.1 i) s (kItemsOf S i) 0).1.1 ((kItemsOf S i).foldl (mRx i) ((mRn L b (mRowW s.1 i) s (kItemsOf S i) 0).1.1, kF s.1 i 12)).1 := Lt.fold (fun p : zCS × Int32 => p.1) (mRx i) _ _ (fun p j hj => (Lt.P _ 0 _ ⟨j, hj, Dm.rf S j⟩ (by decide) (by decide)).trans (Lt.P _ 1 _ ⟨j, hj, Dm.rf S j⟩ (by decide) (by decide)))
  exact RK.done hW hi (b1.trans h2.1) (b2.trans h2.2.1) (fun j hj x hx => (b3 j hj x hx).st (sm.rf _ _) (h2.2.2 x)) b4
theorem take_drop_app {es : List Nat} {fr m : Nat} (h : fr < es.length) : es.drop fr = (es.drop fr).take (min es.length (fr + m) - fr) ++ es.drop (fr + m) := by
  have e : (es.drop fr).take (min es.length (fr + m) - fr) = (es.drop fr).take m := by
    rcases Nat.le_total es.length (fr + m) with h1 | h1
    · rw [Nat.min_eq_left h1, List.take_of_length_le (by rw [List.length_drop]; omega), List.take_of_length_le (by rw [List.length_drop]; omega)]
    · rw [Nat.min_eq_right h1, Nat.add_sub_cancel_left]
  rw [e, ← List.drop_drop, List.take_append_drop]
theorem RK.GLoop {S : zCS} {i f m : Nat} {L : LM} (hW : WS S) (hi : i < kN S) (hk : kItems S i = true) (hL : RLP S f L) (hf : kN S ≤ f + 1 + i) (hm : 1 ≤ m) (b : Bool) (g gw : Nat → Int32) (pd : Int32) (es : List Nat) (hn : es.Nodup) (hes : ∀ j, j ∈ es → j ∈ kItemsOf S i) : ∀ (fu fr : Nat) (s : MT) (y : Int32), SS S s.1 → es.length ≤ fr + fu →
    MQe s.1 (mGLoop L b g gw es m pd fu fr s y).1.1 ∧ Fr (fun x => ∃ j, j ∈ es.drop fr ∧ Dm S j x) s.1 (mGLoop L b g gw es m pd fu fr s y).1.1 ∧ (∀ j, j ∈ es.drop fr → MK S s.1 (mGLoop L b g gw es m pd fu fr s y).1.1 j) ∧ (b = false → (mGLoop L b g gw es m pd fu fr s y).1.2 = s.2) := by
  intro fu
  induction fu with
  | zero =>
    intro fr s y hs hle
    have e : es.drop fr = [] := List.drop_eq_nil_of_le hle
    refine ⟨MQe.rf _, Fr.rf _ _, fun j hj => ?_, fun _ => rfl⟩
    rw [e] at hj
    exact absurd hj List.not_mem_nil
  | succ fu ih =>
    intro fr s y hs hle
    by_cases hlt : fr < es.length
    · have e := take_drop_app (m := m) hlt
      have hnd : (es.drop fr).Nodup := hn.sublist (List.drop_sublist _ _)
      unfold mGLoop
      rw [if_pos hlt]
      generalize (es.drop fr).take (min es.length (fr + m) - fr) = rs at e ⊢
      rw [e] at hnd
      obtain ⟨n1, n2, n3⟩ := List.nodup_append.mp hnd
      have hsub : ∀ j, j ∈ rs → j ∈ es := fun j hj => List.mem_of_mem_drop (i := fr) (by rw [e]; exact List.mem_append_left _ hj)
      have hsub2 : ∀ j, j ∈ es.drop (fr + m) → j ∈ es := fun j hj => List.mem_of_mem_drop hj
      obtain ⟨b1, b2, b3, b4⟩ := RK.Rn hW hi hk hL hf b gw s rs fr hs n1 (fun j hj => hes j (hsub j hj))
      have h2 : Lt (fun x => ∃ j, j ∈ rs ∧ Dm S j x) (mRn L b gw s rs fr).1.1 ((nums rs fr).foldl (mGx g fr y) ((mRn L b gw s rs fr).1.1, pd)).1 := Lt.fold (fun p : zCS × Int32 => p.1) (mGx g fr y) _ _ (fun p q hq => (Lt.P _ 0 _ ⟨q.2, nums_mem hq, Dm.rf S _⟩ (by decide) (by decide)).trans (Lt.P _ 1 _ ⟨q.2, nums_mem hq, Dm.rf S _⟩ (by decide) (by decide)))
      obtain ⟨i1, i2, i3, i4⟩ := ih (fr + m) (((nums rs fr).foldl (mGx g fr y) ((mRn L b gw s rs fr).1.1, pd)).1, (mRn L b gw s rs fr).1.2) (y + (mRn L b gw s rs fr).2) (hs.K (b1.trans h2.1).1) (by omega)
      have hdis : ∀ a, a ∈ rs → ∀ q, q ∈ es.drop (fr + m) → ∀ x, x < kN S → Dm S q x → ¬ Dm S a x := fun a ha q hq x hx h1 h2 => by
        have := Dm.same hW.1 hx h2 h1 (items_mem hW hi (hes a (hsub a ha))).1 (items_mem hW hi (hes q (hsub2 q hq))).1
        exact n3 a ha q hq this
      have hf1 : Fr (fun x => ∃ j, j ∈ rs ∧ Dm S j x) s.1 ((nums rs fr).foldl (mGx g fr y) ((mRn L b gw s rs fr).1.1, pd)).1 := b2.trans h2.2.1
      refine ⟨(b1.trans h2.1).trans i1, (hf1.mono (fun x ⟨j, j1, j2⟩ => ⟨j, by rw [e]; exact List.mem_append_left _ j1, j2⟩)).trans (i2.mono (fun x ⟨j, j1, j2⟩ => ⟨j, by rw [e]; exact List.mem_append_right _ j1, j2⟩)), fun j hj x hx => ?_, fun hb => (i4 hb).trans (b4 hb)⟩
      rw [e] at hj
      rcases List.mem_append.mp hj with hj | hj
      · have hxN := Dm.lt hW (items_mem hW hi (hes j (hsub j hj))).2.2.2 hx
        exact ((b3 j hj x hx).st (sm.rf _ _) (h2.2.2 x)).st (sm.rf _ _) (i2 x (fun ⟨q, q1, q2⟩ => hdis j hj q q1 x hxN q2 hx)).sl
      · have hxN := Dm.lt hW (items_mem hW hi (hes j (hsub2 j hj))).2.2.2 hx
        exact (i3 j hj x hx).st (hf1 x (fun ⟨q, q1, q2⟩ => hdis q q1 j hj x hxN hx q2)) (sl.rf _ _)
    · have e : es.drop fr = [] := List.drop_eq_nil_of_le (Nat.le_of_not_lt hlt)
      unfold mGLoop
      rw [if_neg hlt]
      refine ⟨MQe.rf _, Fr.rf _ _, fun j hj => ?_, fun _ => rfl⟩
      rw [e] at hj
      exact absurd hj List.not_mem_nil
theorem cols_of {S : zCS} (hW : WS S) {i : Nat} (hi : i < kN S) : 1 ≤ (kF S i 15).toNatClampNeg ∧ (kF S i 15).toNatClampNeg ≤ 4 ∧ kF S i 15 = nI (kF S i 15).toNatClampNeg := by
  obtain ⟨n, h1, h2, h3⟩ : ∃ n, 1 ≤ n ∧ n ≤ 4 ∧ kF S i 15 = nI n := (hW.1.2 i hi).2.2.2.2 15
  rw [h3, nI_clamp (by omega)]
  exact ⟨h1, h2, rfl⟩
theorem items_len {S : zCS} (hW : WS S) {i : Nat} (hi : i < kN S) : (kItemsOf S i).length ≤ 24 := Nat.le_trans (List.length_filter_le _ _) (hW.1.2 i hi).2.2.1.1
theorem RK.Grid {S : zCS} {i f : Nat} {L : LM} (hW : WS S) (hi : i < kN S) (hk : kItems S i = true) (hL : RLP S f L) (hf : kN S ≤ f + 1 + i) (b : Bool) (s : MT) (hs : SS S s.1) : RCc S s (mGrid L s i b).1 i b := by
  have e : kItemsOf s.1 i = kItemsOf S i := congrFun hs.items i
  unfold mGrid
  rw [e, hs.f i 15 rfl]
  have hc := cols_of hW hi
  obtain ⟨b1, b2, b3, b4⟩ := RK.GLoop hW hi hk hL hf hc.1 b (gWs s.1 i (kF S i 15).toNatClampNeg) (mGWs s.1 i (kF S i 15).toNatClampNeg) (kF s.1 i 12) (kItemsOf S i) (items_nd hW hi) (fun j hj => hj) 25 0 s (kF s.1 i 12) hs (by have := items_len hW hi; omega)
  rw [List.drop_zero] at b2 b3
  exact RK.done hW hi b1 b2 b3 b4
theorem mfl_ctx {S : zCS} {j : Nat} (h : mFloat S j = true) : mCtx S j = true := by unfold mCtx; rw [h]; simp
theorem RK.Flows {S : zCS} {f : Nat} {L : LM} {C : CM} (hL : RLP S f L) (hC : RCP S f C) {j : Nat} (hj : j < kN S) (hf : kN S ≤ f + j) (s : MT) (ps : List P5) (x y w : Int32) (b : Bool) (hs : SS S s.1) :
    MQe s.1 (mFlows L C s ps j x y w b).1.1 ∧ Fr (Dm S j) s.1 (mFlows L C s ps j x y w b).1.1 ∧ MK S s.1 (mFlows L C s ps j x y w b).1.1 j ∧ (b = false → (mFlows L C s ps j x y w b).1.2 = s.2) ∧ (kP (mFlows L C s ps j x y w b).1.1 j 0 = x ∧ kP (mFlows L C s ps j x y w b).1.1 j 1 = y) ∧ kP (mFlows L C s ps j x y w b).1.1 j 2 = w := by
  have h0 : Lt (Dm S j) s.1 (mXY s.1 j x y) := (Lt.P _ 0 _ (Dm.rf S j) (by decide) (by decide)).trans (Lt.P _ 1 _ (Dm.rf S j) (by decide) (by decide))
  have hx : kP (mXY s.1 j x y) j 0 = x := (kP_n _ _ _ (by decide)).trans (kP_s _ _ _ _)
  have hy : kP (mXY s.1 j x y) j 1 = y := kP_s _ _ _ _
  unfold mFlows
  rw [hs.ctx]
  cases hc : mCtx S j with
  | true =>
    rw [if_pos rfl]
    obtain ⟨r1, r2, r3, r4, r5, r6⟩ := hL (mXY s.1 j x y, s.2) j w b (hs.K h0.1.1) hj hf hc
    refine ⟨h0.1.trans r1, h0.2.1.trans r2, fun z hz => ?_, r6, ⟨r4.1.trans hx, r4.2.trans hy⟩, r3⟩
    have h9 := r5 z hz
    exact ⟨h9.1, fun hn => ⟨(h9.2 hn).1.trans (h0.2.2 z).2.1, (h9.2 hn).2.trans (h0.2.2 z).1.2⟩⟩
  | false =>
    rw [if_neg (by decide)]
    have h1 : MQe s.1 (kSetP (mXY s.1 j x y) j 2 w) := h0.1.trans (MQe.setP _ _ _ _)
    have h2 : Fr (Dm S j) s.1 (kSetP (mXY s.1 j x y) j 2 w) := h0.2.1.trans (Fr.P _ 2 w (Dm.rf S j))
    obtain ⟨r1, r2, r3, r4, r5⟩ := hC (kSetP (mXY s.1 j x y) j 2 w, s.2) ps j x y b (hs.K h1.1) hj hf
    generalize (C (kSetP (mXY s.1 j x y) j 2 w, s.2) ps j x y b) = R at r1 r2 r3 r4 r5
    refine ⟨(h1.trans r1).trans (MQe.setP _ _ _ _), (h2.trans r2).trans (Fr.P _ 3 _ (Dm.rf S j)), fun z hz => ?_, r5, ⟨?_, ?_⟩, ?_⟩
    · by_cases hzj : z = j
      · subst hzj
        refine ⟨fun h => absurd h (by rw [hc]; decide), fun _ => ⟨r3.2, ?_⟩⟩
        show kP (kSetP R.1.1.1 z 3 _) z 4 = _
        rw [kP_n _ _ _ (by decide), r3.1 4]
        exact ((kP_n _ _ _ (by decide)).trans (kP_n _ _ _ (by decide))).trans (kP_n _ _ _ (by decide))
      · have h9 := r4 z hz hzj
        have hs1 : sm s.1 (kSetP (mXY s.1 j x y) j 2 w) z := ((sm.P _ 0 _ hzj).trans (sm.P _ 1 _ hzj)).trans (sm.P _ 2 _ hzj)
        exact h9.st hs1 (sm.P _ 3 _ hzj).sl
    · show kP (kSetP R.1.1.1 j 3 _) j 0 = _
      rw [kP_n _ _ _ (by decide), r3.1 0]
      exact (kP_n _ _ _ (by decide)).trans hx
    · show kP (kSetP R.1.1.1 j 3 _) j 1 = _
      rw [kP_n _ _ _ (by decide), r3.1 1]
      exact (kP_n _ _ _ (by decide)).trans hy
    · show kP (kSetP R.1.1.1 j 3 _) j 2 = _
      rw [kP_n _ _ _ (by decide), r3.1 2]
      exact kP_s _ _ _ _
theorem RK.Floats {S : zCS} {f : Nat} {L : LM} (hL : RLP S f L) {j : Nat} (hj : j < kN S) (hf : kN S ≤ f + j) (hc : mCtx S j = true) (s : MT) (ps : List P5) (a l r : Int32) (b : Bool) (hs : SS S s.1) :
    MQe s.1 (mFloats L s ps j a l r b).1.1 ∧ Fr (Dm S j) s.1 (mFloats L s ps j a l r b).1.1 ∧ MK S s.1 (mFloats L s ps j a l r b).1.1 j ∧ (b = false → (mFloats L s ps j a l r b).1.2 = s.2) := by
  obtain ⟨r1, r2, r3, r4, r5, r6⟩ := hL s j (cFit s.1 j (imax 0 (r - l) - kSides s.1 j)) b hs hj hf hc
  have h2 : Lt (Dm S j) (L s j (cFit s.1 j (imax 0 (r - l) - kSides s.1 j)) b).1 (mFloats L s ps j a l r b).1.1 := (Lt.P _ 0 _ (Dm.rf S j) (by decide) (by decide)).trans (Lt.P _ 1 _ (Dm.rf S j) (by decide) (by decide))
  exact ⟨r1.trans h2.1, r2.trans h2.2.1, fun x hx => (r5 x hx).st (sm.rf _ _) (h2.2.2 x), r6⟩
theorem RK.Block {S : zCS} {i f : Nat} {L : LM} {C : CM} (hW : WS S) (hi : i < kN S) (hL : RLP S f L) (hC : RCP S f C) (hf : kN S ≤ f + 1 + i) (s : MT) (ps : List P5) (x y : Int32) (b : Bool) (hs : SS S s.1) : RCc S s (mBlock L C s ps i x y b).1.1 i b := by
  have h1 := RK.fold (b := b) hW hi (fun t : BT => t.1.1) (mBkS L C (x + kF s.1 i 12) (kInner s.1 i) y b) (fun j : Nat => j) (kCh S i) ((s, ps), kF s.1 i 12, 0, 0) hs (by rw [List.map_id']; exact hW.1.nd hi) (fun q hq => (hW.1.ch hi hq).2.2) (fun t j hj ht => by
    obtain ⟨a1, a2, a3⟩ := hW.1.ch hi hj
    refine ⟨fun h => ?_, fun h => ?_⟩
    · show (mBkS L C _ _ _ _ t j).1.1 = _
      unfold mBkS
      rw [ht.lifted, if_pos h]
    · show MQe t.1.1.1 (mBkS L C (x + kF s.1 i 12) (kInner s.1 i) y b t j).1.1.1 ∧ Fr (Dm S j) t.1.1.1 (mBkS L C (x + kF s.1 i 12) (kInner s.1 i) y b t j).1.1.1 ∧ MK S t.1.1.1 (mBkS L C (x + kF s.1 i 12) (kInner s.1 i) y b t j).1.1.1 j ∧ _
      unfold mBkS
      rw [ht.lifted, if_neg (by rw [h]; decide), ht.mfl]
      cases hm : mFloat S j with
      | true =>
        rw [if_pos rfl]
        exact RK.Floats hL a2 (by omega) (mfl_ctx hm) t.1.1 t.1.2 _ _ _ b ht
      | false =>
        rw [if_neg (by decide)]
        obtain ⟨z1, z2, z3, z4, -⟩ := RK.Flows hL hC a2 (show kN S ≤ f + j by omega) t.1.1 t.1.2 (x + kF s.1 i 12 + kF t.1.1.1 j 10) (y + mTop t.1.1.1 t.1.2 y j (t.2.1 + imax t.2.2.1 (kF t.1.1.1 j 8) + imin t.2.2.2 (kF t.1.1.1 j 8))) (mBW t.1.1.1 (kInner s.1 i) j) b ht
        exact ⟨z1, z2, z3, z4⟩)
  rw [← congrFun hs.ch i] at h1
  obtain ⟨b1, b2, b3, b4⟩ := h1
  have e : kCh s.1 i = kCh S i := congrFun hs.ch i
  rw [e] at b1 b2 b3 b4
  have b1' : MQe s.1 (mBlock L C s ps i x y b).1.1.1 := by unfold mBlock mBlkA; rw [e]; exact b1
  have b2' : Fr (fun x => ∃ q, q ∈ kCh S i ∧ kLifted S q = false ∧ Dm S q x) s.1 (mBlock L C s ps i x y b).1.1.1 := by unfold mBlock mBlkA; rw [e]; exact b2
  refine RK.done hW hi b1' (b2'.mono (fun x ⟨q, h1, h2, h3⟩ => ⟨q, mem_items hW (hW.1.ch hi h1).2.2 h2, h3⟩)) (fun j hj => ?_) (fun hb => ?_)
  · obtain ⟨a1, a2, -, -⟩ := items_mem hW hi hj
    have := b3 j (hW.2.1 j i a1).2.1 a2
    unfold mBlock mBlkA
    rw [e]
    exact this
  · unfold mBlock mBlkA
    rw [e]
    exact b4 hb
theorem RK.Con {S : zCS} {i f : Nat} {L : LM} {C : CM} (hW : WS S) (hi : i < kN S) (hL : RLP S f L) (hC : RCP S f C) (hf : kN S ≤ f + 1 + i) (s : MT) (ps : List P5) (x y : Int32) (b : Bool) (hs : SS S s.1) : RCc S s (mCon L C s ps i x y b).1.1 i b := by
  have hk : kF S i 2 = 98 ∨ kF S i 2 = 116 ∨ kF S i 2 = 102 ∨ kF S i 2 = 103 := (hW.1.2 i hi).2.2.2.2 2
  unfold mCon
  rw [hs.f i 2 rfl]
  by_cases h1 : kF S i 2 = 98
  · rw [if_pos h1]; exact RK.Block hW hi hL hC hf s ps x y b hs
  · rw [if_neg h1]
    by_cases h2 : kF S i 2 = 116
    · rw [if_pos h2]
      refine ⟨MQe.SL _ _ _, Fr.L s.1 _ (Dm.rf S i), ⟨fun _ => rfl, rfl⟩, fun z hz hne => ?_, fun _ => rfl⟩
      obtain ⟨j, p1, p2, p3⟩ := hz.child hne
      exact absurd h2 (hW.2.1 j i p1).2.2
    · rw [if_neg h2]
      by_cases h3 : kF S i 2 = 102
      · rw [if_pos h3]
        exact RK.Row hW hi (by unfold kItems; rw [decide_eq_true h3]; rfl) hL hf b s hs
      · rw [if_neg h3]
        have h4 : kF S i 2 = 103 := by
          rcases hk with h | h | h | h
          · exact absurd h h1
          · exact absurd h h2
          · exact absurd h h3
          · exact h
        exact RK.Grid hW hi (by unfold kItems; rw [decide_eq_true h4, Bool.or_true]) hL hf b s hs
theorem RK.Lays {S : zCS} {i f : Nat} {L : LM} {C : CM} (hW : WS S) (hi : i < kN S) (hL : RLP S f L) (hC : RCP S f C) (hf : kN S ≤ f + 1 + i) (hc : mCtx S i = true) (s : MT) (w : Int32) (b : Bool) (hs : SS S s.1) : RLc S s (mLays L C s i w b) i w b := by
  have h0 : MQe s.1 (mL1 s.1 i w) := MQe.L1 s.1 i w
  have f0 : Fr (Dm S i) s.1 (mL1 s.1 i w) := ((Fr.P _ 4 _ (Dm.rf S i)).trans (Fr.F _ _ (Dm.rf S i))).trans (Fr.P _ 2 _ (Dm.rf S i))
  have hin : ∀ z, z ≠ i → sm s.1 (mL1 s.1 i w) z := fun z hz => ((sm.P _ 4 w hz).trans (sm.F _ 0 hz)).trans (sm.P _ 2 w hz)
  obtain ⟨r1, r2, r3, r4, r5⟩ := RK.Con hW hi hL hC hf (mL1 s.1 i w, s.2 + (if mAnew s.1 i w b = true then 1 else 0)) [] 0 0 (mAnew s.1 i w b) (hs.K h0.1)
  unfold mLays mLay2
  generalize mCon L C (mL1 s.1 i w, s.2 + (if mAnew s.1 i w b = true then 1 else 0)) [] i 0 0 (mAnew s.1 i w b) = R at r1 r2 r3 r4 r5
  have e2 : kP (mL1 s.1 i w) i 2 = w := kP_s _ _ _ _
  have e4 : kP (mL1 s.1 i w) i 4 = w := (kP_n _ _ _ (by decide)).trans (kP_s s.1 i 4 w)
  have e0 : kP (mL1 s.1 i w) i 0 = kP s.1 i 0 := (kP_n _ _ _ (by decide)).trans (kP_n s.1 _ _ (by decide))
  have e1 : kP (mL1 s.1 i w) i 1 = kP s.1 i 1 := (kP_n _ _ _ (by decide)).trans (kP_n s.1 _ _ (by decide))
  have e25 : kF (mL1 s.1 i w) i 25 = 0 := kF_s (kSetP s.1 i 4 w) i 25 0
  refine ⟨(h0.trans r1).trans (MQe.setP _ _ _ _), (f0.trans r2).trans (Fr.P _ 3 _ (Dm.rf S i)), ?_, ⟨?_, ?_⟩, fun z hz => ?_, fun hb => ?_⟩
  · show kP (kSetP R.1.1.1 i 3 _) i 2 = _
    rw [kP_n _ _ _ (by decide), r3.1 2]; exact e2
  · show kP (kSetP R.1.1.1 i 3 _) i 0 = _
    rw [kP_n _ _ _ (by decide), r3.1 0]; exact e0
  · show kP (kSetP R.1.1.1 i 3 _) i 1 = _
    rw [kP_n _ _ _ (by decide), r3.1 1]; exact e1
  · by_cases hzi : z = i
    · subst hzi
      refine ⟨fun _ => ⟨r3.2.trans e25, ?_⟩, fun h => by rw [hc] at h; cases h⟩
      show kP (kSetP R.1.1.1 z 3 _) z 4 = kP (kSetP R.1.1.1 z 3 _) z 2
      rw [kP_n _ _ _ (by decide), kP_n _ _ _ (by decide), r3.1 4, r3.1 2, e4, e2]
    · exact ((r4 z hz hzi).st (hin z hzi) (sm.P _ 3 _ hzi).sl)
  · have ha : mAnew s.1 i w b = false := by unfold mAnew; rw [hb]; rfl
    rw [ha] at r5
    have h9 := r5 rfl
    show R.1.1.2 = s.2
    rw [h9]
    show s.2 + (if false = true then 1 else 0) = s.2
    rw [if_neg (by decide)]
    exact Int32.add_zero _
theorem RK.all {S : zCS} (hW : WS S) : ∀ f, RLP S f (mLF f).1 ∧ RCP S f (mLF f).2 := by
  intro f
  induction f with
  | zero => exact ⟨fun s j w b _ h1 h2 _ => by omega, fun s ps i x y b _ h1 h2 => by omega⟩
  | succ f ih => exact ⟨fun s j w b hs hj hf hc => RK.Lays hW hj ih.1 ih.2 (by omega) hc s w b hs, fun s ps i x y b hs hi hf => RK.Con hW hi ih.1 ih.2 (by omega) s ps x y b hs⟩
