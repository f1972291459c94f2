/-! ===== the plain law: pages ===== -/
theorem i32_j (a b : Int32) : a - (a - b) = b := by
  rw [Int32.sub_eq_add_neg a (a - b), Int32.neg_sub, Int32.add_comm, Int32.sub_add_cancel]
theorem i32_k (a b : Int32) : b + (a - b) = a := by rw [Int32.add_comm, Int32.sub_add_cancel]
/-- in the flow, up to the root -/
def fpK (S : zCS) : Nat → Nat → Prop
  | 0, i => i = 0
  | n + 1, i => kFlow S i = true ∧ ∃ p, kPar S i = some p ∧ kF S p 2 = 98 ∧ fpK S n p
def FPt (S : zCS) (i : Nat) : Prop := ∃ n, fpK S n i
theorem FPt.kid {S : zCS} {i p : Nat} (hf : kFlow S i = true) (hp : kPar S i = some p) (hk : kF S p 2 = 98) (h : FPt S p) : FPt S i := by
  obtain ⟨n, h⟩ := h
  exact ⟨n + 1, hf, p, hp, hk, h⟩
theorem FPt.cases {S : zCS} {i : Nat} (h : FPt S i) (h0 : i ≠ 0) : kFlow S i = true ∧ ∃ p, kPar S i = some p ∧ kF S p 2 = 98 ∧ FPt S p := by
  obtain ⟨n, h⟩ := h
  cases n with
  | zero => exact absurd h h0
  | succ n =>
    obtain ⟨a, p, b, d, e⟩ := h
    exact ⟨a, p, b, d, n, e⟩
theorem flow_lif {S : zCS} {i : Nat} (h : kFlow S i = true) : kLifted S i = false := by
  cases hl : kLifted S i with
  | false => rfl
  | true => unfold kFlow at h; rw [hl] at h; simp at h
theorem FPt.noctx {S : zCS} (hW : WS S) {p : Nat} (h : FPt S p) (h0 : p ≠ 0) (hp : p < kN S) (hk : kF S p 2 = 98) : mCtx S p = false := by
  obtain ⟨hf, q, hq, hqk, -⟩ := h.cases h0
  have hl := flow_lif hf
  have hqp := hW.1.par hp hq
  obtain ⟨k1, k2, k3, k4, k5⟩ := block_kinds hW (by omega) hqk hq hl
  have hm : mFloat S p = false := by
    cases hm : mFloat S p with
    | false => rfl
    | true => rw [k3, hm] at hf; cases hf
  rw [k5 hm]
  unfold kItems
  rw [hk]
  rfl
/-- a kid of the root, of a block in the flow -/
theorem y_kid {S c m : zCS} (hW : WS S) (hL : LG S c m) {i p : Nat} (hi : i < kN S) (hf : kFlow S i = true) (hp : kPar S i = some p) (hk : kF S p 2 = 98) (h : FPt S p) : kP c i 1 = kP m i 1 - (if p = 0 then 0 else kP m p 1) := by
  have hpi := hW.1.par hi hp
  have hg := (hL.geo hW hi (by omega) (flow_lif hf)).1.2
  rw [hg, offs_p hp]
  by_cases h0 : p = 0
  · rw [if_pos h0, h0, if_pos (rt_ctx hW (Or.inl rfl))]
  · rw [if_neg h0, if_neg (by rw [h.noctx hW h0 (by omega) hk]; exact Bool.false_ne_true)]
def pth (S : zCS) : Nat → Nat → List Nat
  | 0, _ => []
  | f + 1, i => match kPar S i with
    | none => []
    | some p => pth S f p ++ [i]
theorem pth_up {S : zCS} {f i p : Nat} (hp : kPar S i = some p) : pth S (f + 1) i = pth S f p ++ [i] := by
  show (match kPar S i with | none => [] | some p => pth S f p ++ [i]) = _
  rw [hp]
theorem pth_no {S : zCS} {f i : Nat} (hp : kPar S i = none) : pth S (f + 1) i = [] := by
  show (match kPar S i with | none => [] | some p => pth S f p ++ [i]) = _
  rw [hp]
theorem pth_more {S : zCS} (hW : WS S) : ∀ (f i : Nat), i < f → i < kN S → pth S (f + 1) i = pth S f i := by
  intro f
  induction f with
  | zero => intro i h; omega
  | succ f ih =>
    intro i h hi
    cases hp : kPar S i with
    | none => rw [pth_no hp, pth_no hp]
    | some p =>
      have := hW.1.par hi hp
      rw [pth_up hp, pth_up hp, ih p (by omega) (by omega)]
theorem pth_kid {S : zCS} (hW : WS S) {i p : Nat} (hi : i < kN S) (hp : kPar S i = some p) : pth S 24 i = pth S 24 p ++ [i] := by
  have hN := hW.1.1
  have := hW.1.par hi hp
  rw [pth_up hp, ← pth_more hW 23 p (by omega) (by omega)]
theorem pth_lt {S : zCS} (hW : WS S) : ∀ (f i a : Nat), i < kN S → a ∈ pth S f i → a < kN S ∧ An S a i ∧ a ≠ 0 := by
  intro f
  induction f with
  | zero => intro i a _ h; cases h
  | succ f ih =>
    intro i a hi h
    cases hp : kPar S i with
    | none => rw [pth_no hp] at h; cases h
    | some p =>
      have hpi := hW.1.par hi hp
      rw [pth_up hp] at h
      rcases List.mem_append.mp h with h | h
      · obtain ⟨a1, a2, a3⟩ := ih p a (by omega) h
        exact ⟨a1, An.up hp a2, a3⟩
      · rw [List.mem_singleton.mp h]; exact ⟨hi, An.rf S i, by omega⟩
theorem any_mem {f g : Nat → Bool} : ∀ (l : List Nat), (∀ a, a ∈ l → f a = g a) → l.any f = l.any g := by
  intro l
  induction l with
  | nil => intro _; rfl
  | cons x l ih => intro h; rw [List.any_cons, List.any_cons, h x List.mem_cons_self, ih (fun a ha => h a (List.mem_cons_of_mem _ ha))]
theorem mb_eq {S c m : zCS} (hW : WS S) (hc : SS S c) (hL : LG S c m) (h tp : Int32) (b : Nat → Bool) : ∀ (f i : Nat) (y : Int32) (acc : Bool), i < f → i < kN S → FPt S i → (i ≠ 0 → y = kP m i 1) → pgMB c h tp b f i y acc = (acc || (pth S f i).any (fun a => pgOne c h tp b a (kP m a 1))) := by
  intro f
  induction f with
  | zero => intro i y acc h; omega
  | succ f ih =>
    intro i y acc hf hi hFP hy
    unfold pgMB
    rw [hc.par]
    cases hp : kPar S i with
    | none => rw [pth_no hp]; exact (Bool.or_false _).symm
    | some p =>
      have hpi := hW.1.par hi hp
      obtain ⟨hfl, p', hp', hk, hFp⟩ := hFP.cases (by omega)
      rw [hp] at hp'
      cases hp'
      have hyi := hy (by omega)
      have hyk := y_kid hW hL hi hfl hp hk hFp
      show pgMB c h tp b f p (y - kP c i 1) (acc || pgOne c h tp b i y) = _
      rw [ih p (y - kP c i 1) _ (by omega) (by omega) hFp (fun h0 => by rw [hyk, hyi, if_neg h0, i32_j]), pth_up hp, List.any_append, hyi, Bool.or_assoc]
      congr 1
      rw [Bool.or_comm]
      congr 1
      show _ = ([i].any _)
      rw [List.any_cons, List.any_nil, Bool.or_false]
theorem mk_eq {S c : zCS} (hW : WS S) (hc : SS S c) : ∀ (f i : Nat) (b : Nat → Bool) (a : Nat), i < f → i < kN S → pgMk c f i b a = (b a || decide (a ∈ pth S f i)) := by
  intro f
  induction f with
  | zero => intro i b a h; omega
  | succ f ih =>
    intro i b a hf hi
    unfold pgMk
    rw [hc.par]
    cases hp : kPar S i with
    | none => rw [pth_no hp]; simp
    | some p =>
      have hpi := hW.1.par hi hp
      show pgMk c f p (ub b i true) a = _
      rw [ih p _ a (by omega) (by omega), pth_up hp]
      unfold ub
      by_cases e : a = i
      · subst e; simp
      · rw [if_neg e]; simp [e]
def Pg (m : zCS) (h : Int32) (us : List Un5) : PdT := us.foldl (nPg m h) (0, 0, [])
def PI (m : zCS) (h : Int32) (s : PgT) (us : List Un5) : Prop := (gU s = (Pg m h us).2.2 ∧ (gU s).length = us.length) ∧ ((us = [] ∧ gP s = -1 ∧ gI s = true) ∨ (us ≠ [] ∧ gP s = (Pg m h us).1 ∧ gT s = (Pg m h us).2.1 ∧ gI s = false ∧ (∃ q, q ≤ us.length ∧ gP s = nI q) ∧ nLast (gU s) = gP s + 1))
theorem nLast_app (l : List (Nat × Int32 × Int32)) (z : Nat × Int32 × Int32) : nLast (l ++ [z]) = z.2.2 + 1 := by
  unfold nLast
  rw [List.length_append]
  show (match (l ++ [z])[l.length + 1 - 1]? with | none => 0 | some z => z.2.2 + 1) = _
  rw [Nat.add_sub_cancel, List.getElem?_append_right (Nat.le_refl _), Nat.sub_self]
  rfl
theorem nI_m1 {q : Nat} (h : q ≤ 100000) : nI q ≠ -1 := ne_m1.mpr (by rw [nI_toInt (by omega)]; omega)
theorem put_ok {S c m : zCS} (hB : JB S c m) (hL : LG S c m) {h : Int32} {s : PgT} {us : List Un5} (hPI : PI m h s us) (hus : us.length ≤ 2000) {i k : Nat} {y bo : Int32} {hl : Bool} {o : List Nat} (hi : i < kN S) (hFP : FPt S i) (hy : pgY c i k y = kP m i 1) (ho : o = (pth S 24 i).filter (fun a => !gB s a)) (hhl : hl = (nFl m (i, nI k, y, bo, o) && decide (h < kP m i 1 + lnY m i 1 + 10 - gT s))) :
    PI m h (pgPut c h s i k y bo hl) (us ++ [(i, nI k, y, bo, o)]) ∧ ∀ a, gB (pgPut c h s i k y bo hl) a = (gB s a || decide (a ∈ pth S 24 i)) := by
  obtain ⟨⟨hW, hc, hm⟩, h20, -⟩ := hB
  have hN := hW.1.1
  have hbr : pgBr c h s i k y bo hl = nBrk m h (gT s) (i, nI k, y, bo, o) := by
    unfold pgBr nBrk
    rw [hy, mb_eq hW hc hL h (gT s) (gB s) 24 i (kP m i 1) false (by omega) hi hFP (fun _ => rfl), Bool.false_or, hhl]
    have e : (pth S 24 i).any (fun a => pgOne c h (gT s) (gB s) a (kP m a 1)) = o.any (nFb m h (gT s)) := by
      rw [ho, List.any_filter]
      refine any_mem _ (fun a ha => ?_)
      obtain ⟨a1, -, -⟩ := pth_lt hW 24 i a hi ha
      unfold pgOne nFb pgAv pLow
      rw [(h20 a).2, (hL.wh hW a1).2.1]
    rw [e]
    rfl
  obtain ⟨⟨p1, p2⟩, p3⟩ := hPI
  have eP : Pg m h (us ++ [(i, nI k, y, bo, o)]) = nPg m h (Pg m h us) (i, nI k, y, bo, o) := by unfold Pg; rw [List.foldl_append]; rfl
  have eF : ∀ a, gB (pgPut c h s i k y bo hl) a = (gB s a || decide (a ∈ pth S 24 i)) := fun a => mk_eq hW hc 24 i (gB s) a (by omega) hi
  refine ⟨?_, eF⟩
  have eL : (us ++ [(i, nI k, y, bo, o)]).length = us.length + 1 := by rw [List.length_append]; rfl
  rcases p3 with ⟨q1, q2, q3⟩ | ⟨q1, q2, q3, q4, ⟨q, q5, q6⟩, q7⟩
  · subst q1
    have hnew : pgNew c h s i k y bo hl = true := by unfold pgNew; rw [q2]; rfl
    have gU0 : gU s = [] := p1
    have e1 : pgPut c h s i k y bo hl = (pgMk c 24 i (gB s), gP s + 1, y, false, gU s ++ [(i, nI k, gP s + 1)]) := by
      unfold pgPut
      rw [if_pos hnew, if_pos hnew]
    rw [e1, q2, gU0]
    have e2 : Pg m h ([] ++ [(i, nI k, y, bo, o)]) = (0, y, [(i, nI k, 0)]) := by
      rw [eP]
      rfl
    refine ⟨⟨?_, rfl⟩, Or.inr ⟨by simp, ?_, ?_, rfl, ⟨0, Nat.zero_le _, rfl⟩, rfl⟩⟩
    · rw [e2]; rfl
    · rw [e2]; rfl
    · rw [e2]; rfl
  · have hg : gP s ≠ -1 := by rw [q6]; exact nI_m1 (by omega)
    have hne : (Pg m h us).2.2.isEmpty = false := by
      cases hE : (Pg m h us).2.2 with
      | nil => rw [hE] at p1; rw [p1] at p2; exact absurd (List.length_eq_zero_iff.mp p2.symm) q1
      | cons z r => rfl
    have hnew : pgNew c h s i k y bo hl = nNew m h (Pg m h us) (i, nI k, y, bo, o) := by
      unfold pgNew nNew
      rw [decide_eq_false hg, hbr, q3, q4, hne]
      simp
    have e1 : pgPut c h s i k y bo hl = (pgMk c 24 i (gB s), (if nNew m h (Pg m h us) (i, nI k, y, bo, o) = true then gP s + 1 else gP s), (if nNew m h (Pg m h us) (i, nI k, y, bo, o) = true then y else gT s), false, gU s ++ [(i, nI k, (if nNew m h (Pg m h us) (i, nI k, y, bo, o) = true then gP s + 1 else gP s))]) := by
      unfold pgPut
      rw [hnew]
    have e2 : nPg m h (Pg m h us) (i, nI k, y, bo, o) = ((Pg m h us).1 + (if nNew m h (Pg m h us) (i, nI k, y, bo, o) = true then 1 else 0), (if nNew m h (Pg m h us) (i, nI k, y, bo, o) = true then y else (Pg m h us).2.1), (Pg m h us).2.2 ++ [(i, nI k, (Pg m h us).1 + (if nNew m h (Pg m h us) (i, nI k, y, bo, o) = true then 1 else 0))]) := by
      unfold nPg
      rw [hne, Bool.or_false]
    have e3 : (if nNew m h (Pg m h us) (i, nI k, y, bo, o) = true then gP s + 1 else gP s) = (Pg m h us).1 + (if nNew m h (Pg m h us) (i, nI k, y, bo, o) = true then 1 else 0) := by
      rw [← q2]
      split
      · rfl
      · exact (Int32.add_zero _).symm
    rw [e1, e3]
    refine ⟨⟨?_, ?_⟩, Or.inr ⟨by simp, ?_, ?_, rfl, ?_, ?_⟩⟩
    · rw [eP, e2]; show gU s ++ _ = _; rw [p1]
    · show (gU s ++ [_]).length = _; rw [List.length_append, p2, eL]; rfl
    · rw [eP, e2]; rfl
    · rw [eP, e2, ← q3]; rfl
    · show ∃ q, q ≤ (us ++ [(i, nI k, y, bo, o)]).length ∧ (Pg m h us).1 + _ = nI q
      rw [← e3]
      by_cases hn : nNew m h (Pg m h us) (i, nI k, y, bo, o) = true
      · rw [if_pos hn]
        exact ⟨q + 1, by omega, by rw [q6, nI_1]⟩
      · rw [if_neg hn]
        exact ⟨q, by omega, q6⟩
    · show nLast (gU s ++ [_]) = _
      rw [nLast_app]
      rfl
/-- what a walk of a box brings: nothing, or all that is open is begun -/
def QR (S c m : zCS) (h : Int32) (j : Nat) (n : Nat) (s : PgT) (o : List Nat) (us : List Un5) (s' : PgT) (T : UnT) : Prop := (s' = s ∧ T = (o, us)) ∨ (PI m h s' T.2 ∧ T.1 = [] ∧ (∀ a, a ∈ pth S 24 j → gB s' a = true) ∧ (∀ a, ¬ An S j a → ¬ a ∈ pth S 24 j → gB s' a = gB s a) ∧ T.2.length ≤ us.length + n)
theorem filt_all {b : Nat → Bool} (l : List Nat) (h : ∀ a, a ∈ l → b a = true) : l.filter (fun a => !b a) = [] := by
  rw [List.filter_eq_nil_iff]
  intro a ha
  rw [h a ha]
  decide
theorem lines_ok {S c m : zCS} (hB : JB S c m) (hL : LG S c m) {h : Int32} {j : Nat} (hj : j < kN S) (hFP : FPt S j) (h116 : kF S j 2 = 116) (hn : (kLn m j).length ≤ 1000) : ∀ (ks : List Nat) (s : PgT) (o : List Nat) (us : List Un5), (∀ k, k ∈ ks → k < (kLn m j).length) → PI m h s us → us.length + ks.length ≤ 1000 → o = (pth S 24 j).filter (fun a => !gB s a) →
    QR S c m h j ks.length s o us (ks.foldl (pgLn c h j (kP m j 1)) s) (ks.foldl (nLnU m j) (o, us)) := by
  have hln := hB.ln hL hj
  have hlY : ∀ k, lnY c j k = lnY m j k := fun k => by unfold lnY; rw [hln]
  have htx : kText c j = true := by rw [hB.1.2.1.text]; unfold kText; exact decide_eq_true h116
  intro ks
  induction ks with
  | nil => intro s o us _ _ _ _; exact Or.inl ⟨rfl, rfl⟩
  | cons k ks ih =>
    intro s o us hks hPI hus ho
    rw [List.length_cons] at hus
    have hk := hks k List.mem_cons_self
    have e1 : nLnU m j (o, us) k = ([], us ++ [(j, nI k, kP m j 1 + lnY m j k, kP m j 1 + lnY m j k + 10, o)]) := rfl
    have e2 : pgLn c h j (kP m j 1) s k = pgPut c h s j k (kP m j 1 + lnY m j k) (kP m j 1 + lnY m j k + 10) (pgHl c h j (kP m j 1) s k) := by unfold pgLn; rw [hlY]
    have hy : pgY c j k (kP m j 1 + lnY m j k) = kP m j 1 := by
      unfold pgY
      rw [if_pos htx, hln]
      show kP m j 1 + lnY m j k - lnY m j k = kP m j 1
      rw [Int32.add_sub_cancel]
    have hhl : pgHl c h j (kP m j 1) s k = (nFl m (j, nI k, kP m j 1 + lnY m j k, kP m j 1 + lnY m j k + 10, o) && decide (h < kP m j 1 + lnY m j 1 + 10 - gT s)) := by
      unfold pgHl nFl pLow
      rw [hlY, hln]
      have f2 : kF m j 2 = 116 := (hB.1.2.2.f j 2 rfl).trans h116
      have fk : decide (nI k = 0) = decide (k = 0) := by
        by_cases hk0 : k = 0
        · subst hk0; rfl
        · rw [decide_eq_false hk0, decide_eq_false (fun e => hk0 (nI_z (by omega) e))]
      show _ = (decide (kF m j 2 = 116) && (decide (nI k = 0) && decide (1 < (kLn m j).length)) && _)
      rw [f2, fk]
      simp [Bool.and_assoc]
    obtain ⟨r1, r2⟩ := put_ok hB hL hPI (by omega) hj hFP hy ho hhl
    rw [List.foldl_cons, List.foldl_cons, e1, e2]
    generalize pgPut c h s j k (kP m j 1 + lnY m j k) (kP m j 1 + lnY m j k + 10) (pgHl c h j (kP m j 1) s k) = s1 at r1 r2 ⊢
    have hall : ∀ a, a ∈ pth S 24 j → gB s1 a = true := fun a ha => by rw [r2, decide_eq_true ha, Bool.or_true]
    have hfr : ∀ a, ¬ a ∈ pth S 24 j → gB s1 a = gB s a := fun a ha => by rw [r2, decide_eq_false ha, Bool.or_false]
    have eL : (us ++ [(j, nI k, kP m j 1 + lnY m j k, kP m j 1 + lnY m j k + 10, o)]).length = us.length + 1 := by rw [List.length_append]; rfl
    rcases ih s1 [] _ (fun q hq => hks q (List.mem_cons_of_mem _ hq)) r1 (by omega) (filt_all _ hall).symm with ⟨i1, i2⟩ | ⟨i1, i2, i3, i4, i5⟩
    · rw [i1, i2]
      refine Or.inr ⟨r1, rfl, hall, fun a _ ha => hfr a ha, ?_⟩
      show (us ++ [_]).length ≤ _
      rw [eL, List.length_cons]
      omega
    · exact Or.inr ⟨i1, i2, i3, fun a h1 h2 => (i4 a h1 h2).trans (hfr a h2), by rw [List.length_cons]; omega⟩
