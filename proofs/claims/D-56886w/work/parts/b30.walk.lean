/-! ===== the plain law: the walk of the pages ===== -/
theorem An.le {S : zCS} (hW : WS S) {x y : Nat} (hy : y < kN S) (h : An S x y) : x ≤ y := by
  obtain ⟨k, h⟩ := h
  induction k generalizing y with
  | zero => rw [show y = x from h]; exact Nat.le_refl _
  | succ k ih =>
    obtain ⟨p, a, b⟩ := h
    have := hW.1.par hy a
    have := ih (y := p) (by omega) b
    omega
/-- two kids of one box have nothing in common -/
theorem An.dis {S : zCS} (hW : WS S) {a b i : Nat} (pa : kPar S a = some i) (pb : kPar S b = some i) : ∀ {x : Nat}, x < kN S → An S a x → An S b x → a = b := by
  intro x hx h1 h2
  obtain ⟨k, h1⟩ := h1
  induction k generalizing x with
  | zero =>
    rw [show x = a from h1] at h2 hx
    rcases h2.cases with e | ⟨p, q1, q2⟩
    · exact e
    · rw [pa] at q1
      cases q1
      have h3 := An.le hW (y := i) (by have := hW.1.par hx pa; omega) q2
      have h4 := hW.1.par (hW.2.1 b i pb).1 pb
      omega
  | succ k ih =>
    obtain ⟨p, q1, q2⟩ := h1
    rcases h2.cases with e | ⟨p', s1, s2⟩
    · subst e
      rw [pb] at q1
      cases q1
      have h3 := An.le hW (y := i) (by have := hW.1.par hx pb; omega) ⟨k, q2⟩
      have h4 := hW.1.par (hW.2.1 a i pa).1 pa
      omega
    · rw [q1] at s1
      cases s1
      have := hW.1.par hx q1
      exact ih (x := p) (by omega) s2 q2
def WK (S c m : zCS) (h : Int32) (f : Nat) : Prop := ∀ (j : Nat) (s : PgT) (o : List Nat) (us : List Un5), j ≠ 0 → j < kN S → kN S ≤ f + j → FPt S j → PI m h s us → us.length + tsum m (uA m) f j ≤ 1000 → (∀ a, An S j a → gB s a = false) → o = (pth S 24 j).filter (fun a => !gB s a) →
  QR S c m h j (tsum m (uA m) f j) s o us (pgWk c h f s j (kP m j 1)) (nOne m (nUs m f) (o, us) j)
theorem kids_pg {S c m : zCS} (hB : JB S c m) (hL : LG S c m) {h : Int32} {f i : Nat} (hi : i < kN S) (h98 : kF S i 2 = 98) (hFP : FPt S i) (hf : kN S ≤ f + 1 + i) (hWK : WK S c m h f) (y : Int32) (hy : y = if i = 0 then 0 else kP m i 1) : ∀ (l : List Nat) (s : PgT) (o : List Nat) (us : List Un5), l.Nodup → (∀ j, j ∈ l → j ∈ kCh S i) → PI m h s us → us.length + (l.map (tsum m (uA m) f)).sum ≤ 1000 → (∀ j, j ∈ l → ∀ a, An S j a → gB s a = false) → o = (pth S 24 i).filter (fun a => !gB s a) →
    QR S c m h i (l.map (tsum m (uA m) f)).sum s o us (l.foldl (pgKid c (pgWk c h f) y) s) (l.foldl (nKid m (nUs m f)) (o, us)) := by
  have hW := hB.1.1
  have hc := hB.1.2.1
  have hm := hB.1.2.2
  intro l
  induction l with
  | nil => intro s o us _ _ _ _ _ _; exact Or.inl ⟨rfl, rfl⟩
  | cons j l ih =>
    intro s o us hnd hsub hPI hus hfl ho
    obtain ⟨hnj, hnl⟩ := List.nodup_cons.mp hnd
    rw [List.map_cons, List.sum_cons] at hus ⊢
    rw [List.foldl_cons, List.foldl_cons]
    obtain ⟨pij, jN, pj⟩ := hW.1.ch hi (hsub j List.mem_cons_self)
    have hmono : ∀ {s' : PgT} {T : UnT}, QR S c m h i (l.map (tsum m (uA m) f)).sum s o us s' T → QR S c m h i (tsum m (uA m) f j + (l.map (tsum m (uA m) f)).sum) s o us s' T := fun hq => hq.imp id (fun ⟨a1, a2, a3, a4, a5⟩ => ⟨a1, a2, a3, a4, by omega⟩)
    cases hfw : kFlow S j with
    | false =>
      have e1 : pgKid c (pgWk c h f) y s j = s := if_neg (by rw [hc.flow, hfw]; exact Bool.false_ne_true)
      have hlf : kLifted S j = true ∨ mFloat S j = true := by
        cases hl : kLifted S j with
        | true => exact Or.inl rfl
        | false =>
          obtain ⟨-, -, k3, -⟩ := block_kinds hW hi h98 pj hl
          rw [hfw] at k3
          cases hmf : mFloat S j with
          | true => exact Or.inr rfl
          | false => rw [hmf] at k3; cases k3
      have e2 : nKid m (nUs m f) (o, us) j = (o, us) := if_pos (by rw [hm.lifted, hm.mfl]; exact hlf)
      rw [e1, e2]
      exact hmono (ih s o us hnl (fun q hq => hsub q (List.mem_cons_of_mem _ hq)) hPI (by omega) (fun q hq => hfl q (List.mem_cons_of_mem _ hq)) ho)
    | true =>
      have hl := flow_lif hfw
      obtain ⟨-, -, k3, -⟩ := block_kinds hW hi h98 pj hl
      have hmf : mFloat S j = false := by
        cases hmf : mFloat S j with
        | false => rfl
        | true => rw [hfw, hmf] at k3; cases k3
      have hyk := y_kid hW hL jN hfw pj h98 hFP
      have e1 : pgKid c (pgWk c h f) y s j = pgWk c h f s j (kP m j 1) := by
        unfold pgKid
        rw [if_pos (by rw [hc.flow, hfw]), hyk, hy, i32_k]
      have e2 : nKid m (nUs m f) (o, us) j = nClo o (nOne m (nUs m f) (o ++ [j], us) j) := if_neg (by rw [hm.lifted, hm.mfl, hl, hmf]; simp)
      have hpk := pth_kid hW jN pj
      have hgj := hfl j List.mem_cons_self j (An.rf S j)
      have ho2 : o ++ [j] = (pth S 24 j).filter (fun a => !gB s a) := by
        rw [hpk, List.filter_append, ← ho]
        congr 1
        show [j] = [j].filter _
        rw [List.filter_cons, hgj]
        rfl
      rw [e1, e2]
      rcases hWK j s (o ++ [j]) us (by omega) jN (by omega) (hFP.kid hfw pj h98) hPI (by omega) (hfl j List.mem_cons_self) ho2 with ⟨w1, w2⟩ | ⟨w1, w2, w3, w4, w5⟩
      · rw [w1, w2]
        have e3 : nClo o (o ++ [j], us) = (o, us) := by
          unfold nClo
          rw [if_neg (by simp)]
        rw [e3]
        exact hmono (ih s o us hnl (fun q hq => hsub q (List.mem_cons_of_mem _ hq)) hPI (by omega) (fun q hq => hfl q (List.mem_cons_of_mem _ hq)) ho)
      · generalize pgWk c h f s j (kP m j 1) = s1 at w1 w3 w4 ⊢
        generalize nOne m (nUs m f) (o ++ [j], us) j = T1 at w1 w2 w5 ⊢
        obtain ⟨o1, us1⟩ := T1
        have w2' : o1 = [] := w2
        subst w2'
        have e3 : nClo o (([] : List Nat), us1) = ([], us1) := rfl
        rw [e3]
        have hall : ∀ a, a ∈ pth S 24 i → gB s1 a = true := fun a ha => w3 a (by rw [hpk]; exact List.mem_append_left _ ha)
        have hAi : An S i j := An.up pj (An.rf S i)
        have hfr : ∀ a, ¬ An S i a → ¬ a ∈ pth S 24 i → gB s1 a = gB s a := fun a h1 h2 => w4 a (fun q => h1 (hAi.trans q)) (fun q => by
          rw [hpk] at q
          rcases List.mem_append.mp q with q | q
          · exact h2 q
          · rw [List.mem_singleton.mp q] at h1; exact h1 hAi)
        have hun : ∀ q, q ∈ l → ∀ a, An S q a → gB s1 a = false := fun q hq a ha => by
          obtain ⟨piq, qN, pq⟩ := hW.1.ch hi (hsub q (List.mem_cons_of_mem _ hq))
          have hqj : q ≠ j := fun e => hnj (e ▸ hq)
          have haN := An.lt hW qN ha
          have hdj : ¬ An S j a := fun h1 => hqj (An.dis hW pq pj haN ha h1)
          have hnp : ¬ a ∈ pth S 24 j := fun h1 => by
            obtain ⟨-, h2, -⟩ := pth_lt hW 24 j a jN h1
            have h3 : An S q j := ha.trans h2
            rcases h3.cases with e | ⟨p, s1', s2⟩
            · exact hqj e.symm
            · rw [pj] at s1'
              cases s1'
              have := An.le hW hi s2
              omega
          rw [w4 a hdj hnp]
          exact hfl q (List.mem_cons_of_mem _ hq) a ha
        have w5' : us1.length ≤ us.length + tsum m (uA m) f j := w5
        rcases ih s1 [] us1 hnl (fun q hq => hsub q (List.mem_cons_of_mem _ hq)) w1 (by omega) hun (filt_all _ hall).symm with ⟨i1, i2⟩ | ⟨i1, i2, i3, i4, i5⟩
        · rw [i1, i2]
          exact Or.inr ⟨w1, rfl, hall, hfr, by show us1.length ≤ _; omega⟩
        · exact Or.inr ⟨i1, i2, i3, fun a h1 h2 => (i4 a h1 h2).trans (hfr a h1 h2), by omega⟩
theorem walk_all {S c m : zCS} (hB : JB S c m) (hL : LG S c m) (h : Int32) : ∀ f, WK S c m h f := by
  have hW := hB.1.1
  have hc := hB.1.2.1
  have hm := hB.1.2.2
  intro f
  induction f with
  | zero => intro j s o us _ h1 h2; omega
  | succ f ih =>
    intro j s o us hj0 hj hf hFP hPI hus hun ho
    have hts := tsum_succ m (uA m) f j
    have hkd : kF S j 2 = 98 ∨ kF S j 2 = 116 ∨ kF S j 2 = 102 ∨ kF S j 2 = 103 := (hW.1.2 j hj).2.2.2.2 2
    have hmk : kF m j 2 = kF S j 2 := hm.f j 2 rfl
    have hch : kCh m j = kCh S j := congrFun hm.ch j
    have hwh := (hL.wh hW hj).2.1
    unfold pgWk nOne
    rw [hc.text, hc.itms, hc.ch, hc.root, hmk, hch, hwh]
    by_cases h116 : kF S j 2 = 116
    · have ht : kText S j = true := by unfold kText; exact decide_eq_true h116
      rw [if_pos ht, if_pos h116, hB.ln hL hj]
      have hu : 1 + (kLn m j).length ≤ tsum m (uA m) (f + 1) j := by rw [hts]; exact Nat.le_add_right _ _
      have hq := lines_ok hB hL (h := h) hj hFP h116 (by omega) (List.range (kLn m j).length) s o us (fun k hk => List.mem_range.mp hk) hPI (by rw [List.length_range]; omega) ho
      rw [List.length_range] at hq
      exact hq.imp id (fun ⟨a1, a2, a3, a4, a5⟩ => ⟨a1, a2, a3, a4, by omega⟩)
    · have ht : ¬ kText S j = true := fun e => h116 (by unfold kText at e; exact of_decide_eq_true e)
      rw [if_neg ht, if_neg h116]
      by_cases hbk : kF S j 2 = 98 ∧ kCh S j ≠ []
      · have hit : ¬ (kItems S j || (kCh S j).isEmpty) = true := by
          unfold kItems
          rw [hbk.1]
          cases hE : kCh S j with
          | nil => exact absurd hE hbk.2
          | cons a r => simp
        rw [if_neg hit, if_pos hbk]
        have e9 : nUs m (f + 1) (o, us) j = (kCh S j).foldl (nKid m (nUs m f)) (o, us) := by rw [← hch]; rfl
        rw [e9]
        have hq := kids_pg hB hL hj hbk.1 hFP hf ih (kP m j 1) (if_neg hj0).symm (kCh S j) s o us (hW.1.nd hj) (fun q hq => hq) hPI (by rw [hts, hch] at hus; omega) (fun q hq a ha => hun a ((An.up (hW.1.ch hj hq).2.2 (An.rf S j)).trans ha)) ho
        exact hq.imp id (fun ⟨a1, a2, a3, a4, a5⟩ => ⟨a1, a2, a3, a4, by rw [hts, hch]; omega⟩)
      · have hit : (kItems S j || (kCh S j).isEmpty) = true := by
          cases hE : kCh S j with
          | nil => simp
          | cons a r =>
            have h98 : kF S j 2 ≠ 98 := fun e => hbk ⟨e, by rw [hE]; exact List.cons_ne_nil _ _⟩
            unfold kItems
            rcases hkd with h | h | h | h
            · exact absurd h h98
            · exact absurd h h116
            · rw [h]; rfl
            · rw [h]; rfl
        have hr : kRoot S j = false := by
          obtain ⟨p, hp, -⟩ := up_par hW hj hj0
          unfold kRoot
          rw [hp]; rfl
        rw [if_pos hit, if_neg hbk, hr]
        by_cases h0 : 0 < kP m j 3
        · rw [if_pos (by rw [decide_eq_true h0]; rfl), if_pos h0]
          have hty : pgY c j 0 (kP m j 1) = kP m j 1 := if_neg (by rw [hc.text]; exact ht)
          have hhl : false = (nFl m (j, nI 0, kP m j 1, kP m j 1 + kP m j 3, o) && decide (h < kP m j 1 + lnY m j 1 + 10 - gT s)) := by
            unfold nFl
            show false = (decide (kF m j 2 = 116) && _ && _)
            rw [hmk, decide_eq_false h116]
            rfl
          obtain ⟨r1, r2⟩ := put_ok hB hL hPI (by omega) hj hFP hty ho hhl
          have e9 : nUnit (o, us) j 0 (kP m j 1) (kP m j 3) = ([], us ++ [(j, nI 0, kP m j 1, kP m j 1 + kP m j 3, o)]) := rfl
          rw [e9]
          refine Or.inr ⟨r1, rfl, fun a ha => by rw [r2, decide_eq_true ha, Bool.or_true], fun a _ ha => by rw [r2, decide_eq_false ha, Bool.or_false], ?_⟩
          show (us ++ [_]).length ≤ _
          rw [List.length_append, hts]
          show us.length + 1 ≤ us.length + (uA m j + _)
          unfold uA
          omega
        · rw [if_neg (by rw [decide_eq_false h0]; exact Bool.false_ne_true), if_neg h0]
          exact Or.inl ⟨rfl, rfl⟩
theorem dl_S {S c : zCS} (h : SS S c) : ∀ (f i : Nat), dl c f i = dl S f i := by
  intro f
  induction f with
  | zero => intro i; rfl
  | succ f ih =>
    intro i
    have e : dl c f = dl S f := by funext j; exact ih j
    show i :: (kCh c i).flatMap (dl c f) = i :: (kCh S i).flatMap (dl S f)
    rw [h.ch, e]
theorem pages_eq {S c m : zCS} (hB : JB S c m) (hL : LG S c m) (h : Int32) (hU : UM m ≤ 1000) : PI m h (pgAll c h) (nAllU m).2 := by
  have hW := hB.1.1
  have hc := hB.1.2.1
  have hm := hB.1.2.2
  have hN := hW.1.1
  have h98 : kF S 0 2 = 98 := (hc.f 0 2 rfl).symm.trans hB.2.2.2.2.2.2.2.2
  have h0 : PI m h pg0 [] := ⟨⟨rfl, rfl⟩, Or.inl ⟨rfl, rfl, rfl⟩⟩
  have hpar : kPar S 0 = none := (hW.2.2.2 0 hW.2.2.1).mpr rfl
  have hr : kRoot S 0 = true := by unfold kRoot; rw [hpar]; rfl
  have hcm : kCh m 0 = kCh S 0 := congrFun hm.ch 0
  have e1 : nAllU m = (kCh S 0).foldl (nKid m (nUs m 23)) ([], []) := by rw [← hcm]; rfl
  have htl : tsum m (uA m) (23 + 1) 0 ≤ UM m := by
    have e : tsum m (uA m) (23 + 1) 0 = tsum S (uA m) (23 + 1) 0 := by unfold tsum; rw [dl_S hm]
    rw [e]
    have := tsum_le hW.1 (uA m) (23 + 1) hW.2.2.1
    unfold UM
    rw [hm.n]
    exact this
  have hts := tsum_succ m (uA m) 23 0
  have hq := kids_pg hB hL (f := 23) hW.2.2.1 h98 ⟨0, rfl⟩ (by omega) (walk_all hB hL h 23) 0 rfl (kCh S 0) pg0 [] [] (hW.1.nd hW.2.2.1) (fun j hj => hj) h0 (by rw [hcm] at hts; show 0 + _ ≤ 1000; omega) (fun j hj a ha => rfl) (by rw [pth_no hpar]; rfl)
  have e2 : pgAll c h = (kCh S 0).foldl (pgKid c (pgWk c h 23) 0) pg0 := by
    unfold pgAll
    show pgWk c h (23 + 1) pg0 0 0 = _
    unfold pgWk
    rw [hc.text, hc.itms, hc.ch, hc.root, hr]
    have ht : ¬ kText S 0 = true := by unfold kText; rw [h98]; decide
    rw [if_neg ht]
    cases hE : kCh S 0 with
    | nil => rw [if_pos (by simp)]; rfl
    | cons a r => rw [if_neg (by unfold kItems; rw [h98]; simp)]
  rw [e1, e2]
  rcases hq with ⟨q1, q2⟩ | ⟨q1, -⟩
  · rw [q1, q2]; exact h0
  · exact q1
