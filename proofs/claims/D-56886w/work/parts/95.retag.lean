/-! ===== isConsistent: tags told anew, boxes with another place ===== -/
abbrev PT (i t : Nat) : Prop := t = rP i ∨ t = rL i ∨ t = rL i + 1 ∨ t = rO i
theorem PT_b {i t : Nat} (h : PT i t) : 16 * i + 22 ≤ t ∧ t ≤ 16 * i + 26 ∧ (t % 16 = 6 ∨ t % 16 = 8 ∨ t % 16 = 9 ∨ t % 16 = 10) := by
  unfold PT rP rL rO at h
  omega
def sRa (σ : zT) (i : Nat) : zT := (σ.1, fun a => if PT i (sT σ a) then sT σ a + 4000 else sT σ a, σ.2.2)
def sRc (σ0 σ : zT) (i : Nat) : zT := (σ.1, fun a => if a < sZ σ0 ∧ PT i (sT σ0 a) then sT σ0 a else if PT i (sT σ a) then sT σ a + 8000 else sT σ a, σ.2.2)
theorem sT_ra (σ : zT) (i a : Nat) : sT (sRa σ i) a = if PT i (sT σ a) then sT σ a + 4000 else sT σ a := rfl
theorem sT_rc (σ0 σ : zT) (i a : Nat) : sT (sRc σ0 σ i) a = if a < sZ σ0 ∧ PT i (sT σ0 a) then sT σ0 a else if PT i (sT σ a) then sT σ a + 8000 else sT σ a := rfl
theorem zGd.ra {G : zG} {σ : zT} (h : zGd G σ) {i : Nat} (hi : i < 24) : zGd G (sRa σ i) := by
  refine ⟨h.1, h.2.1, h.2.2.1, fun a ha => ?_⟩
  have h1 := h.2.2.2 a ha
  rw [sT_ra]
  split
  · rename_i hp
    have := PT_b hp
    show _ < 10000 + 2 * sZ σ
    omega
  · exact h1
theorem zGd.rc {G : zG} {σ0 σ : zT} (h : zGd G σ) {i : Nat} (hi : i < 24) : zGd G (sRc σ0 σ i) := by
  refine ⟨h.1, h.2.1, h.2.2.1, fun a ha => ?_⟩
  have h1 := h.2.2.2 a ha
  rw [sT_rc]
  split
  · rename_i hp
    have := PT_b hp.2
    show _ < 10000 + 2 * sZ σ
    omega
  · split
    · rename_i hp
      have := PT_b hp
      show _ < 10000 + 2 * sZ σ
      omega
    · exact h1
/-- the cells of box i's place as they were at σ0, their tags shifted -/
def Old (δ : Nat) (σ0 σ : zT) (i : Nat) : Prop := ∀ a, a < sZ σ0 → PT i (sT σ0 a) → sF σ a = sF σ0 a ∧ sT σ a = sT σ0 a + δ
theorem Old.keep {G : zG} {S : Nat → Prop} {δ n i : Nat} {σ0 σ σ1 : zT} (h : Old δ σ0 σ i) (hz : sZ σ0 ≤ sZ σ) (hX : zX G S σ σ1 n) (hs : ∀ t, PT i t → ¬ S (t + δ)) : Old δ σ0 σ1 i := by
  intro a ha hp
  obtain ⟨h1, h2⟩ := h a ha hp
  obtain ⟨f1, f2⟩ := hX.1.2 a (by omega)
  exact ⟨(f2 (by rw [h2]; exact hs _ hp)).trans h1, f1.trans h2⟩
theorem Old.ra {σ0 σ : zT} {i : Nat} (h : Old 0 σ0 σ i) : Old 4000 σ0 (sRa σ i) i := by
  intro a ha hp
  obtain ⟨h1, h2⟩ := h a ha hp
  have h2 : sT σ a = sT σ0 a := h2
  refine ⟨h1, ?_⟩
  rw [sT_ra, if_pos (by rw [h2]; exact hp), h2]
theorem Old.ra_ne {σ0 σ : zT} {i k δ : Nat} (h : Old δ σ0 σ i) (hk : k < 24) (hi : i < 24) (hne : k ≠ i) (hδ : δ = 0 ∨ δ = 4000) : Old δ σ0 (sRa σ k) i := by
  intro a ha hp
  obtain ⟨h1, h2⟩ := h a ha hp
  refine ⟨h1, ?_⟩
  have := PT_b hp
  rw [sT_ra, if_neg (fun hq => by
    have := PT_b hq
    omega)]
  exact h2
theorem Old.rc {σ0 σ : zT} {i δ : Nat} (h : Old δ σ0 σ i) : Old 0 σ0 (sRc σ0 σ i) i := by
  intro a ha hp
  obtain ⟨h1, h2⟩ := h a ha hp
  refine ⟨h1, ?_⟩
  rw [sT_rc, if_pos ⟨ha, hp⟩]
  rfl
theorem Old.rc_ne {σ0 σ : zT} {i k δ : Nat} (h : Old δ σ0 σ i) (hk : k < 24) (hi : i < 24) (hne : k ≠ i) (hδ : δ = 0 ∨ δ = 4000) : Old δ σ0 (sRc σ0 σ k) i := by
  intro a ha hp
  obtain ⟨h1, h2⟩ := h a ha hp
  refine ⟨h1, ?_⟩
  have := PT_b hp
  rw [sT_rc, if_neg (fun hq => by
    have := PT_b hq.2
    omega), if_neg (fun hq => by
    have := PT_b hq
    omega)]
  exact h2
/-- the frame while tags are told anew -/
def zXr (G : zG) (N : Nat) (σ0 σ : zT) (n : Nat) : Prop := sZ σ0 ≤ sZ σ ∧ (∀ a, a < sZ σ0 → (¬ SC (sT σ0 a) → sF σ a = sF σ0 a) ∧ ((∀ i, i < N → ¬ PT i (sT σ0 a)) → sT σ a = sT σ0 a)) ∧ zGd G σ ∧ zEk G σ0 σ ∧ sM σ ≤ sM σ0 + n
theorem SC_PT {i t : Nat} (hi : i < 24) (h : PT i t) : SC t := by
  have := PT_b h
  exact ⟨by omega, by omega⟩
theorem zXr.rf {G : zG} {N : Nat} {σ0 : zT} (hw : zGd G σ0) (n : Nat) : zXr G N σ0 σ0 n := ⟨Nat.le_refl _, fun a _ => ⟨fun _ => rfl, fun _ => rfl⟩, hw, zEk.rf G σ0, Nat.le_add_right _ _⟩
theorem zXr.gd {G : zG} {N n : Nat} {σ0 σ : zT} (h : zXr G N σ0 σ n) : zGd G σ := h.2.2.1
theorem zXr.le {G : zG} {N n m : Nat} {σ0 σ : zT} (h : zXr G N σ0 σ n) (hm : n ≤ m) : zXr G N σ0 σ m := ⟨h.1, h.2.1, h.2.2.1, h.2.2.2.1, by have := h.2.2.2.2; omega⟩
theorem zXr.step {G : zG} {S : Nat → Prop} {N n m : Nat} {σ0 σ σ1 : zT} (h : zXr G N σ0 σ n) (hN : N ≤ 24) (hw0 : zGd G σ0) (hX : zX G S σ σ1 m) (hs : ∀ t, S t → SC t ∨ 10000 + 2 * sZ σ0 ≤ t) : zXr G N σ0 σ1 (n + m) := by
  refine ⟨Nat.le_trans h.1 hX.1.1, fun a ha => ⟨fun hsc => ?_, fun hp => ?_⟩, hX.gd, h.2.2.2.1.trans hX.2.2.1, by have := h.2.2.2.2; have := hX.2.2.2; omega⟩
  · have e1 := (h.2.1 a ha).1 hsc
    have e2 := (h.2.1 a ha).2 (fun i hi hp => hsc (SC_PT (by omega) hp))
    obtain ⟨f1, f2⟩ := hX.1.2 a (Nat.lt_of_lt_of_le ha h.1)
    refine (f2 (fun hS => ?_)).trans e1
    rw [e2] at hS
    have h9 := hw0.2.2.2 a ha
    rcases hs _ hS with h8 | h8
    · exact hsc h8
    · omega
  · exact ((hX.1.2 a (Nat.lt_of_lt_of_le ha h.1)).1).trans ((h.2.1 a ha).2 hp)
theorem zXr.ra {G : zG} {N n i : Nat} {σ0 σ : zT} (h : zXr G N σ0 σ n) (hN : N ≤ 24) (hi : i < N) : zXr G N σ0 (sRa σ i) n := by
  refine ⟨h.1, fun a ha => ⟨(h.2.1 a ha).1, fun hp => ?_⟩, h.2.2.1.ra (by omega), h.2.2.2.1, h.2.2.2.2⟩
  have e := (h.2.1 a ha).2 hp
  rw [sT_ra, e, if_neg (hp i hi)]
theorem zXr.rc {G : zG} {N n i : Nat} {σ0 σ : zT} (h : zXr G N σ0 σ n) (hN : N ≤ 24) (hi : i < N) : zXr G N σ0 (sRc σ0 σ i) n := by
  refine ⟨h.1, fun a ha => ⟨(h.2.1 a ha).1, fun hp => ?_⟩, h.2.2.1.rc (by omega), h.2.2.2.1, h.2.2.2.2⟩
  have e := (h.2.1 a ha).2 hp
  rw [sT_rc, if_neg (fun hq => hp i hi hq.2), e, if_neg (hp i hi)]
theorem zXr.done {G : zG} {N n : Nat} {σ0 σ : zT} (h : zXr G N σ0 σ n) (ho : ∀ i, i < N → Old 0 σ0 σ i) : zX G SC σ0 σ n := by
  refine ⟨⟨h.1, fun a ha => ⟨?_, (h.2.1 a ha).1⟩⟩, h.2.2⟩
  by_cases hp : ∃ i, i < N ∧ PT i (sT σ0 a)
  · obtain ⟨i, hi, hp⟩ := hp
    exact (ho i hi a ha hp).2
  · exact (h.2.1 a ha).2 (fun i hi hq => hp ⟨i, hi, hq⟩)
theorem zL.cp {G : zG} {σ σ1 : zT} {t l δ : Nat} {mod : Int32} {xs : List Nat} (h : zL G σ t l mod xs) (hk : ∀ a e, sF σ a = some e → (sT σ a = t ∨ sT σ a = t + 1) → sF σ1 a = some e ∧ sT σ1 a = sT σ a + δ) : zL G σ1 (t + δ) l mod xs := by
  obtain ⟨arr, cap, f, h1, h2, h3, h4, h5, h6⟩ := h
  have k1 := hk l _ h1 (Or.inl h2)
  refine ⟨arr, cap, f, k1.1, by rw [k1.2, h2], h3, h4, h5, ?_⟩
  rcases h6 with h6 | ⟨h6, h7, h8⟩
  · exact Or.inl h6
  · have k2 := hk arr _ h7 (Or.inr h8)
    exact Or.inr ⟨h6, k2.1, by rw [k2.2, h8]; omega⟩
theorem Old.ln {G : zG} {σ0 σ : zT} {δ i l : Nat} {ls : List (Int32 × Int32 × Int32)} (ho : Old δ σ0 σ i) (hw0 : zGd G σ0) (h : zLn G σ0 (rL i) (rO i) l ls) : zLn G σ (rL i + δ) (rO i + δ) l ls := by
  obtain ⟨mod, xs, l1, l2, l3⟩ := h
  refine ⟨mod, xs, l1.cp (fun a e ha ht => ?_), l2, fun j q z hq hz => ?_⟩
  · obtain ⟨o1, o2⟩ := ho a (hw0.1 a _ ha) (by rcases ht with ht | ht <;> rw [ht] <;> unfold PT <;> omega)
    exact ⟨o1.trans ha, o2⟩
  · obtain ⟨m1, m2⟩ := l3 j q z hq hz
    obtain ⟨o1, o2⟩ := ho q (hw0.1 q _ m1) (by rw [m2]; unfold PT; omega)
    exact ⟨o1.trans m1, by rw [o2, m2]⟩
/-- box i with another place -/
def kPut (c : zCS) (i pl ln : Nat) (v : Nat → Int32) (ls : List (Int32 × Int32 × Int32)) : zCS :=
  (kN c, fun t => if t = rP i then pl else if t = rL i then ln else kA c t, kM c, kF c, kPar c, kCh c, kWd c, fun a k => if a = i then v k else kP c a k, fun a => if a = i then ls else kLn c a, kLw c, kCt c)
theorem kPut_A {c : zCS} {i pl ln t : Nat} {v : Nat → Int32} {ls : List (Int32 × Int32 × Int32)} (h1 : t ≠ rP i) (h2 : t ≠ rL i) : kA (kPut c i pl ln v ls) t = kA c t := by
  show (if t = rP i then pl else if t = rL i then ln else kA c t) = _
  rw [if_neg h1, if_neg h2]
theorem kPut_P (c : zCS) (i pl ln : Nat) (v : Nat → Int32) (ls : List (Int32 × Int32 × Int32)) : kA (kPut c i pl ln v ls) (rP i) = pl := if_pos rfl
theorem kPut_L (c : zCS) (i pl ln : Nat) (v : Nat → Int32) (ls : List (Int32 × Int32 × Int32)) : kA (kPut c i pl ln v ls) (rL i) = ln := by
  show (if rL i = rP i then pl else if rL i = rL i then ln else kA c (rL i)) = _
  rw [if_neg (by unfold rL rP; omega), if_pos rfl]
theorem KEq.Put2 (c : zCS) (i pl ln : Nat) (v : Nat → Int32) (ls : List (Int32 × Int32 × Int32)) : KEq c (kPut c i pl ln v ls) :=
  ⟨fun t h1 h2 => kPut_A (by unfold rP; omega) (by unfold rL; omega), rfl, rfl, rfl, rfl, rfl, fun _ _ _ => rfl, rfl, rfl⟩
theorem CSys.place {G : zG} {σ σ1 σ3 : zT} {c : zCS} {i pl ln n : Nat} {v : Nat → Int32} {ls : List (Int32 × Int32 × Int32)} (hS : CSys G σ c) (hw : zGd G σ) (hw1 : zGd G σ1) (hi : i < kN c) (hF : sF σ1 = sF σ)
    (hT : ∀ a t, a < sZ σ → sT σ a = t → t < 1000 → ¬ PT i t → sT σ1 a = t) (hX : zX G (fun s => s = rB i) σ1 σ3 n)
    (hb : sF σ3 (kA c (rB i)) = some (.inr (2, kBx (kPut c i pl ln v ls) i))) (hp : sF σ3 pl = some (.inr (3, [.int (v 0), .int (v 1), .int (v 2), .int (v 3), .int (v 4), .ref ln])) ∧ sT σ3 pl = rP i) (hl : zLn G σ3 (rL i) (rO i) ln ls) : CSys G σ3 (kPut c i pl ln v ls) := by
  have hle := hS.le
  have hAB : ∀ j, kA (kPut c i pl ln v ls) (rB j) = kA c (rB j) := fun j => kPut_A (by unfold rB rP; omega) (by unfold rB rL; omega)
  have hmap : ∀ l : List Nat, l.map (fun j => kA (kPut c i pl ln v ls) (rB j)) = l.map (fun j => kA c (rB j)) := fun l => List.map_congr_left (fun j _ => hAB j)
  have hf : ∀ a e t, sF σ a = some e → sT σ a = t → t < 1000 → ¬ PT i t → t ≠ rB i → sF σ3 a = some e ∧ sT σ3 a = t := by
    intro a e t ha ht h1 h2 h3
    have h4 := hT a t (hw.1 a _ ha) ht h1 h2
    have ha1 : sF σ1 a = some e := by rw [hF]; exact ha
    exact ⟨hX.f hw1 ha1 (by rw [h4]; exact h3), (hX.t hw1 ha1).trans h4⟩
  have hL : ∀ t l mod xs, zL G σ t l mod xs → t + 1 < 1000 → ¬ PT i t → ¬ PT i (t + 1) → t ≠ rB i → t + 1 ≠ rB i → zL G σ3 t l mod xs := by
    intro t l mod xs h h1 h2 h3 h4 h5
    refine h.keep (fun a e ha ht => ?_)
    rcases ht with ht | ht
    · obtain ⟨m1, m2⟩ := hf a e t ha ht (by omega) h2 h4
      exact ⟨m1, m2.trans ht.symm⟩
    · obtain ⟨m1, m2⟩ := hf a e (t + 1) ha ht h1 h3 h5
      exact ⟨m1, m2.trans ht.symm⟩
  obtain ⟨⟨a1, a2⟩, a3, a4, a5⟩ := hS
  have np : ∀ t, t % 16 ≠ 6 → t % 16 ≠ 8 → t % 16 ≠ 9 → t % 16 ≠ 10 → ¬ PT i t := fun t h1 h2 h3 h4 h => by have := PT_b h; omega
  refine ⟨?_, ?_, fun j hj => ?_, a5⟩
  · rw [kPut_A (by unfold rP; omega) (by unfold rL; omega), kPut_A (by unfold rP; omega) (by unfold rL; omega)]
    exact hf _ _ 1 a1 a2 (by omega) (np _ (by omega) (by omega) (by omega) (by omega)) (by unfold rB; omega)
  · rw [kPut_A (by unfold rP; omega) (by unfold rL; omega), hmap]
    exact hL 2 _ _ _ a3 (by omega) (np _ (by omega) (by omega) (by omega) (by omega)) (np _ (by omega) (by omega) (by omega) (by omega)) (by unfold rB; omega) (by unfold rB; omega)
  · have hjn : j < kN c := hj
    obtain ⟨⟨b1, b2⟩, b3, b4, ⟨b5, b6⟩, b7⟩ := a4 j hjn
    have hC := hL (rC j) _ _ _ b3 (by unfold rC; omega) (np _ (by unfold rC; omega) (by unfold rC; omega) (by unfold rC; omega) (by unfold rC; omega)) (np _ (by unfold rC; omega) (by unfold rC; omega) (by unfold rC; omega) (by unfold rC; omega)) (by unfold rB rC; omega) (by unfold rB rC; omega)
    have hW := hL (rW j) _ _ _ b4 (by unfold rW; omega) (np _ (by unfold rW; omega) (by unfold rW; omega) (by unfold rW; omega) (by unfold rW; omega)) (np _ (by unfold rW; omega) (by unfold rW; omega) (by unfold rW; omega) (by unfold rW; omega)) (by unfold rB rW; omega) (by unfold rB rW; omega)
    refine ⟨?_, ?_, ?_, ?_, ?_⟩
    · rw [hAB]
      by_cases e : j = i
      · subst e
        have h4 := hT _ (rB j) (hw.1 _ _ b1) b2 (by unfold rB; omega) (np _ (by unfold rB; omega) (by unfold rB; omega) (by unfold rB; omega) (by unfold rB; omega))
        exact ⟨hb, (hX.t hw1 (a := kA c (rB j)) (by rw [hF]; exact b1)).trans h4⟩
      · have e2 : kBx (kPut c i pl ln v ls) j = kBx c j := by
          have q1 : kPr (kPut c i pl ln v ls) j = kPr c j := by
            show (kPar c j).map (fun p => kA (kPut c i pl ln v ls) (rB p)) = (kPar c j).map (fun p => kA c (rB p))
            congr 1
            funext p
            exact hAB p
          unfold kBx
          rw [q1, kPut_A (t := rC j) (by unfold rC rP; omega) (by unfold rC rL; omega), kPut_A (t := rW j) (by unfold rW rP; omega) (by unfold rW rL; omega), kPut_A (t := rP j) (by unfold rP; omega) (by unfold rP rL; omega), kPut_A (t := 1) (by unfold rP; omega) (by unfold rL; omega)]
          rfl
        rw [e2]
        exact hf _ _ (rB j) b1 b2 (by unfold rB; omega) (np _ (by unfold rB; omega) (by unfold rB; omega) (by unfold rB; omega) (by unfold rB; omega)) (by unfold rB; omega)
    · rw [kPut_A (by unfold rC rP; omega) (by unfold rC rL; omega)]
      show zL G σ3 (rC j) _ (kM c (rC j)) ((kCh c j).map _)
      rw [hmap]
      exact hC
    · rw [kPut_A (by unfold rW rP; omega) (by unfold rW rL; omega)]
      exact hW
    · by_cases e : j = i
      · subst e
        rw [kPut_P]
        refine ⟨?_, hp.2⟩
        rw [hp.1]
        unfold kPl
        rw [kPut_L]
        have q : ∀ k, kP (kPut c j pl ln v ls) j k = v k := fun k => if_pos rfl
        rw [q, q, q, q, q]
      · have e3 : kPl (kPut c i pl ln v ls) j = kPl c j := by
          have q : ∀ k, kP (kPut c i pl ln v ls) j k = kP c j k := fun k => if_neg e
          unfold kPl
          rw [q, q, q, q, q, kPut_A (t := rL j) (by unfold rL rP; omega) (by unfold rL; omega)]
        rw [kPut_A (by unfold rP; omega) (by unfold rP rL; omega), e3]
        exact hf _ _ (rP j) b5 b6 (by unfold rP; omega) (fun h => by have := PT_b h; unfold rP at this; omega) (by unfold rB rP; omega)
    · by_cases e : j = i
      · subst e
        rw [kPut_L]
        have q : kLn (kPut c j pl ln v ls) j = ls := if_pos rfl
        rw [q]
        exact hl
      · have q : kLn (kPut c i pl ln v ls) j = kLn c j := if_neg e
        rw [kPut_A (by unfold rL rP; omega) (by unfold rL; omega), q]
        obtain ⟨mod, xs, l1, l2, l3⟩ := b7
        refine ⟨mod, xs, hL (rL j) _ _ _ l1 (by unfold rL; omega) (fun h => by have := PT_b h; unfold rL at this; omega) (fun h => by have := PT_b h; unfold rL at this; omega) (by unfold rB rL; omega) (by unfold rB rL; omega), l2, fun k q z hq hz => ?_⟩
        obtain ⟨m1, m2⟩ := l3 k q z hq hz
        exact hf _ _ (rO j) m1 m2 (by unfold rO; omega) (fun h => by have := PT_b h; unfold rO at this; omega) (by unfold rB rO; omega)
theorem CSys.ext {G : zG} {σ : zT} {c c3 : zCS} (hS : CSys G σ c3) (hE : KEq c c3) (hF : kF c3 = kF c) (hP : ∀ i, i < kN c → kA c3 (rP i) = kA c (rP i) ∧ kA c3 (rL i) = kA c (rL i) ∧ (∀ k, kP c3 i k = kP c i k) ∧ kLn c3 i = kLn c i) : CSys G σ c := by
  obtain ⟨a1, a3, a4, a5⟩ := hS
  have hb : ∀ j, kA c3 (rB j) = kA c (rB j) := hE.b
  refine ⟨?_, ?_, fun i hi => ?_, ?_⟩
  · rw [hE.one, hE.two, hE.2.2.2.2.2.2.2.1, hE.2.2.2.2.2.2.2.2] at a1; exact a1
  · rw [hE.two, hE.m, hE.n] at a3; simp only [hb] at a3; exact a3
  · obtain ⟨p1, p2, p3, p4⟩ := hP i hi
    obtain ⟨b1, b3, b4, b5, b7⟩ := a4 i (hE.nn hi)
    have e1 : kBx c3 i = kBx c i := by
      have q1 : kPr c3 i = kPr c i := by
        unfold kPr
        rw [hE.par]
        congr 1
        funext p
        exact hb p
      unfold kBx
      rw [q1, hE.rc, hE.rw, p1, hE.one, hF]
    have e2 : kPl c3 i = kPl c i := by unfold kPl; rw [p2]; simp only [p3]
    rw [hb, e1] at b1
    rw [hE.rc, hE.m, hE.ch] at b3
    simp only [hb] at b3
    rw [hE.rw, hE.m, hE.wd] at b4
    rw [p1, e2] at b5
    rw [p2, p4] at b7
    exact ⟨b1, b3, b4, b5, b7⟩
  · refine ⟨by rw [← hE.n]; exact a5.1, fun i hi => ?_⟩
    obtain ⟨h1, h2, h3, h4, h5⟩ := a5.2 i (hE.nn hi)
    rw [hE.par] at h1
    rw [hE.ch, hE.n] at h2
    simp only [hE.par] at h2
    rw [hE.ch] at h3
    rw [hE.wd] at h4
    rw [hF] at h5
    exact ⟨h1, h2, h3, h4, h5⟩
