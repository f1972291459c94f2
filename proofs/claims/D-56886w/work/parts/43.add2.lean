/-! ===== ArrayList.add, clear; Integer.valueOf (rows printed by tools/p43.py) ===== -/
theorem zL_snoc {xs : List Nat} {x : Nat} {f f2 : Nat → Option Nat} (h : ∀ j, j < xs.length → f2 j = xs[j]?) (hf : va_up f2 xs.length (some x) = f) : ∀ j, j < (xs ++ [x]).length → f j = (xs ++ [x])[j]? := by
  intro j hj
  subst hf
  rw [List.length_append, List.length_singleton] at hj
  by_cases c : j = xs.length
  · subst c
    simp [va_up]
  · have hl : j < xs.length := by omega
    rw [List.getElem?_append_left hl]
    simp [va_up, c, h j hl]

set_option maxHeartbeats 4000000 in
theorem c_J2_add_2 {G : zG} {σ : zT} {d : Nat} {t l x arr cap : Nat} {mod : Int32} {xs : List Nat} {f : Nat → Option Nat} (hd : 5 ≤ d) (hG : zOk G) (hw : zWf σ) (h1 : sF σ l = some (.inr (20, [.int mod, .ref arr, .int (nI xs.length)]))) (ht : sT σ l = t) (hcx : xs.length ≤ cap) (hc : cap ≤ 1000000) (hlen : xs.length ≤ 1000) (hf : ∀ j, j < xs.length → f j = xs[j]?) (ha : (cap = 0 ∧ arr = zc G 0 ∧ f = fun _ => none) ∨ (0 < cap ∧ sF σ arr = some (aO G cap f) ∧ sT σ arr = t + 1)) (hB : ∀ a e, sF σ a = some e → zB G ≤ a) (hx : zEl G σ x) (hel : ∀ y, y ∈ xs → zEl G σ y) : zCall G I_J2_add_2 d [.ref l, .ref x, .ref arr, .int (nI xs.length)] σ ((fun o σ' => o = .inl none ∧ zL G σ' t l mod (xs ++ [x]) ∧ zFr (fun s => s = t ∨ s = t + 1) σ σ' ∧ zWf σ' ∧ sM σ' ≤ sM σ + 14 + 2 * xs.length ∧ (∀ a e, sF σ' a = some e → zB G ≤ a) ∧ (∀ y, zEl G σ y → zEl G σ' y) ∧ ((∀ a, a < sZ σ → sT σ a < 10000 + 2 * sZ σ) → ∀ a, a < sZ σ' → sT σ' a < 10000 + 2 * sZ σ'))) := by
  refine zCall_of (ls := [(0, .ref l), (1, .ref x), (2, .ref arr), (3, .int (nI xs.length))]) (by decide) (Nat.le_of_ble_eq_true rfl) rfl ?_
  have har := zL.arr hG ha
  have hla : sF σ arr = some (aO G cap f) → l ≠ arr := fun h => fun e => by subst e; rw [h1] at h; cases h
  refine zr_iload_n dJ2_add_2_0 rfl rfl ?_
  refine zr_aload_n dJ2_add_2_1 rfl rfl ?_
  refine zr_alenO (v := nI cap) har rfl dJ2_add_2_2 ?_
  refine zr_icmp_ne (tgt := 11) dJ2_add_2_3 (by decide) (fun c => ?_) (fun c => ?_)
  · have hlt : xs.length < cap := by
      rcases Nat.lt_or_ge xs.length cap with h | h
      · exact h
      · exact absurd (by rw [show xs.length = cap by omega]) c
    obtain ⟨hc0, hsa, hta⟩ := ha.resolve_left (fun h => absurd h.1 (by omega))
    obtain ⟨ci, vs, C, T, N, x1, x2, x3⟩ := id hx
    refine zr_aload_n dJ2_add_2_11 rfl rfl ?_
    refine zr_iload_n dJ2_add_2_12 rfl rfl ?_
    refine zr_aload_n dJ2_add_2_13 rfl rfl ?_
    refine zr_aast hsa x1 x2 x3 (vp_in_nI hlt (by omega)) (by rw [nI_clamp (by omega)]) dJ2_add_2_14 ?_
    refine zr_aload_n dJ2_add_2_15 rfl rfl ?_
    refine zr_iload_n dJ2_add_2_16 rfl rfl ?_
    refine zr_iconst (v := 1) dJ2_add_2_17 (by decide) ?_
    refine zr_iadd dJ2_add_2_18 ?_
    rw [show nI xs.length + 1 = nI (xs.length + 1) from nI_1 _]
    refine zr_put (k := 2) (fs' := [.int mod, .ref arr, .int (nI (xs.length + 1))]) zt_J2 ((sF_upN _ _ _ (hla hsa)).trans h1) rfl (Nat.le_of_ble_eq_true rfl) q133 (.inl rfl) rfl rfl rfl (Nat.le_of_ble_eq_true rfl) rfl dJ2_add_2_19 ?_
    have hl2 : (xs ++ [x]).length = xs.length + 1 := by simp
    refine zr_vret rfl dJ2_add_2_22 ⟨rfl, ⟨arr, cap, va_up f xs.length (some x), by rw [sF_upS, hl2], ht, by omega, by omega, zL_snoc hf rfl, Or.inr ⟨hc0, by rw [sF_upN _ _ _ (hla hsa).symm, sF_upS], hta⟩⟩, (zFr.up _ (Or.inr hta)).trans (zFr.up _ (Or.inl ht)), (hw.up _ hsa).up _ ((sF_upN _ _ _ (hla hsa)).trans h1), by show sM σ ≤ _; omega, fun z e hz => ?_, fun z hz => (hz.upA hsa).upL ((sF_upN _ _ _ (hla hsa)).trans h1), fun h => h⟩
    rw [sF_up, sF_up] at hz
    by_cases z1 : z = l
    · exact z1 ▸ hB _ _ h1
    · rw [if_neg z1] at hz
      by_cases z2 : z = arr
      · exact z2 ▸ hB _ _ hsa
      · rw [if_neg z2] at hz
        exact hB _ _ hz
  · have hcc : cap = xs.length := ((nI_eq (by omega) (by omega)).mp c).symm
    subst hcc
    have hfe : ∀ j, j < xs.length → ∀ y, f j = some y → zEl G σ y := fun j hj y hy => hel y (List.mem_of_getElem? ((hf j hj).symm.trans hy))
    obtain ⟨_, _, ⟨rfl, cap2, f2, hg, rfl⟩, hC⟩ := c_J2_grow (d := d - 1) (t := t) (by omega) hG hw h1 (by omega) ha hB hfe
    obtain ⟨ci, vs, C, T, N, x1, x2, x3⟩ := id hx
    have hlz : l ≠ sZ σ := Nat.ne_of_lt (hw _ _ h1)
    refine zr_aload_n dJ2_add_2_6 rfl rfl ?_
    refine zr_call1 (rest := []) (zs_V (As := []) (by omega) ok_J2_grow q364 q366 qs2 q56 q367 rfl (.new h1) rfl rfl rfl (Nat.le_of_ble_eq_true rfl) dJ2_add_2_7) hC ?_
    refine zr_astore_n (ls2 := [(0, .ref l), (1, .ref x), (2, .ref (sZ σ)), (3, .int (nI xs.length))]) dJ2_add_2_10 rfl (Nat.le_of_ble_eq_true rfl) rfl ?_
    refine zr_aload_n dJ2_add_2_11 rfl rfl ?_
    refine zr_iload_n dJ2_add_2_12 rfl rfl ?_
    refine zr_aload_n dJ2_add_2_13 rfl rfl ?_
    have hxz : x ≠ sZ σ ∨ ¬ sF σ x = some (.inr (ci, vs)) := by
      rcases x1 with h | h
      · exact Or.inl (Nat.ne_of_lt (hw _ _ h))
      · exact Or.inr (fun h2 => absurd (hB _ _ h2) (by omega))
    obtain ⟨ci2, vs2, C2, T2, N2, y1, y2, y3⟩ := ((hx.new hw (t + 1) (aO G cap2 f2) cap2).upL (gs := [.int mod, .ref (sZ σ), .int (nI xs.length)]) ((sF_newN _ _ _ _ hlz).trans h1))
    refine zr_aast ((sF_upN _ _ _ hlz.symm).trans (sF_newS _ _ _ _)) y1 y2 y3 (vp_in_nI hg.1 (by have := hg.2.1; omega)) (by rw [nI_clamp (by omega)]) dJ2_add_2_14 ?_
    refine zr_aload_n dJ2_add_2_15 rfl rfl ?_
    refine zr_iload_n dJ2_add_2_16 rfl rfl ?_
    refine zr_iconst (v := 1) dJ2_add_2_17 (by decide) ?_
    refine zr_iadd dJ2_add_2_18 ?_
    rw [show nI xs.length + 1 = nI (xs.length + 1) from nI_1 _]
    refine zr_put (k := 2) (fs' := [.int mod, .ref (sZ σ), .int (nI (xs.length + 1))]) zt_J2 ((sF_upN _ _ _ hlz).trans (sF_upS _ _ _)) rfl (Nat.le_of_ble_eq_true rfl) q133 (.inl rfl) rfl rfl rfl (Nat.le_of_ble_eq_true rfl) rfl dJ2_add_2_19 ?_
    have hl2 : (xs ++ [x]).length = xs.length + 1 := by simp
    obtain ⟨g1, g2, g3, g4, g5⟩ := hg
    refine zr_vret rfl dJ2_add_2_22 ⟨rfl, ⟨sZ σ, cap2, va_up f2 xs.length (some x), by rw [sF_upS, hl2], ?_, by omega, by omega, zL_snoc (fun j hj => (g5 j hj).trans (hf j hj)) rfl, Or.inr ⟨by omega, by rw [sF_upN _ _ _ hlz.symm, sF_upS], ?_⟩⟩, ?_, ?_, ?_, fun z e hz => ?_, fun z hz => ?_, fun h z hz => ?_⟩
    · show sT (sNew σ (t + 1) (aO G cap2 f2) cap2) l = t
      rw [sT_newN _ _ _ _ hlz]; exact ht
    · show sT (sNew σ (t + 1) (aO G cap2 f2) cap2) (sZ σ) = t + 1
      exact sT_newS _ _ _ _
    · refine (zFr.new _ σ (t + 1) (aO G cap2 f2) cap2).trans (((zFr.up _ (Or.inl ?_)).trans (zFr.up _ (Or.inr ?_))).trans (zFr.up _ (Or.inl ?_)))
      · rw [sT_newN _ _ _ _ hlz]; exact ht
      · rw [sT_up]; exact sT_newS _ _ _ _
      · rw [sT_up, sT_up, sT_newN _ _ _ _ hlz]; exact ht
    · exact (((hw.new _ _ _).up _ ((sF_newN _ _ _ _ hlz).trans h1)).up _ ((sF_upN _ _ _ hlz.symm).trans (sF_newS _ _ _ _))).up _ ((sF_upN _ _ _ hlz).trans (sF_upS _ _ _))
    · show sL σ + cap2 + 4 * (sZ σ + 1) ≤ sL σ + 4 * sZ σ + 14 + 2 * xs.length
      rcases Nat.eq_zero_or_pos xs.length with h | h
      · have := g3 h; omega
      · have := g4 h; omega
    · rw [sF_up, sF_up, sF_up, sF_new] at hz
      by_cases z1 : z = l
      · exact z1 ▸ hB _ _ h1
      · rw [if_neg z1] at hz
        by_cases z2 : z = sZ σ
        · have := hB _ _ h1
          have := hw _ _ h1
          omega
        · rw [if_neg z2, if_neg z1, if_neg z2] at hz
          exact hB _ _ hz
    · exact (((hz.new hw _ _ _).upL ((sF_newN _ _ _ _ hlz).trans h1)).upA ((sF_upN _ _ _ hlz.symm).trans (sF_newS _ _ _ _))).upL ((sF_upN _ _ _ hlz).trans (sF_upS _ _ _))
    · have h7 : z < sZ σ + 1 := hz
      show sT (sNew σ (t + 1) (aO G cap2 f2) cap2) z < 10000 + 2 * (sZ σ + 1)
      rw [sT_new]
      have h8 := h l (hw _ _ h1)
      rw [ht] at h8
      by_cases c : z = sZ σ
      · rw [if_pos c]; omega
      · rw [if_neg c]
        have := h z (by omega)
        omega
/-- a sound store: cells are new ones, below the heap's end -/
def zGd (G : zG) (σ : zT) : Prop := zWf σ ∧ (∀ a e, sF σ a = some e → zB G ≤ a) ∧ zB G ≤ sZ σ ∧ ∀ a, a < sZ σ → sT σ a < 10000 + 2 * sZ σ
theorem zGd.up {G : zG} {σ : zT} (h : zGd G σ) {a : Nat} {e0 : va_E} (e : va_E) (ha : sF σ a = some e0) : zGd G (sUp σ a e) :=
  ⟨h.1.up e ha, fun x e9 hx => by
    rw [sF_up] at hx
    by_cases c : x = a
    · subst c; exact h.2.1 _ _ ha
    · rw [if_neg c] at hx; exact h.2.1 _ _ hx, h.2.2⟩
theorem zGd.new {G : zG} {σ : zT} (h : zGd G σ) (t : Nat) (ht : t < 10002 + 2 * sZ σ) (e : va_E) (n : Nat) : zGd G (sNew σ t e n) :=
  ⟨h.1.new t e n, fun x e9 hx => by
    rw [sF_new] at hx
    by_cases c : x = sZ σ
    · subst c; exact h.2.2.1
    · rw [if_neg c] at hx; exact h.2.1 _ _ hx, Nat.le_succ_of_le h.2.2.1, fun x hx => by
    rw [sZ_new] at hx ⊢
    rw [sT_new]
    by_cases c : x = sZ σ
    · rw [if_pos c]; omega
    · rw [if_neg c]
      have := h.2.2.2 x (by omega)
      omega⟩
/-- elements stay elements -/
def zEk (G : zG) (σ σ' : zT) : Prop := ∀ y, zEl G σ y → zEl G σ' y
theorem zEk.rf (G : zG) (σ : zT) : zEk G σ σ := fun _ h => h
theorem zEk.trans {G : zG} {σ σ1 σ2 : zT} (h1 : zEk G σ σ1) (h2 : zEk G σ1 σ2) : zEk G σ σ2 := fun y h => h2 y (h1 y h)
theorem zEk.new {G : zG} {σ : zT} (h : zGd G σ) (t : Nat) (e : va_E) (n : Nat) : zEk G σ (sNew σ t e n) := fun y hy => hy.new h.1 t e n
/-- an object stays one of its class -/
theorem zEk.up {G : zG} {σ : zT} {a ci : Nat} {fs gs : List Value} (ha : sF σ a = some (.inr (ci, fs))) : zEk G σ (sUp σ a (.inr (ci, gs))) := by
  intro x ⟨ci2, vs, C, T, N, h1, h2, h3⟩
  by_cases hx : x = a
  · subst hx
    rcases h1 with h1 | h1
    · rw [ha] at h1
      cases h1
      exact ⟨ci, gs, C, T, N, .new (sF_upS _ _ _), h2, h3⟩
    · exact ⟨ci2, vs, C, T, N, Or.inr h1, h2, h3⟩
  · exact ⟨ci2, vs, C, T, N, h1.upN hx _, h2, h3⟩
theorem zEk.upA {G : zG} {σ : zT} {a : Nat} {A A2 : ClassId × vp_A} (ha : sF σ a = some (.inl A)) : zEk G σ (sUp σ a (.inl A2)) := fun y h => h.upA ha

set_option maxHeartbeats 4000000 in
theorem c_J2_add {G : zG} {σ : zT} {d : Nat} {t l x : Nat} {mod : Int32} {xs : List Nat} (hd : 6 ≤ d) (hG : zOk G) (hw : zGd G σ) (hL : zL G σ t l mod xs) (hlen : xs.length ≤ 1000) (hx : zEl G σ x) (hel : ∀ y, y ∈ xs → zEl G σ y) : zCall G I_J2_add d [.ref l, .ref x] σ ((fun o σ' => o = .inl (some (.int 1)) ∧ zL G σ' t l (mod + 1) (xs ++ [x]) ∧ zFr (fun s => s = t ∨ s = t + 1) σ σ' ∧ zGd G σ' ∧ sM σ' ≤ sM σ + 14 + 2 * xs.length ∧ zEk G σ σ')) := by
  refine zCall_of (ls := [(0, .ref l), (1, .ref x)]) (by decide) (Nat.le_of_ble_eq_true rfl) rfl ?_
  obtain ⟨arr, cap, f, h1, ht, hcx, hc, hf, ha⟩ := hL
  have hla : sF σ arr = some (aO G cap f) → arr ≠ l := fun h => fun e => by subst e; rw [h1] at h; cases h
  have hk := zEk.up (G := G) (gs := [.int (mod + 1), .ref arr, .int (nI xs.length)]) h1
  have hw1 := hw.up (.inr (20, [.int (mod + 1), .ref arr, .int (nI xs.length)])) h1
  obtain ⟨_, σ1, ⟨rfl, p1, p2, p3, p4, p5, p6, p7⟩, hC⟩ := c_J2_add_2 (d := d - 1) (x := x) (xs := xs) (t := t) (mod := mod + 1) (σ := sUp σ l (.inr (20, [.int (mod + 1), .ref arr, .int (nI xs.length)]))) (by omega) hG hw1.1 (sF_upS _ _ _) ht hcx hc hlen hf (ha.imp_right (fun h => ⟨h.1, by rw [sF_upN _ _ _ (hla h.2.1)]; exact h.2.1, h.2.2⟩)) hw1.2.1 (hk _ hx) (fun y hy => hk _ (hel y hy))
  refine zr_aload_n dJ2_add_0 rfl rfl ?_
  refine zr_dup dJ2_add_1 rfl ?_
  refine zr_get (k := 0) (v := .int mod) in_J2 (.new h1) rfl (Nat.le_of_ble_eq_true rfl) q143 (.inr q136) rfl dJ2_add_2 ?_
  refine zr_iconst (v := 1) dJ2_add_5 (by decide) ?_
  refine zr_iadd dJ2_add_6 ?_
  refine zr_put (k := 0) (fs' := [.int (mod + 1), .ref arr, .int (nI xs.length)]) zt_J2 h1 rfl (Nat.le_of_ble_eq_true rfl) q143 (.inr q136) rfl rfl rfl (Nat.le_of_ble_eq_true rfl) rfl dJ2_add_7 ?_
  refine zr_aload_n dJ2_add_10 rfl rfl ?_
  refine zr_aload_n dJ2_add_11 rfl rfl ?_
  refine zr_aload_n dJ2_add_12 rfl rfl ?_
  refine zr_get (k := 1) (v := .ref arr) in_J2 (.new (sF_upS _ _ _)) rfl (Nat.le_of_ble_eq_true rfl) q128 (.inl rfl) rfl dJ2_add_13 ?_
  refine zr_aload_n dJ2_add_16 rfl rfl ?_
  refine zr_get (k := 2) (v := .int (nI xs.length)) in_J2 (.new (sF_upS _ _ _)) rfl (Nat.le_of_ble_eq_true rfl) q133 (.inl rfl) rfl dJ2_add_17 ?_
  refine zr_callv (rest := []) (zs_V (As := [.ref x, .ref arr, .int (nI xs.length)]) (by omega) ok_J2_add_2 q360 q362 qs1 q56 q363 rfl (.new (sF_upS _ _ _)) rfl rfl rfl (Nat.le_of_ble_eq_true rfl) dJ2_add_20) hC ?_
  refine zr_iconst (v := 1) dJ2_add_23 (by decide) ?_
  exact zr_iret rfl rfl dJ2_add_24 (⟨rfl, p1, (zFr.up _ (Or.inl ht)).trans p2, ⟨p3, p5, Nat.le_trans hw.2.2.1 p2.1, p7 hw.2.2.2⟩, p4, hk.trans p6⟩)
