/-! ===== ArrayList.add, its growth, copies; Integer.valueOf (rows printed by tools/p42.py) ===== -/
theorem imax_nI {a b : Nat} (ha : a < 2 ^ 31) (hb : b < 2 ^ 31) : imax (nI a) (nI b) = nI (max a b) := by
  unfold imax
  by_cases h : a < b
  · rw [if_pos (nI_lt h hb), Nat.max_eq_right (by omega)]
  · rw [if_neg (nI_nlt (by omega) ha), Nat.max_eq_left (by omega)]
theorem imin_nI {a b : Nat} (ha : a < 2 ^ 31) (hb : b < 2 ^ 31) : imin (nI a) (nI b) = nI (min a b) := by
  unfold imin
  by_cases h : b < a
  · rw [if_pos (nI_lt h ha), Nat.min_eq_right (by omega)]
  · rw [if_neg (nI_nlt (by omega) hb), Nat.min_eq_left (by omega)]
theorem zEl.new {G : zG} {σ : zT} (hw : zWf σ) {x : Nat} (h : zEl G σ x) (t : Nat) (e : va_E) (n : Nat) : zEl G (sNew σ t e n) x := by
  obtain ⟨ci, vs, C, T, N, h1, h2, h3⟩ := h
  refine ⟨ci, vs, C, T, N, ?_, h2, h3⟩
  rcases h1 with h1 | h1
  · exact Or.inl (by rw [sF_newN σ t e n (Nat.ne_of_lt (hw _ _ h1))]; exact h1)
  · exact Or.inr h1
theorem zAt.newN {G : zG} {σ : zT} (hw : zWf σ) {a : Nat} {e0 : va_E} (h : zAt G σ a e0) (t : Nat) (e : va_E) (n : Nat) : zAt G (sNew σ t e n) a e0 := by
  rcases h with h1 | h1
  · exact Or.inl (by rw [sF_newN σ t e n (Nat.ne_of_lt (hw _ _ h1))]; exact h1)
  · exact Or.inr h1
/-- a list's own cell may change: an element is no list -/
theorem zEl.upL {G : zG} {σ : zT} {x l : Nat} {fs gs : List Value} (h : zEl G σ x) (hl : sF σ l = some (.inr (20, fs))) : zEl G (sUp σ l (.inr (20, gs))) x := by
  obtain ⟨ci, vs, C, T, N, h1, h2, h3⟩ := h
  by_cases hx : x = l
  · subst hx
    rcases h1 with h1 | h1
    · rw [hl] at h1
      cases h1
      exact ⟨20, gs, C, T, N, .new (sF_upS _ _ _), h2, h3⟩
    · exact ⟨ci, vs, C, T, N, Or.inr h1, h2, h3⟩
  · exact ⟨ci, vs, C, T, N, h1.upN hx _, h2, h3⟩
theorem zEl.upA {G : zG} {σ : zT} {x a : Nat} {A A2 : ClassId × vp_A} (h : zEl G σ x) (ha : sF σ a = some (.inl A)) : zEl G (sUp σ a (.inl A2)) x := by
  obtain ⟨ci, vs, C, T, N, h1, h2, h3⟩ := h
  refine ⟨ci, vs, C, T, N, ?_, h2, h3⟩
  rcases h1 with h1 | h1
  · exact Or.inl (by rw [sF_upN σ a _ (fun e => by subst e; rw [ha] at h1; cases h1)]; exact h1)
  · exact Or.inr h1

set_option maxHeartbeats 4000000 in
theorem c_J3_newLength {G : zG} {σ : zT} {d : Nat} {a b c : Nat} (hd : 1 ≤ d) (h0 : 0 < a + max b c) (h : a + max b c ≤ 2000000) : zC G I_J3_newLength d [.int (nI a), .int (nI b), .int (nI c)] σ (.inl (some (.int (nI (a + max b c))))) σ := by
  refine zCall.exact (zCall_of (ls := [(0, .int (nI a)), (1, .int (nI b)), (2, .int (nI c))]) (by decide) (Nat.le_of_ble_eq_true rfl) rfl ?_)
  refine zr_iload_n dJ3_newLength_0 rfl rfl ?_
  refine zr_iload_n dJ3_newLength_1 rfl rfl ?_
  refine zr_iload_n dJ3_newLength_2 rfl rfl ?_
  refine zr_max (by omega) q375 q376 q60 q377 (Nat.le_of_ble_eq_true rfl) dJ3_newLength_3 ?_
  rw [imax_nI (by omega) (by omega)]
  refine zr_iadd dJ3_newLength_6 ?_
  rw [nI_add]
  refine zr_istore_n (ls2 := [(0, .int (nI a)), (1, .int (nI b)), (2, .int (nI c)), (3, .int (nI (a + max b c)))]) dJ3_newLength_7 rfl (Nat.le_of_ble_eq_true rfl) rfl ?_
  refine zr_iconst (v := 0) dJ3_newLength_8 (by decide) ?_
  refine zr_iload_n dJ3_newLength_9 rfl rfl ?_
  refine zr_icmp_ge (tgt := 21) dJ3_newLength_10 (by decide) (fun h9 => absurd h9 (nI_nle h0 (by omega))) (fun _ => ?_)
  refine zr_iload_n dJ3_newLength_13 rfl rfl ?_
  refine zr_ldc (v := 2147483639) q378 dJ3_newLength_14 ?_
  refine zr_icmp_gt (tgt := 21) dJ3_newLength_16 (by decide) (fun h9 => absurd h9 (by rw [show (2147483639 : Int32) = nI 2147483639 from rfl]; exact nI_nlt (by omega) (by omega))) (fun _ => ?_)
  refine zr_iload_n dJ3_newLength_19 rfl rfl ?_
  exact zr_iret rfl rfl dJ3_newLength_20 (⟨rfl, rfl⟩)
set_option maxHeartbeats 4000000 in
theorem c_J5_copyOf_2 {G : zG} {σ : zT} {d : Nat} {a c n : Nat} {f : Nat → Option Nat} (t : Nat) (hd : 1 ≤ d) (hG : zOk G) (hw : zWf σ) (ha : zAt G σ a (aO G c f)) (hc : c ≤ 1000000) (hn : n ≤ 2000000) (hel : ∀ j, j < min c n → ∀ x, f j = some x → zEl G σ x) : zC G I_J5_copyOf_2 d [.ref a, .int (nI n), .ref (zc G 3)] σ (.inl (some (.ref (sZ σ)))) (sNew σ t (aO G n (va_cpy f (fun _ => none) 0 0 (min c n))) n) := by
  refine zCall.exact (zCall_of (ls := [(0, .ref a), (1, .int (nI n)), (2, .ref (zc G 3))]) (by decide) (Nat.le_of_ble_eq_true rfl) rfl ?_)
  refine zr_aload_n dJ5_copyOf_2_0 rfl rfl ?_
  refine zr_ldcM (mi := zc G 3) (fun U h => h.2.2.2.2.2.2.1) q427 dJ5_copyOf_2_1 ?_
  refine zr_acmp_ne (rx := (some ((zc G 3)))) (ry := (some ((zc G 3)))) (tgt := 13) dJ5_copyOf_2_3 (by decide) (fun h9 => absurd (rfl) h9) (fun _ => ?_)
  refine zr_iload_n dJ5_copyOf_2_6 rfl rfl ?_
  refine zr_newaO (t) q429 q428 (nI_pos (by omega)) (nI_clamp (by omega)) (by omega) dJ5_copyOf_2_7 ?_
  refine zr_goto (tgt := 24) dJ5_copyOf_2_10 (by decide) ?_
  refine zr_astore_n (ls2 := [(0, .ref a), (1, .int (nI n)), (2, .ref (zc G 3)), (3, .ref (sZ σ))]) dJ5_copyOf_2_24 rfl (Nat.le_of_ble_eq_true rfl) rfl ?_
  refine zr_aload_n dJ5_copyOf_2_25 rfl rfl ?_
  refine zr_iconst (v := 0) dJ5_copyOf_2_26 (by decide) ?_
  refine zr_aload_n dJ5_copyOf_2_27 rfl rfl ?_
  refine zr_iconst (v := 0) dJ5_copyOf_2_28 (by decide) ?_
  refine zr_aload_n dJ5_copyOf_2_29 rfl rfl ?_
  refine zr_alenO (v := nI c) (ha.newN hw _ _ _) rfl dJ5_copyOf_2_30 ?_
  refine zr_iload_n dJ5_copyOf_2_31 rfl rfl ?_
  refine zr_min (by omega) q430 q431 q60 q432 (Nat.le_of_ble_eq_true rfl) dJ5_copyOf_2_32 ?_
  rw [imin_nI (by omega) (by omega)]
  refine zr_copyO (f2 := va_cpy f (fun _ => none) 0 0 (min c n)) (by omega) q433 q435 q434 q62 (ha.newN hw _ _ _) (sF_newS _ _ _ _) (by decide) (by decide) (nI_pos (by omega)) (by rw [nI_clamp (by omega)]; show 0 + min c n ≤ c; omega) (by rw [nI_clamp (by omega)]; show 0 + min c n ≤ n; omega) (fun i hi z hz => ((hel (0 + i) (by rw [nI_clamp (by omega)] at hi; omega) z hz).new hw _ _ _)) (by rw [nI_clamp (by omega)]; rfl) (Nat.le_of_ble_eq_true rfl) dJ5_copyOf_2_35 ?_
  rw [sNew_up]
  refine zr_aload_n dJ5_copyOf_2_38 rfl rfl ?_
  exact zr_aret rfl (.inr ⟨_, rfl⟩) (.inr ⟨_, rfl⟩) dJ5_copyOf_2_39 (⟨rfl, rfl⟩)
set_option maxHeartbeats 4000000 in
theorem c_J5_copyOf {G : zG} {σ : zT} {d : Nat} {a c n : Nat} {f : Nat → Option Nat} (t : Nat) (hd : 2 ≤ d) (hG : zOk G) (hw : zWf σ) (ha : zAt G σ a (aO G c f)) (hc : c ≤ 1000000) (hn : n ≤ 2000000) (hel : ∀ j, j < min c n → ∀ x, f j = some x → zEl G σ x) : zC G I_J5_copyOf d [.ref a, .int (nI n)] σ (.inl (some (.ref (sZ σ)))) (sNew σ t (aO G n (va_cpy f (fun _ => none) 0 0 (min c n))) n) := by
  refine zCall.exact (zCall_of (ls := [(0, .ref a), (1, .int (nI n))]) (by decide) (Nat.le_of_ble_eq_true rfl) rfl ?_)
  refine zr_aload_n dJ5_copyOf_0 rfl rfl ?_
  refine zr_iload_n dJ5_copyOf_1 rfl rfl ?_
  refine zr_aload_n dJ5_copyOf_2 rfl rfl ?_
  refine zr_getCO (mi := zc G 3) (by omega) ha q385 q2655 q2882 q386 q423 (fun U h => h.2.2.2.2.2.2.1) (Nat.le_of_ble_eq_true rfl) dJ5_copyOf_3 ?_
  refine zr_call1 (rest := []) (zs_S (As := [.ref a, .int (nI n), .ref (zc G 3)]) (by omega) ok_J5_copyOf_2 q424 q425 q61 q426 rfl rfl (Nat.le_of_ble_eq_true rfl) dJ5_copyOf_6) (c_J5_copyOf_2 t (by omega) hG hw ha hc hn hel) ?_
  exact zr_aret rfl (.inr ⟨_, rfl⟩) (.inr ⟨_, rfl⟩) dJ5_copyOf_9 (⟨rfl, rfl⟩)
/-- a grown array: cap2 places, the first cap as they were -/
def zGr (cap cap2 : Nat) (f f2 : Nat → Option Nat) : Prop := cap < cap2 ∧ cap2 ≤ 2 * cap + 10 ∧ (cap = 0 → cap2 = 10) ∧ (0 < cap → cap2 ≤ 2 * cap) ∧ ∀ j, j < cap → f2 j = f j

set_option maxHeartbeats 4000000 in
theorem c_J2_grow_2 {G : zG} {σ : zT} {d : Nat} {t l arr cap : Nat} {mod : Int32} {f : Nat → Option Nat} (hd : 3 ≤ d) (hG : zOk G) (hw : zWf σ) (h1 : sF σ l = some (.inr (20, [.int mod, .ref arr, .int (nI cap)]))) (hc : cap ≤ 600000) (ha : (cap = 0 ∧ arr = zc G 0 ∧ f = fun _ => none) ∨ (0 < cap ∧ sF σ arr = some (aO G cap f) ∧ sT σ arr = t + 1)) (hB : ∀ a e, sF σ a = some e → zB G ≤ a) (hel : ∀ j, j < cap → ∀ x, f j = some x → zEl G σ x) : zCall G I_J2_grow_2 d [.ref l, .int (nI (cap + 1))] σ ((fun o σ' => o = .inl (some (.ref (sZ σ))) ∧ ∃ cap2 f2, zGr cap cap2 f f2 ∧ σ' = sUp (sNew σ (t + 1) (aO G cap2 f2) cap2) l (.inr (20, [.int mod, .ref (sZ σ), .int (nI cap)])))) := by
  refine zCall_of (ls := [(0, .ref l), (1, .int (nI (cap + 1)))]) (by decide) (Nat.le_of_ble_eq_true rfl) rfl ?_
  have har := zL.arr hG ha
  refine zr_aload_n dJ2_grow_2_0 rfl rfl ?_
  refine zr_get (k := 1) (v := .ref arr) in_J2 (.new h1) rfl (Nat.le_of_ble_eq_true rfl) q128 (.inl rfl) rfl dJ2_grow_2_1 ?_
  refine zr_alenO (v := nI cap) har rfl dJ2_grow_2_4 ?_
  refine zr_istore_n (ls2 := [(0, .ref l), (1, .int (nI (cap + 1))), (2, .int (nI cap))]) dJ2_grow_2_5 rfl (Nat.le_of_ble_eq_true rfl) rfl ?_
  refine zr_iload_n dJ2_grow_2_6 rfl rfl ?_
  refine zr_if_gt (tgt := 20) dJ2_grow_2_7 (by decide) (fun c => ?_) (fun c => ?_)
  · have h0 : 0 < cap := by
      rcases Nat.eq_zero_or_pos cap with h | h
      · subst h; exact absurd c (by decide)
      · exact h
    refine zr_iload_n dJ2_grow_2_20 rfl rfl ?_
    refine zr_iload_n dJ2_grow_2_21 rfl rfl ?_
    refine zr_iload_n dJ2_grow_2_22 rfl rfl ?_
    refine zr_isub dJ2_grow_2_23 ?_
    rw [show nI (cap + 1) - nI cap = nI 1 from by rw [pk_sub (by omega), show cap + 1 - cap = 1 by omega]]
    refine zr_iload_n dJ2_grow_2_24 rfl rfl ?_
    refine zr_iconst (v := 1) dJ2_grow_2_25 (by decide) ?_
    refine zr_ishr dJ2_grow_2_26 ?_
    rw [pk_shrN (n := cap) (by omega) ((1 : Int32) &&& 31) 1 (by decide)]
    refine zr_call1 (rest := []) (zs_S (As := [.int (nI cap), .int (nI 1), .int (nI (cap / 2 ^ 1))]) (by omega) ok_J3_newLength q372 q373 q59 q374 rfl rfl (Nat.le_of_ble_eq_true rfl) dJ2_grow_2_27) (c_J3_newLength (a := cap) (b := 1) (c := cap / 2 ^ 1) (by omega) (by omega) (by omega)) ?_
    refine zr_istore_n (ls2 := [(0, .ref l), (1, .int (nI (cap + 1))), (2, .int (nI cap)), (3, .int (nI (cap + max 1 (cap / 2 ^ 1))))]) dJ2_grow_2_30 rfl (Nat.le_of_ble_eq_true rfl) rfl ?_
    refine zr_aload_n dJ2_grow_2_31 rfl rfl ?_
    refine zr_aload_n dJ2_grow_2_32 rfl rfl ?_
    refine zr_get (k := 1) (v := .ref arr) in_J2 (.new h1) rfl (Nat.le_of_ble_eq_true rfl) q128 (.inl rfl) rfl dJ2_grow_2_33 ?_
    refine zr_iload_n dJ2_grow_2_36 rfl rfl ?_
    refine zr_call1 (rest := [.ref l]) (zs_S (As := [.ref arr, .int (nI (cap + max 1 (cap / 2 ^ 1)))]) (by omega) ok_J5_copyOf q382 q383 q61 q384 rfl rfl (Nat.le_of_ble_eq_true rfl) dJ2_grow_2_37) (c_J5_copyOf (c := cap) (n := cap + max 1 (cap / 2 ^ 1)) (t + 1) (by omega) hG hw har (by omega) (by omega) (fun j hj => hel j (Nat.lt_of_lt_of_le hj (Nat.min_le_left _ _)))) ?_
    refine zr_dup_x1 dJ2_grow_2_40 rfl rfl ?_
    refine zr_put (k := 1) (fs' := [.int mod, .ref (sZ σ), .int (nI cap)]) zt_J2 ((sF_newN _ _ _ _ (Nat.ne_of_lt (hw _ _ h1))).trans h1) rfl (Nat.le_of_ble_eq_true rfl) q128 (.inl rfl) rfl rfl rfl (Nat.le_of_ble_eq_true rfl) rfl dJ2_grow_2_41 ?_
    exact zr_aret rfl (.inr ⟨_, rfl⟩) (.inr ⟨_, rfl⟩) dJ2_grow_2_44 (⟨rfl, _, _, ⟨by omega, by omega, by omega, by omega, fun j hj => by rw [pk_cpy_in (by omega) (by omega)]; simp⟩, rfl⟩)
  · have h0 : cap = 0 := by
      rcases Nat.eq_zero_or_pos cap with h | h
      · exact h
      · exact absurd (nI_lt (a := 0) h (by omega)) c
    subst h0
    obtain ⟨-, rfl, rfl⟩ := ha.resolve_right (fun h => absurd h.1 (by omega))
    refine zr_aload_n dJ2_grow_2_10 rfl rfl ?_
    refine zr_get (k := 1) (v := .ref (zc G 0)) in_J2 (.new h1) rfl (Nat.le_of_ble_eq_true rfl) q128 (.inl rfl) rfl dJ2_grow_2_11 ?_
    refine zr_gets (v := .ref (zc G 0)) hG.1 (fun U h => h.1) q126 (.inl rfl) dJ2_grow_2_14 ?_
    refine zr_acmp_eq (rx := (some ((zc G 0)))) (ry := (some ((zc G 0)))) (tgt := 45) dJ2_grow_2_17 (by decide) (fun _ => ?_) (fun h9 => absurd (rfl) h9)
    refine zr_aload_n dJ2_grow_2_45 rfl rfl ?_
    refine zr_bipush (v := 10) dJ2_grow_2_46 (by decide) ?_
    refine zr_iload_n dJ2_grow_2_48 rfl rfl ?_
    refine zr_max (by omega) q436 q376 q60 q377 (Nat.le_of_ble_eq_true rfl) dJ2_grow_2_49 ?_
    refine zr_newaO (N' := 10) (t + 1) q437 q428 (by decide) (by decide) (by omega) dJ2_grow_2_52 ?_
    refine zr_dup_x1 dJ2_grow_2_55 rfl rfl ?_
    refine zr_put (k := 1) (fs' := [.int mod, .ref (sZ σ), .int (nI 0)]) zt_J2 ((sF_newN _ _ _ _ (Nat.ne_of_lt (hw _ _ h1))).trans h1) rfl (Nat.le_of_ble_eq_true rfl) q128 (.inl rfl) rfl rfl rfl (Nat.le_of_ble_eq_true rfl) rfl dJ2_grow_2_56 ?_
    exact zr_aret rfl (.inr ⟨_, rfl⟩) (.inr ⟨_, rfl⟩) dJ2_grow_2_59 (⟨rfl, 10, _, ⟨by omega, by omega, by omega, by omega, fun j hj => absurd hj (by omega)⟩, rfl⟩)
set_option maxHeartbeats 4000000 in
theorem c_J2_grow {G : zG} {σ : zT} {d : Nat} {t l arr cap : Nat} {mod : Int32} {f : Nat → Option Nat} (hd : 4 ≤ d) (hG : zOk G) (hw : zWf σ) (h1 : sF σ l = some (.inr (20, [.int mod, .ref arr, .int (nI cap)]))) (hc : cap ≤ 600000) (ha : (cap = 0 ∧ arr = zc G 0 ∧ f = fun _ => none) ∨ (0 < cap ∧ sF σ arr = some (aO G cap f) ∧ sT σ arr = t + 1)) (hB : ∀ a e, sF σ a = some e → zB G ≤ a) (hel : ∀ j, j < cap → ∀ x, f j = some x → zEl G σ x) : zCall G I_J2_grow d [.ref l] σ ((fun o σ' => o = .inl (some (.ref (sZ σ))) ∧ ∃ cap2 f2, zGr cap cap2 f f2 ∧ σ' = sUp (sNew σ (t + 1) (aO G cap2 f2) cap2) l (.inr (20, [.int mod, .ref (sZ σ), .int (nI cap)])))) := by
  refine zCall_of (ls := [(0, .ref l)]) (by decide) (Nat.le_of_ble_eq_true rfl) rfl ?_
  obtain ⟨_, _, ⟨rfl, cap2, f2, hg, rfl⟩, hC⟩ := c_J2_grow_2 (d := d - 1) (t := t) (by omega) hG hw h1 hc ha hB hel
  refine zr_aload_n dJ2_grow_0 rfl rfl ?_
  refine zr_aload_n dJ2_grow_1 rfl rfl ?_
  refine zr_get (k := 2) (v := .int (nI cap)) in_J2 (.new h1) rfl (Nat.le_of_ble_eq_true rfl) q133 (.inl rfl) rfl dJ2_grow_2 ?_
  refine zr_iconst (v := 1) dJ2_grow_5 (by decide) ?_
  refine zr_iadd dJ2_grow_6 ?_
  rw [show nI cap + 1 = nI (cap + 1) from nI_1 cap]
  refine zr_call1 (rest := []) (zs_V (As := [.int (nI (cap + 1))]) (by omega) ok_J2_grow_2 q368 q370 qs3 q56 q371 rfl (.new h1) rfl rfl rfl (Nat.le_of_ble_eq_true rfl) dJ2_grow_7) hC ?_
  exact zr_aret rfl (.inr ⟨_, rfl⟩) (.inr ⟨_, rfl⟩) dJ2_grow_10 (⟨rfl, cap2, f2, hg, rfl⟩)
