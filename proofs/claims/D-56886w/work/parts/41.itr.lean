/-! ===== iterators of ArrayList, Integer (rows printed by tools/p41.py) ===== -/
section zRows3
variable {G : zG} {y : MethodName} {cc : ByteArray} {nL : Nat} {ret : Option FieldType} {hh : List (Nat × Nat × Nat × Nat)} {d pc : Nat} {ls : List (Nat × Value)} {st : List Value} {σ : zT} {Q : zO → zT → Prop}
theorem zr_ishr {x y0 : Int32} (hd : decode cc pc = .ok (.ishr, 1)) (k : zR G y cc nL ret hh d (pc + 1) ls (.int (x >>> (y0 &&& 31)) :: st) σ Q) : zR G y cc nL ret hh d pc ls (.int y0 :: .int x :: st) σ Q :=
  zR.lift (fun p l e R s m args below meth c H locs cells slots arr Q0 M hl hR k => lv_ishr M.x M.b hd k) k
end zRows3
theorem sNew_up (σ : zT) (t n : Nat) (e1 e2 : va_E) : sUp (sNew σ t e1 n) (sZ σ) e2 = sNew σ t e2 n := by
  obtain ⟨f, tg, z, l⟩ := σ
  unfold sUp sNew sZ
  refine Prod.ext ?_ rfl
  funext x
  by_cases h : x = z <;> simp [h]
theorem sF_ne {σ : zT} {a b : Nat} {e1 e2 : va_E} (h1 : sF σ a = some e1) (h2 : sF σ b = some e2) (hn : e1 ≠ e2) : a ≠ b := by
  intro h
  subst h
  rw [h1] at h2
  exact hn (Option.some.inj h2)
theorem zE_ne {i j : Nat} {fs gs : List Value} (h : i ≠ j) : (Sum.inr (i, fs) : va_E) ≠ .inr (j, gs) := by
  intro e
  cases e
  exact h rfl
theorem zE_arr {i : Nat} {fs : List Value} {a : ClassId × vp_A} : (Sum.inl a : va_E) ≠ .inr (i, fs) := fun e => by cases e
theorem zL.ne {G : zG} {σ : zT} {t l : Nat} {mod : Int32} {xs : List Nat} (h : zL G σ t l mod xs) {a ci : Nat} {fs : List Value} (ha : sF σ a = some (.inr (ci, fs))) (hc : ci ≠ 20) : l ≠ a := by
  obtain ⟨arr, cap, f, h1, -⟩ := h
  exact sF_ne h1 ha (zE_ne (Ne.symm hc))
/-- a list is kept where its two cells are -/
theorem zL.keep {G : zG} {σ σ' : zT} {t l : Nat} {mod : Int32} {xs : List Nat} (h : zL G σ t l mod xs) (hk : ∀ a e, sF σ a = some e → (sT σ a = t ∨ sT σ a = t + 1) → sF σ' a = some e ∧ sT σ' a = sT σ a) : zL G σ' t l mod xs := by
  obtain ⟨arr, cap, f, h1, h2, h3, h4, h5, h6⟩ := h
  have k1 := hk l _ h1 (Or.inl h2)
  refine ⟨arr, cap, f, k1.1, k1.2.trans h2, h3, h4, h5, ?_⟩
  rcases h6 with h6 | ⟨h6, h7, h8⟩
  · exact Or.inl h6
  · have k2 := hk arr _ h7 (Or.inr h8)
    exact Or.inr ⟨h6, k2.1, k2.2.trans h8⟩
theorem zL.up {G : zG} {σ : zT} {t l : Nat} {mod : Int32} {xs : List Nat} (h : zL G σ t l mod xs) {a : Nat} {e : va_E} (h1 : sT σ a ≠ t) (h2 : sT σ a ≠ t + 1) : zL G (sUp σ a e) t l mod xs :=
  h.keep fun x e9 hx ht => ⟨by
    rw [sF_upN σ a e (fun h => by
      subst h
      rcases ht with ht | ht
      · exact h1 ht
      · exact h2 ht)]
    exact hx, rfl⟩
/-- .. where the cell is an object of another class -/
theorem zL.upO {G : zG} {σ : zT} {t l : Nat} {mod : Int32} {xs : List Nat} (h : zL G σ t l mod xs) {a ci : Nat} {fs : List Value} {e : va_E} (ha : sF σ a = some (.inr (ci, fs))) (hc : ci ≠ 20) : zL G (sUp σ a e) t l mod xs := by
  obtain ⟨arr, cap, f, h1, h2, h3, h4, h5, h6⟩ := h
  have n1 : l ≠ a := sF_ne h1 ha (zE_ne (Ne.symm hc))
  refine ⟨arr, cap, f, by rw [sF_upN σ a e n1]; exact h1, h2, h3, h4, h5, ?_⟩
  rcases h6 with h6 | ⟨h6, h7, h8⟩
  · exact Or.inl h6
  · exact Or.inr ⟨h6, by rw [sF_upN σ a e (sF_ne h7 ha zE_arr)]; exact h7, h8⟩
theorem zL.new {G : zG} {σ : zT} (hw : zWf σ) {t l : Nat} {mod : Int32} {xs : List Nat} (h : zL G σ t l mod xs) (t2 : Nat) (e : va_E) (n : Nat) : zL G (sNew σ t2 e n) t l mod xs :=
  h.keep fun x e9 hx _ => ⟨by rw [sF_newN σ t2 e n (Nat.ne_of_lt (hw x _ hx))]; exact hx, sT_newN σ t2 e n (Nat.ne_of_lt (hw x _ hx))⟩
theorem zL.frame {G : zG} {σ σ' : zT} {S : Nat → Prop} (hw : zWf σ) (hf : zFr S σ σ') {t l : Nat} {mod : Int32} {xs : List Nat} (h : zL G σ t l mod xs) (h1 : ¬ S t) (h2 : ¬ S (t + 1)) : zL G σ' t l mod xs :=
  h.keep fun x e9 hx ht => by
    have a := hf.2 x (hw x _ hx)
    refine ⟨?_, a.1⟩
    rw [a.2 (by rcases ht with ht | ht <;> rw [ht] <;> assumption)]
    exact hx
theorem zWf.up {σ : zT} (h : zWf σ) {a : Nat} {e0 : va_E} (e : va_E) (ha : sF σ a = some e0) : zWf (sUp σ a e) := fun x e9 hx => by
  rw [sF_up] at hx
  by_cases c : x = a
  · subst c; exact h _ _ ha
  · rw [if_neg c] at hx; exact h _ _ hx
theorem zWf.new {σ : zT} (h : zWf σ) (t : Nat) (e : va_E) (n : Nat) : zWf (sNew σ t e n) := fun x e9 hx => by
  rw [sF_new] at hx
  rw [sZ_new]
  by_cases c : x = sZ σ
  · omega
  · rw [if_neg c] at hx; exact Nat.lt_succ_of_lt (h _ _ hx)
theorem zAt.up {G : zG} {σ : zT} {a b : Nat} {e e2 : va_E} (h : zAt G σ a e) (hb : sF σ b = some e2) (hB : zB G ≤ b) (hn : a ≠ b) (e3 : va_E) : zAt G (sUp σ b e3) a e := by
  rcases h with h | h
  · exact Or.inl (by rw [sF_upN σ b e3 hn]; exact h)
  · exact Or.inr h
theorem zAt.upN {G : zG} {σ : zT} {a b : Nat} {e : va_E} (h : zAt G σ a e) (hn : a ≠ b) (e3 : va_E) : zAt G (sUp σ b e3) a e := by
  rcases h with h | h
  · exact Or.inl (by rw [sF_upN σ b e3 hn]; exact h)
  · exact Or.inr h
/-- the cell itself, or the part of the start -/
theorem zAt.frame {G : zG} {σ σ' : zT} {S : Nat → Prop} (hw : zWf σ) (hf : zFr S σ σ') {a : Nat} {e : va_E} (h : zAt G σ a e) (hs : ¬ S (sT σ a)) : zAt G σ' a e := by
  rcases h with h | h
  · exact Or.inl (((hf.2 a (hw a _ h)).2 hs).trans h)
  · exact Or.inr h

set_option maxHeartbeats 4000000 in
theorem c_J23_init {G : zG} {σ : zT} {d : Nat} {t l : Nat} {mod : Int32} {xs : List Nat} {i : Nat} (hd : 2 ≤ d) (hL : zL G σ t l mod xs) (h0 : sF σ i = some (.inr (21, d0_J23))) : zC G I_J23_init d [.ref i, .ref l] σ (.inl none) (sUp σ i (.inr (21, [.int 0, .int (-1), .int mod, .ref l]))) := by
  refine zCall.exact (zCall_of (ls := [(0, .ref i), (1, .ref l)]) (by decide) (Nat.le_of_ble_eq_true rfl) rfl ?_)
  have hn : l ≠ i := hL.ne h0 (by decide)
  obtain ⟨arr, cap, f, h1, -⟩ := hL
  refine zr_aload_n dJ23_init_0 rfl rfl ?_
  refine zr_aload_n dJ23_init_1 rfl rfl ?_
  refine zr_putF rfl rfl (k := 3) (fs' := [.int 0, .int 0, .int 0, .ref l]) zt_J23 h0 rfl (Nat.le_of_ble_eq_true rfl) q848 (.inl rfl) rfl rfl rfl (Nat.le_of_ble_eq_true rfl) rfl dJ23_init_2 ?_
  refine zr_aload_n dJ23_init_5 rfl rfl ?_
  refine zr_objInit (by omega) q842 q112 q113 (Nat.le_of_ble_eq_true rfl) dJ23_init_6 ?_
  refine zr_aload_n dJ23_init_9 rfl rfl ?_
  refine zr_iconst (v := (-1)) dJ23_init_10 (by decide) ?_
  refine zr_put (k := 1) (fs' := [.int 0, .int (-1), .int 0, .ref l]) zt_J23 (sF_upS _ _ _) rfl (Nat.le_of_ble_eq_true rfl) q846 (.inl rfl) rfl rfl rfl (Nat.le_of_ble_eq_true rfl) rfl dJ23_init_11 ?_
  rw [sUp_sUp]
  refine zr_aload_n dJ23_init_14 rfl rfl ?_
  refine zr_aload_n dJ23_init_15 rfl rfl ?_
  refine zr_get (k := 3) (v := .ref l) in_J23 (.new (sF_upS _ _ _)) rfl (Nat.le_of_ble_eq_true rfl) q848 (.inl rfl) rfl dJ23_init_16 ?_
  refine zr_get (k := 0) (v := .int mod) in_J2 (.new (by rw [sF_upN _ _ _ hn]; exact h1)) rfl (Nat.le_of_ble_eq_true rfl) q135 (.inr q136) rfl dJ23_init_19 ?_
  refine zr_put (k := 2) (fs' := [.int 0, .int (-1), .int mod, .ref l]) zt_J23 (sF_upS _ _ _) rfl (Nat.le_of_ble_eq_true rfl) q847 (.inl rfl) rfl rfl rfl (Nat.le_of_ble_eq_true rfl) rfl dJ23_init_22 ?_
  rw [sUp_sUp]
  exact zr_vret rfl dJ23_init_25 (⟨rfl, rfl⟩)
set_option maxHeartbeats 4000000 in
theorem c_J2_iterator {G : zG} {σ : zT} {d : Nat} {t l : Nat} {mod : Int32} {xs : List Nat} (hd : 3 ≤ d) (hw : zWf σ) (hL : zL G σ t l mod xs) : zC G I_J2_iterator d [.ref l] σ (.inl (some (.ref (sZ σ)))) (sNew σ 0 (.inr (21, [.int 0, .int (-1), .int mod, .ref l])) 4) := by
  refine zCall.exact (zCall_of (ls := [(0, .ref l)]) (by decide) (Nat.le_of_ble_eq_true rfl) rfl ?_)
  refine zr_new (ci := 21) (0) zt_J23 q837 q838 q84 rfl df_J23 dJ2_iterator_0 ?_
  refine zr_dup dJ2_iterator_3 rfl ?_
  refine zr_aload_n dJ2_iterator_4 rfl rfl ?_
  refine zr_callv (rest := [.ref (sZ σ)]) (zs_I (As := [.ref l]) (by omega) ok_J23_init q839 q840 q84 q841 rfl rfl rfl (Nat.le_of_ble_eq_true rfl) dJ2_iterator_5) (c_J23_init (by omega) (hL.new hw _ _ _) (sF_newS _ _ _ _)) ?_
  rw [sNew_up]
  exact zr_aret rfl (.inl ⟨_, rfl⟩) (.inr ⟨_, rfl⟩) dJ2_iterator_8 (⟨rfl, rfl⟩)
set_option maxHeartbeats 4000000 in
theorem c_J23_hasNext {G : zG} {σ : zT} {d : Nat} {t l : Nat} {mod : Int32} {xs : List Nat} {i k : Nat} {lr : Int32} (hL : zL G σ t l mod xs) (hi : sF σ i = some (.inr (21, [.int (nI k), .int lr, .int mod, .ref l]))) (hk : k ≤ xs.length) : zC G I_J23_hasNext d [.ref i] σ (.inl (some (.int (bI (decide (k < xs.length)))))) σ := by
  refine zCall.exact (zCall_of (ls := [(0, .ref i)]) (by decide) (Nat.le_of_ble_eq_true rfl) rfl ?_)
  obtain ⟨arr, cap, f, h1, -, hc, hc2, -⟩ := hL
  refine zr_aload_n dJ23_hasNext_0 rfl rfl ?_
  refine zr_get (k := 0) (v := .int (nI k)) in_J23 (.new hi) rfl (Nat.le_of_ble_eq_true rfl) q845 (.inl rfl) rfl dJ23_hasNext_1 ?_
  refine zr_aload_n dJ23_hasNext_4 rfl rfl ?_
  refine zr_get (k := 3) (v := .ref l) in_J23 (.new hi) rfl (Nat.le_of_ble_eq_true rfl) q848 (.inl rfl) rfl dJ23_hasNext_5 ?_
  refine zr_getN (k := 2) (v := .int (nI xs.length)) in_J2 (.new h1) rfl (Nat.le_of_ble_eq_true rfl) q132 (.inl rfl) rfl dJ23_hasNext_8 ?_
  refine zr_icmp_eq (tgt := 18) dJ23_hasNext_11 (by decide) (fun c => ?_) (fun c => ?_)
  · have hkl : k = xs.length := (nI_eq (by omega) (by omega)).mp c
    refine zr_iconst (v := 0) dJ23_hasNext_18 (by decide) ?_
    exact zr_iret rfl rfl dJ23_hasNext_19 (⟨by rw [bI_dec, if_neg (by omega)], rfl⟩)
  · have hkl : ¬ k = xs.length := fun h => c (by rw [h])
    refine zr_iconst (v := 1) dJ23_hasNext_14 (by decide) ?_
    refine zr_goto (tgt := 19) dJ23_hasNext_15 (by decide) ?_
    exact zr_iret rfl rfl dJ23_hasNext_19 (⟨by rw [bI_dec, if_pos (by omega)], rfl⟩)
set_option maxHeartbeats 4000000 in
theorem c_J23_checkForComodification {G : zG} {σ : zT} {d : Nat} {t l : Nat} {mod : Int32} {xs : List Nat} {i k : Nat} {lr : Int32} (hL : zL G σ t l mod xs) (hi : sF σ i = some (.inr (21, [.int (nI k), .int lr, .int mod, .ref l]))) : zC G I_J23_checkForComodification d [.ref i] σ (.inl none) σ := by
  refine zCall.exact (zCall_of (ls := [(0, .ref i)]) (by decide) (Nat.le_of_ble_eq_true rfl) rfl ?_)
  obtain ⟨arr, cap, f, h1, -, hc, hc2, -⟩ := hL
  refine zr_aload_n dJ23_checkForComodification_0 rfl rfl ?_
  refine zr_get (k := 3) (v := .ref l) in_J23 (.new hi) rfl (Nat.le_of_ble_eq_true rfl) q848 (.inl rfl) rfl dJ23_checkForComodification_1 ?_
  refine zr_get (k := 0) (v := .int mod) in_J2 (.new h1) rfl (Nat.le_of_ble_eq_true rfl) q135 (.inr q136) rfl dJ23_checkForComodification_4 ?_
  refine zr_aload_n dJ23_checkForComodification_7 rfl rfl ?_
  refine zr_get (k := 2) (v := .int mod) in_J23 (.new hi) rfl (Nat.le_of_ble_eq_true rfl) q847 (.inl rfl) rfl dJ23_checkForComodification_8 ?_
  refine zr_icmp_eq (tgt := 22) dJ23_checkForComodification_11 (by decide) (fun _ => ?_) (fun h9 => absurd (rfl) h9)
  exact zr_vret rfl dJ23_checkForComodification_22 (⟨rfl, rfl⟩)
set_option maxHeartbeats 4000000 in
theorem c_J23_next {G : zG} {σ : zT} {d : Nat} {t l : Nat} {mod : Int32} {xs : List Nat} {i k : Nat} {lr : Int32} {x : Nat} (hd : 2 ≤ d) (hG : zOk G) (hL : zL G σ t l mod xs) (hi : sF σ i = some (.inr (21, [.int (nI k), .int lr, .int mod, .ref l]))) (hx : xs[k]? = some x) : zC G I_J23_next d [.ref i] σ (.inl (some (.ref x))) (sUp σ i (.inr (21, [.int (nI (k + 1)), .int (nI k), .int mod, .ref l]))) := by
  refine zCall.exact (zCall_of (ls := [(0, .ref i)]) (by decide) (Nat.le_of_ble_eq_true rfl) rfl ?_)
  have hL0 := hL
  have hn : l ≠ i := hL.ne hi (by decide)
  obtain ⟨arr, cap, f, h1, -, hc, hc2, hf, ha⟩ := hL
  have hk : k < xs.length := (List.getElem?_eq_some_iff.mp hx).1
  have har := zL.arr hG ha
  have hna : arr ≠ i := by
    rintro rfl
    rcases ha with ⟨h9, -, -⟩ | ⟨-, ha, -⟩
    · omega
    · rw [hi] at ha; cases ha
  refine zr_aload_n dJ23_next_0 rfl rfl ?_
  refine zr_callv (rest := []) (zs_V (As := []) (by omega) ok_J23_checkForComodification q1049 q1050 q1051 q84 q1054 rfl (.new hi) rfl rfl rfl (Nat.le_of_ble_eq_true rfl) dJ23_next_1) (c_J23_checkForComodification hL0 hi) ?_
  refine zr_aload_n dJ23_next_4 rfl rfl ?_
  refine zr_get (k := 0) (v := .int (nI k)) in_J23 (.new hi) rfl (Nat.le_of_ble_eq_true rfl) q845 (.inl rfl) rfl dJ23_next_5 ?_
  refine zr_istore_n (ls2 := [(0, .ref i), (1, .int (nI k))]) dJ23_next_8 rfl (Nat.le_of_ble_eq_true rfl) rfl ?_
  refine zr_iload_n dJ23_next_9 rfl rfl ?_
  refine zr_aload_n dJ23_next_10 rfl rfl ?_
  refine zr_get (k := 3) (v := .ref l) in_J23 (.new hi) rfl (Nat.le_of_ble_eq_true rfl) q848 (.inl rfl) rfl dJ23_next_11 ?_
  refine zr_getN (k := 2) (v := .int (nI xs.length)) in_J2 (.new h1) rfl (Nat.le_of_ble_eq_true rfl) q132 (.inl rfl) rfl dJ23_next_14 ?_
  refine zr_icmp_lt (tgt := 28) dJ23_next_17 (by decide) (fun _ => ?_) (fun h9 => absurd (nI_lt hk (by omega)) h9)
  refine zr_aload_n dJ23_next_28 rfl rfl ?_
  refine zr_get (k := 3) (v := .ref l) in_J23 (.new hi) rfl (Nat.le_of_ble_eq_true rfl) q848 (.inl rfl) rfl dJ23_next_29 ?_
  refine zr_get (k := 1) (v := .ref arr) in_J2 (.new h1) rfl (Nat.le_of_ble_eq_true rfl) q129 (.inl rfl) rfl dJ23_next_32 ?_
  refine zr_astore_n (ls2 := [(0, .ref i), (1, .int (nI k)), (2, .ref arr)]) dJ23_next_35 rfl (Nat.le_of_ble_eq_true rfl) rfl ?_
  refine zr_iload_n dJ23_next_36 rfl rfl ?_
  refine zr_aload_n dJ23_next_37 rfl rfl ?_
  refine zr_alenO (v := nI cap) har rfl dJ23_next_38 ?_
  refine zr_icmp_lt (tgt := 50) dJ23_next_39 (by decide) (fun _ => ?_) (fun h9 => absurd (nI_lt (by omega) (by omega)) h9)
  refine zr_aload_n dJ23_next_50 rfl rfl ?_
  refine zr_iload_n dJ23_next_51 rfl rfl ?_
  refine zr_iconst (v := 1) dJ23_next_52 (by decide) ?_
  refine zr_iadd dJ23_next_53 ?_
  rw [show nI k + 1 = nI (k + 1) from nI_1 k]
  refine zr_put (k := 0) (fs' := [.int (nI (k + 1)), .int lr, .int mod, .ref l]) zt_J23 hi rfl (Nat.le_of_ble_eq_true rfl) q845 (.inl rfl) rfl rfl rfl (Nat.le_of_ble_eq_true rfl) rfl dJ23_next_54 ?_
  refine zr_aload_n dJ23_next_57 rfl rfl ?_
  refine zr_aload_n dJ23_next_58 rfl rfl ?_
  refine zr_iload_n dJ23_next_59 rfl rfl ?_
  refine zr_dup_x1 dJ23_next_60 rfl rfl ?_
  refine zr_put (k := 1) (fs' := [.int (nI (k + 1)), .int (nI k), .int mod, .ref l]) zt_J23 (sF_upS _ _ _) rfl (Nat.le_of_ble_eq_true rfl) q846 (.inl rfl) rfl rfl rfl (Nat.le_of_ble_eq_true rfl) rfl dJ23_next_61 ?_
  rw [sUp_sUp]
  refine zr_aald (v := .ref x) (zAt.upN har hna _) (vp_in_nI (by omega) (by omega)) (by rw [nI_clamp (by omega), hf k hk, hx]; rfl) dJ23_next_64 ?_
  exact zr_aret rfl (.inl ⟨_, rfl⟩) (.inr ⟨_, rfl⟩) dJ23_next_65 (⟨rfl, rfl⟩)
set_option maxHeartbeats 4000000 in
theorem c_J18_intValue {G : zG} {σ : zT} {d : Nat} {b : Nat} {n : Int32} (hb : zAt G σ b (.inr (0, [.int n]))) : zC G I_J18_intValue d [.ref b] σ (.inl (some (.int n))) σ := by
  refine zCall.exact (zCall_of (ls := [(0, .ref b)]) (by decide) (Nat.le_of_ble_eq_true rfl) rfl ?_)
  refine zr_aload_n dJ18_intValue_0 rfl rfl ?_
  refine zr_get (k := 0) (v := .int n) in_J18 hb rfl (Nat.le_of_ble_eq_true rfl) q1715 (.inl rfl) rfl dJ18_intValue_1 ?_
  exact zr_iret rfl rfl dJ18_intValue_4 (⟨rfl, rfl⟩)
