/-! ===== the context: Narrow, Lower, lowest, edges (rows printed by tools/p61.py) ===== -/
theorem nar_rfA (t : FieldType) (x : Option Nat) : narrow (.array t) (va_rf x) = va_rf x := by cases x <;> rfl
theorem nar_rfO (t : String) (x : Option Nat) : narrow (.object t) (va_rf x) = va_rf x := by cases x <;> rfl
theorem fit_rfA (t : FieldType) (x : Option Nat) : fits (.array t) (va_rf x) = true := by cases x <;> rfl
theorem fit_rfO (t : String) (x : Option Nat) : fits (.object t) (va_rf x) = true := by cases x <;> rfl
set_option maxHeartbeats 4000000 in
theorem c_J6_init_4_X8 {G : zG} {σ : zT} {d x s n : Nat} (hd : 2 ≤ d) (hG : zOk G) (hx : sF σ x = some (.inr (8, [.null, .null, .null, .null, .null, .int 0, .int 0]))) : zC G I_J6_init_4 d [.ref x, .ref s, .null, .int 0, .int 0] σ (.inl none) (sUp σ x (.inr (8, [.null, .null, .null, .ref s, .null, .int 0, .int 0]))) := by
  refine zCall.exact (zCall_of (ls := [(0, .ref x), (1, .ref s), (2, .null), (3, .int 0), (4, .int 0)]) (by decide) (Nat.le_of_ble_eq_true rfl) rfl ?_)
  refine zr_aload_n dJ6_init_4_0 rfl rfl ?_
  refine zr_objInit (by omega) q483 q112 q113 (Nat.le_of_ble_eq_true rfl) dJ6_init_4_1 ?_
  refine zr_aload_n dJ6_init_4_4 rfl rfl ?_
  refine zr_aload_n dJ6_init_4_5 rfl rfl ?_
  refine zr_put (k := 0) (fs' := [.ref x, .null, .null, .null, .null, .int 0, .int 0]) zt_X8 hx rfl (Nat.le_of_ble_eq_true rfl) q738 (.inl rfl) rfl rfl rfl (Nat.le_of_ble_eq_true rfl) rfl dJ6_init_4_6 ?_
  refine zr_aload_n dJ6_init_4_9 rfl rfl ?_
  refine zr_gets (v := va_rf (zq G 7)) hG.1 (fun U h => h.2.2.2.2.2.2.2.2.1) q484 (.inl rfl) dJ6_init_4_10 ?_
  refine zr_put (k := 1) (fs' := [.ref x, va_rf (zq G 7), .null, .null, .null, .int 0, .int 0]) zt_X8 (sF_upS _ _ _) rfl (Nat.le_of_ble_eq_true rfl) q739 (.inl rfl) rfl (nar_rfA _ _) (fit_rfA _ _) (Nat.le_of_ble_eq_true rfl) rfl dJ6_init_4_13 ?_
  rw [sUp_sUp]
  refine zr_aload_n dJ6_init_4_16 rfl rfl ?_
  refine zr_gets (v := va_rf (zq G 8)) hG.1 (fun U h => h.2.2.2.2.2.2.2.2.2) q486 (.inl rfl) dJ6_init_4_17 ?_
  refine zr_put (k := 2) (fs' := [.ref x, va_rf (zq G 7), va_rf (zq G 8), .null, .null, .int 0, .int 0]) zt_X8 (sF_upS _ _ _) rfl (Nat.le_of_ble_eq_true rfl) q740 (.inl rfl) rfl (nar_rfO _ _) (fit_rfO _ _) (Nat.le_of_ble_eq_true rfl) rfl dJ6_init_4_20 ?_
  rw [sUp_sUp]
  refine zr_iload dJ6_init_4_23 rfl ?_
  refine zr_if_eq (tgt := 36) dJ6_init_4_25 (by decide) (fun _ => ?_) (fun h9 => absurd (rfl) h9)
  refine zr_aload_n dJ6_init_4_36 rfl rfl ?_
  refine zr_null dJ6_init_4_37 ?_
  refine zr_put (k := 1) (fs' := [.ref x, .null, va_rf (zq G 8), .null, .null, .int 0, .int 0]) zt_X8 (sF_upS _ _ _) rfl (Nat.le_of_ble_eq_true rfl) q739 (.inl rfl) rfl rfl rfl (Nat.le_of_ble_eq_true rfl) rfl dJ6_init_4_38 ?_
  rw [sUp_sUp]
  refine zr_aload_n dJ6_init_4_41 rfl rfl ?_
  refine zr_aload_n dJ6_init_4_42 rfl rfl ?_
  refine zr_put (k := 3) (fs' := [.ref x, .null, va_rf (zq G 8), .ref s, .null, .int 0, .int 0]) zt_X8 (sF_upS _ _ _) rfl (Nat.le_of_ble_eq_true rfl) q737 (.inl rfl) rfl rfl rfl (Nat.le_of_ble_eq_true rfl) rfl dJ6_init_4_43 ?_
  rw [sUp_sUp]
  refine zr_aload_n dJ6_init_4_46 rfl rfl ?_
  refine zr_aload_nR (x := none) dJ6_init_4_47 rfl rfl ?_
  refine zr_put (k := 0) (fs' := [.null, .null, va_rf (zq G 8), .ref s, .null, .int 0, .int 0]) zt_X8 (sF_upS _ _ _) rfl (Nat.le_of_ble_eq_true rfl) q738 (.inl rfl) rfl rfl rfl (Nat.le_of_ble_eq_true rfl) rfl dJ6_init_4_48 ?_
  rw [sUp_sUp]
  refine zr_iload_n dJ6_init_4_51 rfl rfl ?_
  refine zr_if_ne (tgt := 60) dJ6_init_4_52 (by decide) (fun h9 => absurd (rfl) h9) (fun _ => ?_)
  refine zr_aload_n dJ6_init_4_55 rfl rfl ?_
  refine zr_null dJ6_init_4_56 ?_
  refine zr_put (k := 2) (fs' := [.null, .null, .null, .ref s, .null, .int 0, .int 0]) zt_X8 (sF_upS _ _ _) rfl (Nat.le_of_ble_eq_true rfl) q740 (.inl rfl) rfl rfl rfl (Nat.le_of_ble_eq_true rfl) rfl dJ6_init_4_57 ?_
  rw [sUp_sUp]
  exact zr_vret rfl dJ6_init_4_60 (⟨rfl, rfl⟩)
set_option maxHeartbeats 4000000 in
theorem c_J7_init_4_X8 {G : zG} {σ : zT} {d x s n : Nat} (hd : 3 ≤ d) (hG : zOk G) (hx : sF σ x = some (.inr (8, [.null, .null, .null, .null, .null, .int 0, .int 0]))) : zC G I_J7_init_4 d [.ref x, .ref s, .null, .int 0, .int 0] σ (.inl none) (sUp σ x (.inr (8, [.null, .null, .null, .ref s, .null, .int 0, .int 0]))) := by
  refine zCall.exact (zCall_of (ls := [(0, .ref x), (1, .ref s), (2, .null), (3, .int 0), (4, .int 0)]) (by decide) (Nat.le_of_ble_eq_true rfl) rfl ?_)
  refine zr_aload_n dJ7_init_4_0 rfl rfl ?_
  refine zr_aload_n dJ7_init_4_1 rfl rfl ?_
  refine zr_aload_nR (x := none) dJ7_init_4_2 rfl rfl ?_
  refine zr_iload_n dJ7_init_4_3 rfl rfl ?_
  refine zr_iload dJ7_init_4_4 rfl ?_
  refine zr_callv (rest := []) (zs_I (As := [.ref s, .null, .int 0, .int 0]) (by omega) ok_J6_init_4 q1411 q1412 q63 q1413 rfl rfl rfl (Nat.le_of_ble_eq_true rfl) dJ7_init_4_6) (c_J6_init_4_X8 (n := 0) (by omega) hG hx) ?_
  exact zr_vret rfl dJ7_init_4_9 (⟨rfl, rfl⟩)
set_option maxHeartbeats 4000000 in
theorem c_X8_init {G : zG} {σ : zT} {d x n : Nat} {nx : Int32} (hd : 4 ≤ d) (hG : zOk G) (hx : sF σ x = some (.inr (8, [.null, .null, .null, .null, .null, .int 0, .int 0]))) : zC G I_X8_init d [.ref x, .int nx] σ (.inl none) (sUp σ x (.inr (8, [.null, .null, .null, .ref (zc G 4), .null, .int 0, .int nx]))) := by
  refine zCall.exact (zCall_of (ls := [(0, .ref x), (1, .int nx)]) (by decide) (Nat.le_of_ble_eq_true rfl) rfl ?_)
  refine zr_aload_n dX8_init_0 rfl rfl ?_
  refine zr_ldcS (a := zc G 4) (tx := "") (fun U h => h.2.2.2.2.1.1) dX8_init_1 ?_
  refine zr_null dX8_init_3 ?_
  refine zr_iconst (v := 0) dX8_init_4 (by decide) ?_
  refine zr_iconst (v := 0) dX8_init_5 (by decide) ?_
  refine zr_callv (rest := []) (zs_I (As := [.ref (zc G 4), .null, .int 0, .int 0]) (by omega) ok_J7_init_4 q1408 q1409 q64 q1410 rfl rfl rfl (Nat.le_of_ble_eq_true rfl) dX8_init_6) (c_J7_init_4_X8 (n := 0) (by omega) hG hx) ?_
  refine zr_aload_n dX8_init_9 rfl rfl ?_
  refine zr_iload_n dX8_init_10 rfl rfl ?_
  refine zr_putF rfl rfl (k := 6) (fs' := [.null, .null, .null, .ref (zc G 4), .null, .int 0, .int nx]) zt_X8 (sF_upS _ _ _) rfl (Nat.le_of_ble_eq_true rfl) q1414 (.inl rfl) rfl rfl rfl (Nat.le_of_ble_eq_true rfl) rfl dX8_init_11 ?_
  rw [sUp_sUp]
  exact zr_vret rfl dX8_init_14 (⟨rfl, rfl⟩)
set_option maxHeartbeats 4000000 in
theorem c_J6_init_4_X10 {G : zG} {σ : zT} {d x s n : Nat} (hd : 2 ≤ d) (hG : zOk G) (hx : sF σ x = some (.inr (10, [.null, .null, .null, .null, .null, .int 0]))) : zC G I_J6_init_4 d [.ref x, .ref s, .ref n, .int 0, .int 0] σ (.inl none) (sUp σ x (.inr (10, [.ref n, .null, .null, .ref s, .null, .int 0]))) := by
  refine zCall.exact (zCall_of (ls := [(0, .ref x), (1, .ref s), (2, .ref n), (3, .int 0), (4, .int 0)]) (by decide) (Nat.le_of_ble_eq_true rfl) rfl ?_)
  refine zr_aload_n dJ6_init_4_0 rfl rfl ?_
  refine zr_objInit (by omega) q483 q112 q113 (Nat.le_of_ble_eq_true rfl) dJ6_init_4_1 ?_
  refine zr_aload_n dJ6_init_4_4 rfl rfl ?_
  refine zr_aload_n dJ6_init_4_5 rfl rfl ?_
  refine zr_put (k := 0) (fs' := [.ref x, .null, .null, .null, .null, .int 0]) zt_X10 hx rfl (Nat.le_of_ble_eq_true rfl) q738 (.inl rfl) rfl rfl rfl (Nat.le_of_ble_eq_true rfl) rfl dJ6_init_4_6 ?_
  refine zr_aload_n dJ6_init_4_9 rfl rfl ?_
  refine zr_gets (v := va_rf (zq G 7)) hG.1 (fun U h => h.2.2.2.2.2.2.2.2.1) q484 (.inl rfl) dJ6_init_4_10 ?_
  refine zr_put (k := 1) (fs' := [.ref x, va_rf (zq G 7), .null, .null, .null, .int 0]) zt_X10 (sF_upS _ _ _) rfl (Nat.le_of_ble_eq_true rfl) q739 (.inl rfl) rfl (nar_rfA _ _) (fit_rfA _ _) (Nat.le_of_ble_eq_true rfl) rfl dJ6_init_4_13 ?_
  rw [sUp_sUp]
  refine zr_aload_n dJ6_init_4_16 rfl rfl ?_
  refine zr_gets (v := va_rf (zq G 8)) hG.1 (fun U h => h.2.2.2.2.2.2.2.2.2) q486 (.inl rfl) dJ6_init_4_17 ?_
  refine zr_put (k := 2) (fs' := [.ref x, va_rf (zq G 7), va_rf (zq G 8), .null, .null, .int 0]) zt_X10 (sF_upS _ _ _) rfl (Nat.le_of_ble_eq_true rfl) q740 (.inl rfl) rfl (nar_rfO _ _) (fit_rfO _ _) (Nat.le_of_ble_eq_true rfl) rfl dJ6_init_4_20 ?_
  rw [sUp_sUp]
  refine zr_iload dJ6_init_4_23 rfl ?_
  refine zr_if_eq (tgt := 36) dJ6_init_4_25 (by decide) (fun _ => ?_) (fun h9 => absurd (rfl) h9)
  refine zr_aload_n dJ6_init_4_36 rfl rfl ?_
  refine zr_null dJ6_init_4_37 ?_
  refine zr_put (k := 1) (fs' := [.ref x, .null, va_rf (zq G 8), .null, .null, .int 0]) zt_X10 (sF_upS _ _ _) rfl (Nat.le_of_ble_eq_true rfl) q739 (.inl rfl) rfl rfl rfl (Nat.le_of_ble_eq_true rfl) rfl dJ6_init_4_38 ?_
  rw [sUp_sUp]
  refine zr_aload_n dJ6_init_4_41 rfl rfl ?_
  refine zr_aload_n dJ6_init_4_42 rfl rfl ?_
  refine zr_put (k := 3) (fs' := [.ref x, .null, va_rf (zq G 8), .ref s, .null, .int 0]) zt_X10 (sF_upS _ _ _) rfl (Nat.le_of_ble_eq_true rfl) q737 (.inl rfl) rfl rfl rfl (Nat.le_of_ble_eq_true rfl) rfl dJ6_init_4_43 ?_
  rw [sUp_sUp]
  refine zr_aload_n dJ6_init_4_46 rfl rfl ?_
  refine zr_aload_n dJ6_init_4_47 rfl rfl ?_
  refine zr_put (k := 0) (fs' := [.ref n, .null, va_rf (zq G 8), .ref s, .null, .int 0]) zt_X10 (sF_upS _ _ _) rfl (Nat.le_of_ble_eq_true rfl) q738 (.inl rfl) rfl rfl rfl (Nat.le_of_ble_eq_true rfl) rfl dJ6_init_4_48 ?_
  rw [sUp_sUp]
  refine zr_iload_n dJ6_init_4_51 rfl rfl ?_
  refine zr_if_ne (tgt := 60) dJ6_init_4_52 (by decide) (fun h9 => absurd (rfl) h9) (fun _ => ?_)
  refine zr_aload_n dJ6_init_4_55 rfl rfl ?_
  refine zr_null dJ6_init_4_56 ?_
  refine zr_put (k := 2) (fs' := [.ref n, .null, .null, .ref s, .null, .int 0]) zt_X10 (sF_upS _ _ _) rfl (Nat.le_of_ble_eq_true rfl) q740 (.inl rfl) rfl rfl rfl (Nat.le_of_ble_eq_true rfl) rfl dJ6_init_4_57 ?_
  rw [sUp_sUp]
  exact zr_vret rfl dJ6_init_4_60 (⟨rfl, rfl⟩)
set_option maxHeartbeats 4000000 in
theorem c_J7_init_4_X10 {G : zG} {σ : zT} {d x s n : Nat} (hd : 3 ≤ d) (hG : zOk G) (hx : sF σ x = some (.inr (10, [.null, .null, .null, .null, .null, .int 0]))) : zC G I_J7_init_4 d [.ref x, .ref s, .ref n, .int 0, .int 0] σ (.inl none) (sUp σ x (.inr (10, [.ref n, .null, .null, .ref s, .null, .int 0]))) := by
  refine zCall.exact (zCall_of (ls := [(0, .ref x), (1, .ref s), (2, .ref n), (3, .int 0), (4, .int 0)]) (by decide) (Nat.le_of_ble_eq_true rfl) rfl ?_)
  refine zr_aload_n dJ7_init_4_0 rfl rfl ?_
  refine zr_aload_n dJ7_init_4_1 rfl rfl ?_
  refine zr_aload_n dJ7_init_4_2 rfl rfl ?_
  refine zr_iload_n dJ7_init_4_3 rfl rfl ?_
  refine zr_iload dJ7_init_4_4 rfl ?_
  refine zr_callv (rest := []) (zs_I (As := [.ref s, .ref n, .int 0, .int 0]) (by omega) ok_J6_init_4 q1411 q1412 q63 q1413 rfl rfl rfl (Nat.le_of_ble_eq_true rfl) dJ7_init_4_6) (c_J6_init_4_X10 (by omega) hG hx) ?_
  exact zr_vret rfl dJ7_init_4_9 (⟨rfl, rfl⟩)
set_option maxHeartbeats 4000000 in
theorem c_X10_init {G : zG} {σ : zT} {d x n : Nat} {nx : Int32} (hd : 4 ≤ d) (hG : zOk G) (hx : sF σ x = some (.inr (10, [.null, .null, .null, .null, .null, .int 0]))) : zC G I_X10_init d [.ref x, .ref n] σ (.inl none) (sUp σ x (.inr (10, [.ref n, .null, .null, .ref (zc G 5), .null, .int 0]))) := by
  refine zCall.exact (zCall_of (ls := [(0, .ref x), (1, .ref n)]) (by decide) (Nat.le_of_ble_eq_true rfl) rfl ?_)
  refine zr_aload_n dX10_init_0 rfl rfl ?_
  refine zr_ldcS (a := zc G 5) (tx := "") (fun U h => h.2.2.2.2.1.2) dX10_init_1 ?_
  refine zr_aload_n dX10_init_3 rfl rfl ?_
  refine zr_iconst (v := 0) dX10_init_4 (by decide) ?_
  refine zr_iconst (v := 0) dX10_init_5 (by decide) ?_
  refine zr_callv (rest := []) (zs_I (As := [.ref (zc G 5), .ref n, .int 0, .int 0]) (by omega) ok_J7_init_4 q1449 q1409 q64 q1410 rfl rfl rfl (Nat.le_of_ble_eq_true rfl) dX10_init_6) (c_J7_init_4_X10 (by omega) hG hx) ?_
  exact zr_vret rfl dX10_init_9 (⟨rfl, rfl⟩)
abbrev F5 : Type := Int32 × Int32 × Int32 × Int32 × Int32
def fV (z : F5) : List Value := [.int z.1, .int z.2.1, .int z.2.2.1, .int z.2.2.2.1, .int z.2.2.2.2]
/-- the floats of a context: a list of its own -/
def FlS (G : zG) (σ : zT) (fa : Nat) (fs : List F5) : Prop := ∃ (mod : Int32) (xs : List Nat), zL G σ (dT fa) fa mod xs ∧ xs.length = fs.length ∧ fs.length ≤ 24 ∧ ∀ (j q : Nat) (z : F5), xs[j]? = some q → fs[j]? = some z → sF σ q = some (.inr (12, fV z)) ∧ sT σ q = 0 ∧ (z.2.2.2.2 = 110 ∨ z.2.2.2.2 = 108 ∨ z.2.2.2.2 = 114)
theorem FlS.keep {G : zG} {σ σ1 : zT} {S : Nat → Prop} {n fa : Nat} {fs : List F5} (h : FlS G σ fa fs) (hw : zGd G σ) (hX : zX G S σ σ1 n) (h1 : ¬ S (dT fa)) (h2 : ¬ S (dT fa + 1)) (h3 : ¬ S 0) : FlS G σ1 fa fs := by
  obtain ⟨mod, xs, l1, l2, l3, l4⟩ := h
  refine ⟨mod, xs, hX.L hw l1 h1 h2, l2, l3, fun j q z hq hz => ?_⟩
  obtain ⟨m1, m2, m3⟩ := l4 j q z hq hz
  exact ⟨hX.f hw m1 (by rw [m2]; exact h3), (hX.t hw m1).trans m2, m3⟩
theorem FlS.keep0 {G : zG} {σ σ1 : zT} {n fa : Nat} {fs : List F5} (h : FlS G σ fa fs) (hw : zGd G σ) (hX : zX G S0 σ σ1 n) : FlS G σ1 fa fs := h.keep hw hX (fun h => h) (fun h => h) (fun h => h)
theorem FlS.keepC {G : zG} {σ σ1 : zT} {n fa : Nat} {fs : List F5} (h : FlS G σ fa fs) (hw : zGd G σ) (hX : zX G SC σ σ1 n) : FlS G σ1 fa fs := h.keep hw hX (SC_big (by unfold dT; omega)) (SC_big (by unfold dT; omega)) SC_0
theorem nar_sd {v : Int32} (h : v = 110 ∨ v = 108 ∨ v = 114) : narrow .char (.int v) = .int v := by rcases h with h | h | h <;> subst h <;> rfl
theorem fit_sd {v : Int32} (h : v = 110 ∨ v = 108 ∨ v = 114) : fits .char (.int v) = true := by rcases h with h | h | h <;> subst h <;> rfl
def cLow (fs : List F5) : Int32 := fs.foldl (fun a z => imax a (z.2.1 + z.2.2.2.1)) (-2147483648)
def edS (top h : Int32) (p : Int32 × Int32 × Int32) (z : F5) : Int32 × Int32 × Int32 := if fIn z.2.1 z.2.2.2.1 top (top + h) = true then (if z.2.2.2.2 = 108 then imax p.1 (z.1 + z.2.2.1) else p.1, if z.2.2.2.2 = 114 then imin p.2.1 z.1 else p.2.1, imin p.2.2 (fEnd z.2.1 z.2.2.2.1)) else p
def cEd (fs : List F5) (top h left right : Int32) : Int32 × Int32 × Int32 := fs.foldl (edS top h) (left, right, 2147483647)
theorem drop_z {xs : List Nat} {fs : List F5} {k : Nat} {z : F5} {r : List F5} (hl : xs.length = fs.length) (h : fs.drop k = z :: r) : fs[k]? = some z ∧ fs.drop (k + 1) = r ∧ k < fs.length ∧ ∃ q, xs[k]? = some q := by
  have hk : k < fs.length := by
    apply Nat.lt_of_not_le
    intro h1
    rw [List.drop_eq_nil_of_le h1] at h
    cases h
  rw [List.drop_eq_getElem_cons hk] at h
  injection h with h1 h2
  exact ⟨by rw [List.getElem?_eq_getElem hk, h1], h2, hk, xs[k]'(by omega), List.getElem?_eq_getElem (by omega)⟩
set_option maxHeartbeats 4000000 in
theorem l_X7_lowest {G : zG} {σ : zT} {d fa it cx : Nat} {fs : List F5} {mod : Int32} {xs : List Nat}  {Q : zO → zT → Prop} (hd : 6 ≤ d) (hG : zOk G) (hw : zGd G σ) (hL : zL G σ (dT fa) fa mod xs) (hlen : xs.length = fs.length) (hfs : ∀ (j q : Nat) (z : F5), xs[j]? = some q → fs[j]? = some z → sF σ q = some (.inr (12, fV z)) ∧ sT σ q = 0 ∧ (z.2.2.2.2 = 110 ∨ z.2.2.2.2 = 108 ∨ z.2.2.2.2 = 114)) (hit : sZ σ ≤ it) : ∀ (ys : List F5) (k : Nat) (lr : Int32) (p : Int32) (σ1 : zT), fs.drop k = ys → k ≤ fs.length → zX G S0 σ σ1 8 → sF σ1 it = some (.inr (21, [.int (nI k), .int lr, .int mod, .ref fa])) → (∀ σ2, zX G S0 σ σ2 8 → zR G yX7_lowest cX7_lowest 4 (Option.some Jvm.ClassFile.FieldType.int) [] d 49 [(0, .ref cx), (1, .int (ys.foldl (fun a z => imax a (z.2.1 + z.2.2.2.1)) p)), (2, .ref it)] [] σ2 Q) → zR G yX7_lowest cX7_lowest 4 (Option.some Jvm.ClassFile.FieldType.int) [] d 13 [(0, .ref cx), (1, .int p), (2, .ref it)] [] σ1 Q := by
  intro ys
  induction ys with
  | nil =>
    intro k lr p σ1 hy hk hX hI kQ
    have hL1 := hX.L hw hL (fun h => h) (fun h => h)
    have hkl : k = xs.length := by rw [hlen]; exact drop_nil hy hk
    refine zr_aload_n dX7_lowest_13 rfl rfl ?_
    refine zr_call51 (rest := []) (zs_F (As := []) (by omega) okF_J23_hasNext (by decide +kernel) q1368 q927 q929 q84 q931 (.new hI) rfl rfl rfl (Nat.le_of_ble_eq_true rfl) dX7_lowest_14) (c_hasNext0 hL1 hI hkl) ?_
    refine zr_if_eq (tgt := 49) dX7_lowest_19 (by decide) (fun _ => ?_) (fun h9 => absurd (rfl) h9)
    exact kQ σ1 hX
  | cons z ys ih =>
    intro k lr p σ1 hy hk hX hI kQ
    have hL1 := hX.L hw hL (fun h => h) (fun h => h)
    obtain ⟨hz, hy2, hkl, q, hx⟩ := drop_z hlen hy
    obtain ⟨hq0, hq1, hqs⟩ := hfs k q z hx hz
    have hX2 := hX.upN (gs := [.int (nI (k + 1)), .int (nI k), .int mod, .ref fa]) hI hit
    have hq : zAt G (sUp σ1 it (.inr (21, [.int (nI (k + 1)), .int (nI k), .int mod, .ref fa]))) q (.inr (12, fV z)) := .new (hX2.f hw hq0 (fun h => h))
    refine zr_aload_n dX7_lowest_13 rfl rfl ?_
    refine zr_call51 (rest := []) (zs_F (As := []) (by omega) okF_J23_hasNext (by decide +kernel) q1368 q927 q929 q84 q931 (.new hI) rfl rfl rfl (Nat.le_of_ble_eq_true rfl) dX7_lowest_14) (c_hasNext1 hL1 hI (by rw [hlen]; exact hkl)) ?_
    refine zr_if_eq (tgt := 49) dX7_lowest_19 (by decide) (fun h9 => absurd h9 (by decide)) (fun _ => ?_)
    refine zr_aload_n dX7_lowest_22 rfl rfl ?_
    refine zr_call51 (rest := []) (zs_F (As := []) (by omega) okF_J23_next (by decide +kernel) q1370 q1044 q1046 q84 q1048 (.new hI) rfl rfl rfl (Nat.le_of_ble_eq_true rfl) dX7_lowest_23) (c_J23_next (by omega) hG hL1 hI hx) ?_
    refine zr_castS hq rfl q1371 dX7_lowest_28 ?_
    refine zr_astore_n (ls2 := [(0, .ref cx), (1, .int p), (2, .ref it), (3, .ref q)]) dX7_lowest_31 rfl (Nat.le_of_ble_eq_true rfl) rfl ?_
    refine zr_iload_n dX7_lowest_32 rfl rfl ?_
    refine zr_aload_n dX7_lowest_33 rfl rfl ?_
    refine zr_call1 (rest := [.int p]) (zs_V (As := []) (by omega) ok_X12_y q1534 q1535 q1536 q97 q1537 rfl hq rfl rfl rfl (Nat.le_of_ble_eq_true rfl) dX7_lowest_34) (c_X12_y hq) ?_
    refine zr_aload_n dX7_lowest_37 rfl rfl ?_
    refine zr_call1 (rest := [.int z.2.1, .int p]) (zs_V (As := []) (by omega) ok_X12_height q1572 q1573 q1574 q97 q1575 rfl hq rfl rfl rfl (Nat.le_of_ble_eq_true rfl) dX7_lowest_38) (c_X12_height hq) ?_
    refine zr_iadd dX7_lowest_41 ?_
    refine zr_max (by omega) q1393 q376 q60 q377 (Nat.le_of_ble_eq_true rfl) dX7_lowest_42 ?_
    refine zr_istore_n (ls2 := [(0, .ref cx), (1, .int (imax p (z.2.1 + z.2.2.2.1))), (2, .ref it), (3, .ref q)]) dX7_lowest_45 rfl (Nat.le_of_ble_eq_true rfl) rfl ?_
    refine zr_goto (tgt := 13) dX7_lowest_46 (by decide) ?_
    refine zr_sub (ls2 := [(0, .ref cx), (1, .int (imax p (z.2.1 + z.2.2.2.1))), (2, .ref it)]) [0, 1, 2] rfl ?_
    exact ih (k + 1) _ _ _ hy2 (by omega) hX2 (sF_upS _ _ _) kQ
set_option maxHeartbeats 4000000 in
theorem c_X7_lowest {G : zG} {σ : zT} {d cx ly fa p : Nat} {fs : List F5} (hd : 7 ≤ d) (hG : zOk G) (hw : zGd G σ) (hcx : zAt G σ cx (.inr (7, [.ref ly, .ref fa, .ref p]))) (hF : FlS G σ fa fs) : zCall G I_X7_lowest d [.ref cx] σ ((fun o σ' => o = .inl (some (.int (cLow fs))) ∧ zX G S0 σ σ' 8)) := by
  refine zCall_of (ls := [(0, .ref cx)]) (by decide) (Nat.le_of_ble_eq_true rfl) rfl ?_
  obtain ⟨mod, xs, hL, hlen, hl24, hfs⟩ := hF
  obtain ⟨fl, hfl⟩ := hL.A
  refine zr_ldc (v := (-2147483648)) q1571 dX7_lowest_0 ?_
  refine zr_istore_n (ls2 := [(0, .ref cx), (1, .int (-2147483648))]) dX7_lowest_2 rfl (Nat.le_of_ble_eq_true rfl) rfl ?_
  refine zr_aload_n dX7_lowest_3 rfl rfl ?_
  refine zr_get (k := 1) (v := .ref fa) in_X7 hcx rfl (Nat.le_of_ble_eq_true rfl) q1329 (.inl rfl) rfl dX7_lowest_4 ?_
  refine zr_call51 (rest := []) (zs_F (As := []) (by omega) okF_J2_iterator (by decide +kernel) q1366 q832 q834 q56 q836 hfl rfl rfl rfl (Nat.le_of_ble_eq_true rfl) dX7_lowest_7) (c_J2_iterator (by omega) hw.1 hL) ?_
  refine zr_astore_n (ls2 := [(0, .ref cx), (1, .int (-2147483648)), (2, .ref (sZ σ))]) dX7_lowest_12 rfl (Nat.le_of_ble_eq_true rfl) rfl ?_
  refine l_X7_lowest (by omega) hG hw hL hlen hfs (Nat.le_refl _) fs 0 _ _ _ rfl (Nat.zero_le _) (zX.new _ hw _ (by omega) _ _) (sF_newS _ _ _ _) (fun σ1 hX1 => ?_)
  show zR _ _ _ _ _ _ _ _ [(0, .ref cx), (1, .int (cLow fs)), (2, .ref (sZ σ))] _ _ _
  refine zr_iload_n dX7_lowest_49 rfl rfl ?_
  exact zr_iret rfl rfl dX7_lowest_50 (⟨rfl, hX1⟩)
set_option maxHeartbeats 4000000 in
theorem l_X7_edges {G : zG} {σ : zT} {d fa it cx : Nat} {fs : List F5} {mod : Int32} {xs : List Nat} {top h left right need : Int32} {Q : zO → zT → Prop} (hd : 6 ≤ d) (hG : zOk G) (hw : zGd G σ) (hL : zL G σ (dT fa) fa mod xs) (hlen : xs.length = fs.length) (hfs : ∀ (j q : Nat) (z : F5), xs[j]? = some q → fs[j]? = some z → sF σ q = some (.inr (12, fV z)) ∧ sT σ q = 0 ∧ (z.2.2.2.2 = 110 ∨ z.2.2.2.2 = 108 ∨ z.2.2.2.2 = 114)) (hit : sZ σ ≤ it) : ∀ (ys : List F5) (k : Nat) (lr : Int32) (p : Int32 × Int32 × Int32) (σ1 : zT), fs.drop k = ys → k ≤ fs.length → zX G S0 σ σ1 8 → sF σ1 it = some (.inr (21, [.int (nI k), .int lr, .int mod, .ref fa])) → (∀ σ2, zX G S0 σ σ2 8 → zR G yX7_edges cX7_edges 11 (Option.some (Jvm.ClassFile.FieldType.object "ColumnarPress$Edges")) [] d 131 [(0, .ref cx), (1, .int top), (2, .int h), (3, .int left), (4, .int right), (5, .int need), (6, .int (ys.foldl (edS top h) p).1), (7, .int (ys.foldl (edS top h) p).2.1), (8, .int (ys.foldl (edS top h) p).2.2), (9, .ref it)] [] σ2 Q) → zR G yX7_edges cX7_edges 11 (Option.some (Jvm.ClassFile.FieldType.object "ColumnarPress$Edges")) [] d 22 [(0, .ref cx), (1, .int top), (2, .int h), (3, .int left), (4, .int right), (5, .int need), (6, .int p.1), (7, .int p.2.1), (8, .int p.2.2), (9, .ref it)] [] σ1 Q := by
  intro ys
  induction ys with
  | nil =>
    intro k lr p σ1 hy hk hX hI kQ
    have hL1 := hX.L hw hL (fun h => h) (fun h => h)
    have hkl : k = xs.length := by rw [hlen]; exact drop_nil hy hk
    refine zr_aload dX7_edges_22 rfl ?_
    refine zr_call51 (rest := []) (zs_F (As := []) (by omega) okF_J23_hasNext (by decide +kernel) q1368 q927 q929 q84 q931 (.new hI) rfl rfl rfl (Nat.le_of_ble_eq_true rfl) dX7_edges_24) (c_hasNext0 hL1 hI hkl) ?_
    refine zr_if_eq (tgt := 131) dX7_edges_29 (by decide) (fun _ => ?_) (fun h9 => absurd (rfl) h9)
    exact kQ σ1 hX
  | cons z ys ih =>
    intro k lr p σ1 hy hk hX hI kQ
    have hL1 := hX.L hw hL (fun h => h) (fun h => h)
    obtain ⟨hz, hy2, hkl, q, hx⟩ := drop_z hlen hy
    obtain ⟨hq0, hq1, hqs⟩ := hfs k q z hx hz
    have hX2 := hX.upN (gs := [.int (nI (k + 1)), .int (nI k), .int mod, .ref fa]) hI hit
    have hq : zAt G (sUp σ1 it (.inr (21, [.int (nI (k + 1)), .int (nI k), .int mod, .ref fa]))) q (.inr (12, fV z)) := .new (hX2.f hw hq0 (fun h => h))
    refine zr_aload dX7_edges_22 rfl ?_
    refine zr_call51 (rest := []) (zs_F (As := []) (by omega) okF_J23_hasNext (by decide +kernel) q1368 q927 q929 q84 q931 (.new hI) rfl rfl rfl (Nat.le_of_ble_eq_true rfl) dX7_edges_24) (c_hasNext1 hL1 hI (by rw [hlen]; exact hkl)) ?_
    refine zr_if_eq (tgt := 131) dX7_edges_29 (by decide) (fun h9 => absurd h9 (by decide)) (fun _ => ?_)
    refine zr_aload dX7_edges_32 rfl ?_
    refine zr_call51 (rest := []) (zs_F (As := []) (by omega) okF_J23_next (by decide +kernel) q1370 q1044 q1046 q84 q1048 (.new hI) rfl rfl rfl (Nat.le_of_ble_eq_true rfl) dX7_edges_34) (c_J23_next (by omega) hG hL1 hI hx) ?_
    refine zr_castS hq rfl q1371 dX7_edges_39 ?_
    refine zr_astore (ls2 := [(0, .ref cx), (1, .int top), (2, .int h), (3, .int left), (4, .int right), (5, .int need), (6, .int p.1), (7, .int p.2.1), (8, .int p.2.2), (9, .ref it), (10, .ref q)]) dX7_edges_42 (Nat.le_of_ble_eq_true rfl) rfl ?_
    refine zr_aload dX7_edges_44 rfl ?_
    refine zr_iload_n dX7_edges_46 rfl rfl ?_
    refine zr_iload_n dX7_edges_47 rfl rfl ?_
    refine zr_iload_n dX7_edges_48 rfl rfl ?_
    refine zr_iadd dX7_edges_49 ?_
    refine zr_call1 (rest := []) (zs_V (As := [.int top, .int (top + h)]) (by omega) ok_X12_liesIn q1372 q1373 q1374 q97 q1375 rfl hq rfl rfl rfl (Nat.le_of_ble_eq_true rfl) dX7_edges_50) (c_X12_liesIn (by omega) hq) ?_
    refine zr_ifeqB (tgt := 128) dX7_edges_53 (by decide) (fun h1 => ?_) (fun h1 => ?_)
    · refine zr_goto (tgt := 22) dX7_edges_128 (by decide) ?_
      refine zr_sub (ls2 := [(0, .ref cx), (1, .int top), (2, .int h), (3, .int left), (4, .int right), (5, .int need), (6, .int p.1), (7, .int p.2.1), (8, .int p.2.2), (9, .ref it)]) [0, 1, 2, 3, 4, 5, 6, 7, 8, 9] rfl ?_
      have e9 : edS top h p z = p := if_neg (by rw [h1]; decide)
      have i9 := ih (k + 1) (nI k) (edS top h p z) _ hy2 (by omega) hX2 (sF_upS _ _ _)
      rw [e9] at i9
      refine i9 (fun σ2 q1 => ?_)
      have k9 := kQ σ2 q1
      rw [List.foldl_cons, e9] at k9
      exact k9
    · refine zr_aload dX7_edges_56 rfl ?_
      refine zr_call1 (rest := []) (zs_V (As := []) (by omega) ok_X12_side q1381 q1382 q1383 q97 q1384 rfl hq rfl rfl rfl (Nat.le_of_ble_eq_true rfl) dX7_edges_58) (c_X12_side (nar_sd hqs) hq) ?_
      refine zr_bipush (v := 108) dX7_edges_61 (by decide) ?_
      have key : ∀ x, x = (if z.2.2.2.2 = 108 then imax p.1 (z.1 + z.2.2.1) else p.1) → zR G yX7_edges cX7_edges 11 (Option.some (Jvm.ClassFile.FieldType.object "ColumnarPress$Edges")) [] d 87 [(0, .ref cx), (1, .int top), (2, .int h), (3, .int left), (4, .int right), (5, .int need), (6, .int p.1), (7, .int p.2.1), (8, .int p.2.2), (9, .ref it), (10, .ref q)] [.int x] (sUp σ1 it (.inr (21, [.int (nI (k + 1)), .int (nI k), .int mod, .ref fa]))) Q := by
        intro x hx1
        refine zr_istore (ls2 := [(0, .ref cx), (1, .int top), (2, .int h), (3, .int left), (4, .int right), (5, .int need), (6, .int x), (7, .int p.2.1), (8, .int p.2.2), (9, .ref it), (10, .ref q)]) dX7_edges_87 (Nat.le_of_ble_eq_true rfl) rfl ?_
        refine zr_aload dX7_edges_89 rfl ?_
        refine zr_call1 (rest := []) (zs_V (As := []) (by omega) ok_X12_side q1381 q1382 q1383 q97 q1384 rfl hq rfl rfl rfl (Nat.le_of_ble_eq_true rfl) dX7_edges_91) (c_X12_side (nar_sd hqs) hq) ?_
        refine zr_bipush (v := 114) dX7_edges_94 (by decide) ?_
        have key2 : ∀ y, y = (if z.2.2.2.2 = 114 then imin p.2.1 z.1 else p.2.1) → zR G yX7_edges cX7_edges 11 (Option.some (Jvm.ClassFile.FieldType.object "ColumnarPress$Edges")) [] d 114 [(0, .ref cx), (1, .int top), (2, .int h), (3, .int left), (4, .int right), (5, .int need), (6, .int x), (7, .int p.2.1), (8, .int p.2.2), (9, .ref it), (10, .ref q)] [.int y] (sUp σ1 it (.inr (21, [.int (nI (k + 1)), .int (nI k), .int mod, .ref fa]))) Q := by
          intro y hy1
          refine zr_istore (ls2 := [(0, .ref cx), (1, .int top), (2, .int h), (3, .int left), (4, .int right), (5, .int need), (6, .int x), (7, .int y), (8, .int p.2.2), (9, .ref it), (10, .ref q)]) dX7_edges_114 (Nat.le_of_ble_eq_true rfl) rfl ?_
          refine zr_iload dX7_edges_116 rfl ?_
          refine zr_aload dX7_edges_118 rfl ?_
          refine zr_call1 (rest := [.int p.2.2]) (zs_V (As := []) (by omega) ok_X12_end q1395 q1377 q1378 q97 q1379 rfl hq rfl rfl rfl (Nat.le_of_ble_eq_true rfl) dX7_edges_120) (c_X12_end (by omega) hq) ?_
          refine zr_min (by omega) q1394 q431 q60 q432 (Nat.le_of_ble_eq_true rfl) dX7_edges_123 ?_
          refine zr_istore (ls2 := [(0, .ref cx), (1, .int top), (2, .int h), (3, .int left), (4, .int right), (5, .int need), (6, .int x), (7, .int y), (8, .int (imin p.2.2 (fEnd z.2.1 z.2.2.2.1))), (9, .ref it), (10, .ref q)]) dX7_edges_126 (Nat.le_of_ble_eq_true rfl) rfl ?_
          refine zr_goto (tgt := 22) dX7_edges_128 (by decide) ?_
          refine zr_sub (ls2 := [(0, .ref cx), (1, .int top), (2, .int h), (3, .int left), (4, .int right), (5, .int need), (6, .int x), (7, .int y), (8, .int (imin p.2.2 (fEnd z.2.1 z.2.2.2.1))), (9, .ref it)]) [0, 1, 2, 3, 4, 5, 6, 7, 8, 9] rfl ?_
          have e9 : edS top h p z = (x, y, imin p.2.2 (fEnd z.2.1 z.2.2.2.1)) := by unfold edS; rw [if_pos h1, hx1, hy1]
          have i9 := ih (k + 1) (nI k) (edS top h p z) _ hy2 (by omega) hX2 (sF_upS _ _ _)
          rw [e9] at i9
          refine i9 (fun σ2 q1 => ?_)
          have k9 := kQ σ2 q1
          rw [List.foldl_cons, e9] at k9
          exact k9
        refine zr_icmp_ne (tgt := 112) dX7_edges_96 (by decide) (fun h3 => ?_) (fun h3 => ?_)
        · refine zr_iload dX7_edges_112 rfl ?_
          exact key2 _ (if_neg h3).symm
        · refine zr_iload dX7_edges_99 rfl ?_
          refine zr_aload dX7_edges_101 rfl ?_
          refine zr_call1 (rest := [.int p.2.1]) (zs_V (As := []) (by omega) ok_X12_x q1385 q1386 q1387 q97 q1388 rfl hq rfl rfl rfl (Nat.le_of_ble_eq_true rfl) dX7_edges_103) (c_X12_x hq) ?_
          refine zr_min (by omega) q1394 q431 q60 q432 (Nat.le_of_ble_eq_true rfl) dX7_edges_106 ?_
          refine zr_goto (tgt := 114) dX7_edges_109 (by decide) ?_
          exact key2 _ (if_pos h3).symm
      refine zr_icmp_ne (tgt := 85) dX7_edges_63 (by decide) (fun h2 => ?_) (fun h2 => ?_)
      · refine zr_iload dX7_edges_85 rfl ?_
        exact key _ (if_neg h2).symm
      · refine zr_iload dX7_edges_66 rfl ?_
        refine zr_aload dX7_edges_68 rfl ?_
        refine zr_call1 (rest := [.int p.1]) (zs_V (As := []) (by omega) ok_X12_x q1385 q1386 q1387 q97 q1388 rfl hq rfl rfl rfl (Nat.le_of_ble_eq_true rfl) dX7_edges_70) (c_X12_x hq) ?_
        refine zr_aload dX7_edges_73 rfl ?_
        refine zr_call1 (rest := [.int z.1, .int p.1]) (zs_V (As := []) (by omega) ok_X12_width q1389 q1390 q1391 q97 q1392 rfl hq rfl rfl rfl (Nat.le_of_ble_eq_true rfl) dX7_edges_75) (c_X12_width hq) ?_
        refine zr_iadd dX7_edges_78 ?_
        refine zr_max (by omega) q1393 q376 q60 q377 (Nat.le_of_ble_eq_true rfl) dX7_edges_79 ?_
        refine zr_goto (tgt := 87) dX7_edges_82 (by decide) ?_
        exact key _ (if_pos h2).symm
set_option maxHeartbeats 4000000 in
theorem c_X7_edges {G : zG} {σ : zT} {d cx ly fa p : Nat} {top h left right need : Int32} {fs : List F5} (hd : 9 ≤ d) (hG : zOk G) (hw : zGd G σ) (hcx : zAt G σ cx (.inr (7, [.ref ly, .ref fa, .ref p]))) (hF : FlS G σ fa fs) : zCall G I_X7_edges d [.ref cx, .int top, .int h, .int left, .int right, .int need] σ ((fun o σ' => zX G S0 σ σ' 40 ∧ (if (cEd fs top h left right).2.1 - (cEd fs top h left right).1 < need ∧ (cEd fs top h left right).2.2 < 2147483647 then ∃ q, o = .inr (RX8, q) ∧ zAt G σ' q (.inr (8, [.null, .null, .null, .ref (zc G 4), .null, .int 0, .int (cEd fs top h left right).2.2])) ∧ sZ σ ≤ q else ∃ q, o = .inl (some (.ref q)) ∧ zAt G σ' q (.inr (9, [.int (cEd fs top h left right).1, .int (cEd fs top h left right).2.1])) ∧ sZ σ ≤ q))) := by
  refine zCall_of (ls := [(0, .ref cx), (1, .int top), (2, .int h), (3, .int left), (4, .int right), (5, .int need)]) (by decide) (Nat.le_of_ble_eq_true rfl) rfl ?_
  obtain ⟨mod, xs, hL, hlen, hl24, hfs⟩ := hF
  obtain ⟨fl, hfl⟩ := hL.A
  refine zr_iload_n dX7_edges_0 rfl rfl ?_
  refine zr_istore (ls2 := [(0, .ref cx), (1, .int top), (2, .int h), (3, .int left), (4, .int right), (5, .int need), (6, .int left)]) dX7_edges_1 (Nat.le_of_ble_eq_true rfl) rfl ?_
  refine zr_iload dX7_edges_3 rfl ?_
  refine zr_istore (ls2 := [(0, .ref cx), (1, .int top), (2, .int h), (3, .int left), (4, .int right), (5, .int need), (6, .int left), (7, .int right)]) dX7_edges_5 (Nat.le_of_ble_eq_true rfl) rfl ?_
  refine zr_ldc (v := 2147483647) q1364 dX7_edges_7 ?_
  refine zr_istore (ls2 := [(0, .ref cx), (1, .int top), (2, .int h), (3, .int left), (4, .int right), (5, .int need), (6, .int left), (7, .int right), (8, .int 2147483647)]) dX7_edges_9 (Nat.le_of_ble_eq_true rfl) rfl ?_
  refine zr_aload_n dX7_edges_11 rfl rfl ?_
  refine zr_get (k := 1) (v := .ref fa) in_X7 hcx rfl (Nat.le_of_ble_eq_true rfl) q1329 (.inl rfl) rfl dX7_edges_12 ?_
  refine zr_call51 (rest := []) (zs_F (As := []) (by omega) okF_J2_iterator (by decide +kernel) q1366 q832 q834 q56 q836 hfl rfl rfl rfl (Nat.le_of_ble_eq_true rfl) dX7_edges_15) (c_J2_iterator (by omega) hw.1 hL) ?_
  refine zr_astore (ls2 := [(0, .ref cx), (1, .int top), (2, .int h), (3, .int left), (4, .int right), (5, .int need), (6, .int left), (7, .int right), (8, .int 2147483647), (9, .ref (sZ σ))]) dX7_edges_20 (Nat.le_of_ble_eq_true rfl) rfl ?_
  refine l_X7_edges (by omega) hG hw hL hlen hfs (Nat.le_refl _) fs 0 _ (left, right, 2147483647) _ rfl (Nat.zero_le _) (zX.new _ hw _ (by omega) _ _) (sF_newS _ _ _ _) (fun σ1 hX1 => ?_)
  show zR _ _ _ _ _ _ _ _ [(0, .ref cx), (1, .int top), (2, .int h), (3, .int left), (4, .int right), (5, .int need), (6, .int (cEd fs top h left right).1), (7, .int (cEd fs top h left right).2.1), (8, .int (cEd fs top h left right).2.2), (9, .ref (sZ σ))] _ _ _
  refine zr_iload dX7_edges_131 rfl ?_
  refine zr_iload dX7_edges_133 rfl ?_
  refine zr_iload dX7_edges_135 rfl ?_
  refine zr_isub dX7_edges_137 ?_
  refine zr_icmp_le (tgt := 158) dX7_edges_138 (by decide) (fun h1 => ?_) (fun h1 => ?_)
  · refine zr_new (ci := 9) (0) zt_X9 q1421 q1422 q94 rfl df_X9 dX7_edges_158 ?_
    have hXe := zX.new S0 hX1.gd 0 (by omega) (.inr (9, d0_X9)) 2
    refine zr_dup dX7_edges_161 rfl ?_
    refine zr_iload dX7_edges_162 rfl ?_
    refine zr_iload dX7_edges_164 rfl ?_
    refine zr_callv (rest := [.ref (sZ σ1)]) (zs_IN (As := [.int (cEd fs top h left right).1, .int (cEd fs top h left right).2.1]) (by omega) ok_X9_init q1423 q1424 q94 q1425 rfl rfl rfl (Nat.le_of_ble_eq_true rfl) dX7_edges_166) (c_X9_init (by omega) (sF_newS _ _ _ _)) ?_
    exact zr_aret rfl (.inl ⟨_, rfl⟩) (.inr ⟨_, rfl⟩) dX7_edges_169 (⟨((hX1.trans hXe).upN (sF_newS _ _ _ _) hX1.sz).le (by omega), by rw [if_neg (fun hh => absurd hh.1 (Int32.not_lt.mpr h1))]; exact ⟨_, rfl, .new (sF_upS _ _ _), hX1.sz⟩⟩)
  · refine zr_iload dX7_edges_141 rfl ?_
    refine zr_ldc (v := 2147483647) q1364 dX7_edges_143 ?_
    refine zr_icmp_ge (tgt := 158) dX7_edges_145 (by decide) (fun h2 => ?_) (fun h2 => ?_)
    · refine zr_new (ci := 9) (0) zt_X9 q1421 q1422 q94 rfl df_X9 dX7_edges_158 ?_
      have hXe := zX.new S0 hX1.gd 0 (by omega) (.inr (9, d0_X9)) 2
      refine zr_dup dX7_edges_161 rfl ?_
      refine zr_iload dX7_edges_162 rfl ?_
      refine zr_iload dX7_edges_164 rfl ?_
      refine zr_callv (rest := [.ref (sZ σ1)]) (zs_IN (As := [.int (cEd fs top h left right).1, .int (cEd fs top h left right).2.1]) (by omega) ok_X9_init q1423 q1424 q94 q1425 rfl rfl rfl (Nat.le_of_ble_eq_true rfl) dX7_edges_166) (c_X9_init (by omega) (sF_newS _ _ _ _)) ?_
      exact zr_aret rfl (.inl ⟨_, rfl⟩) (.inr ⟨_, rfl⟩) dX7_edges_169 (⟨((hX1.trans hXe).upN (sF_newS _ _ _ _) hX1.sz).le (by omega), by rw [if_neg (fun hh => absurd hh.2 (Int32.not_lt.mpr h2))]; exact ⟨_, rfl, .new (sF_upS _ _ _), hX1.sz⟩⟩)
    · refine zr_new (ci := 8) (0) zt_X8 q1354 q1396 q92 rfl df_X8 dX7_edges_148 ?_
      have hXe := zX.new S0 hX1.gd 0 (by omega) (.inr (8, d0_X8)) 7
      refine zr_dup dX7_edges_151 rfl ?_
      refine zr_iload dX7_edges_152 rfl ?_
      refine zr_callv (rest := [.ref (sZ σ1)]) (zs_I (As := [.int (cEd fs top h left right).2.2]) (by omega) ok_X8_init q1404 q1405 q92 q1406 rfl rfl rfl (Nat.le_of_ble_eq_true rfl) dX7_edges_154) (c_X8_init (n := 0) (by omega) hG (sF_newS _ _ _ _)) ?_
      refine zr_athrow (.new (sF_upS _ _ _)) rfl dX7_edges_157 ?_
      refine zx_out (fun x hx => by cases hx) ⟨((hX1.trans hXe).upN (sF_newS _ _ _ _) hX1.sz).le (by omega), ?_⟩
      rw [if_pos ⟨Int32.not_le.mp h1, Int32.not_le.mp h2⟩]
      exact ⟨_, rfl, .new (sF_upS _ _ _), hX1.sz⟩
