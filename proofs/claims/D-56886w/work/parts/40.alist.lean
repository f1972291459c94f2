/-! ===== java.util.ArrayList and its iterator (rows printed by tools/p40.py) ===== -/
theorem sUp_sUp (σ : zT) (a : Nat) (e1 e2 : va_E) : sUp (sUp σ a e1) a e2 = sUp σ a e2 := by
  obtain ⟨f, t, z, l⟩ := σ
  unfold sUp
  refine Prod.ext ?_ rfl
  funext x
  by_cases h : x = a <;> simp [h]
theorem sUp_self (σ : zT) {a : Nat} {e : va_E} (h : sF σ a = some e) : sUp σ a e = σ := by
  obtain ⟨f, t, z, l⟩ := σ
  unfold sUp
  refine Prod.ext ?_ rfl
  funext x
  by_cases hx : x = a
  · subst hx; simp; exact h.symm
  · simp [hx]
/-- what is there from the start -/
def zOk (G : zG) : Prop := (zH G).size = zB G ∧ (zc G 0 < zB G ∧ va_at (zD G) zcl (zc G 0, aO G 0 (fun _ => none)) (zH G)) ∧ (zc G 1 < zB G ∧ va_at (zD G) zcl (zc G 1, aO G 0 (fun _ => none)) (zH G)) ∧ (zc G 2 < zB G ∧ va_at (zD G) zcl (zc G 2, aN G 256 (fun k => some (zc G (100 + k)))) (zH G)) ∧ ∀ k, k < 256 → zc G (100 + k) < zB G ∧ va_at (zD G) zcl (zc G (100 + k), .inr (0, [.int (nI k - 128)])) (zH G)
theorem zOk.d0 {G : zG} (h : zOk G) (σ : zT) : zAt G σ (zc G 0) (aO G 0 (fun _ => none)) := Or.inr h.2.1
theorem zOk.ic {G : zG} (h : zOk G) (σ : zT) {k : Nat} (hk : k < 256) : zAt G σ (zc G (100 + k)) (.inr (0, [.int (nI k - 128)])) := Or.inr (h.2.2.2.2 k hk)

set_option maxHeartbeats 4000000 in
theorem c_J0_init {G : zG} {σ : zT} {d : Nat} {l : Nat} (hd : 1 ≤ d) : zC G I_J0_init d [.ref l] σ (.inl none) σ := by
  refine zCall.exact (zCall_of (ls := [(0, .ref l)]) (by decide) (Nat.le_of_ble_eq_true rfl) rfl ?_)
  refine zr_aload_n dJ0_init_0 rfl rfl ?_
  refine zr_objInit (by omega) q125 q112 q113 (Nat.le_of_ble_eq_true rfl) dJ0_init_1 ?_
  exact zr_vret rfl dJ0_init_4 (⟨rfl, rfl⟩)
set_option maxHeartbeats 4000000 in
theorem c_J1_init {G : zG} {σ : zT} {d : Nat} {l : Nat} (hd : 2 ≤ d) {fs : Value} {n : Value} (h0 : sF σ l = some (.inr (20, [.int 0, fs, n]))) : zC G I_J1_init d [.ref l] σ (.inl none) σ := by
  refine zCall.exact (zCall_of (ls := [(0, .ref l)]) (by decide) (Nat.le_of_ble_eq_true rfl) rfl ?_)
  refine zr_aload_n dJ1_init_0 rfl rfl ?_
  refine zr_callv (rest := []) (zs_I (As := []) (by omega) ok_J0_init q122 q123 q54 q124 rfl rfl rfl (Nat.le_of_ble_eq_true rfl) dJ1_init_1) (c_J0_init (by omega)) ?_
  refine zr_aload_n dJ1_init_4 rfl rfl ?_
  refine zr_iconst (v := 0) dJ1_init_5 (by decide) ?_
  refine zr_put (k := 0) (fs' := [.int 0, fs, n]) zt_J2 h0 rfl (Nat.le_of_ble_eq_true rfl) q134 (.inl rfl) rfl rfl rfl (Nat.le_of_ble_eq_true rfl) rfl dJ1_init_6 ?_
  rw [sUp_self σ h0]
  exact zr_vret rfl dJ1_init_9 (⟨rfl, rfl⟩)
set_option maxHeartbeats 4000000 in
theorem c_J2_init {G : zG} {σ : zT} {d : Nat} {l : Nat} (hd : 3 ≤ d) (hG : zOk G) (h0 : sF σ l = some (.inr (20, d0_J2))) : zC G I_J2_init d [.ref l] σ (.inl none) (sUp σ l (.inr (20, [.int 0, .ref (zc G 0), .int 0]))) := by
  refine zCall.exact (zCall_of (ls := [(0, .ref l)]) (by decide) (Nat.le_of_ble_eq_true rfl) rfl ?_)
  refine zr_aload_n dJ2_init_0 rfl rfl ?_
  refine zr_callv (rest := []) (zs_I (As := []) (by omega) ok_J1_init q119 q120 q55 q121 rfl rfl rfl (Nat.le_of_ble_eq_true rfl) dJ2_init_1) (c_J1_init (by omega) h0) ?_
  refine zr_aload_n dJ2_init_4 rfl rfl ?_
  refine zr_gets (v := .ref (zc G 0)) hG.1 (fun U h => h.1) q126 (.inl rfl) dJ2_init_5 ?_
  refine zr_put (k := 1) (fs' := [.int 0, .ref (zc G 0), .int 0]) zt_J2 h0 rfl (Nat.le_of_ble_eq_true rfl) q128 (.inl rfl) rfl rfl rfl (Nat.le_of_ble_eq_true rfl) rfl dJ2_init_8 ?_
  exact zr_vret rfl dJ2_init_11 (⟨rfl, rfl⟩)
/-- an object that can stand in a list -/
def zEl (G : zG) (σ : zT) (x : Nat) : Prop := ∃ ci vs C T N, zAt G σ x (.inr (ci, vs)) ∧ zcl[ci]? = some (C, T, N) ∧ Cond.castable C "java/lang/Object" ∈ lw_tbl
/-- l is an ArrayList of the references xs, its tag t, its array's t + 1; mod: its modCount -/
def zL (G : zG) (σ : zT) (t l : Nat) (mod : Int32) (xs : List Nat) : Prop := ∃ (arr cap : Nat) (f : Nat → Option Nat), sF σ l = some (.inr (20, [.int mod, .ref arr, .int (nI xs.length)])) ∧ sT σ l = t ∧ xs.length ≤ cap ∧ cap ≤ 1000000 ∧ (∀ j, j < xs.length → f j = xs[j]?) ∧ ((cap = 0 ∧ arr = zc G 0 ∧ f = fun _ => none) ∨ (0 < cap ∧ sF σ arr = some (aO G cap f) ∧ sT σ arr = t + 1))
theorem zL.arr {G : zG} {σ : zT} (hG : zOk G) {arr cap t : Nat} {f : Nat → Option Nat} (h : (cap = 0 ∧ arr = zc G 0 ∧ f = fun _ => none) ∨ (0 < cap ∧ sF σ arr = some (aO G cap f) ∧ sT σ arr = t + 1)) : zAt G σ arr (aO G cap f) := by
  rcases h with ⟨rfl, rfl, rfl⟩ | ⟨-, h, -⟩
  · exact hG.d0 σ
  · exact .new h
/-- cells of tags outside S are as they were; what is new lies behind -/
def zFr (S : Nat → Prop) (σ σ' : zT) : Prop := sZ σ ≤ sZ σ' ∧ ∀ a, a < sZ σ → sT σ' a = sT σ a ∧ (¬ S (sT σ a) → sF σ' a = sF σ a)
theorem zFr.rf (S : Nat → Prop) (σ : zT) : zFr S σ σ := ⟨Nat.le_refl _, fun _ _ => ⟨rfl, fun _ => rfl⟩⟩
theorem zFr.trans {S : Nat → Prop} {σ σ1 σ2 : zT} (h1 : zFr S σ σ1) (h2 : zFr S σ1 σ2) : zFr S σ σ2 :=
  ⟨Nat.le_trans h1.1 h2.1, fun a ha => by
    have a1 := h1.2 a ha
    have a2 := h2.2 a (Nat.lt_of_lt_of_le ha h1.1)
    exact ⟨a2.1.trans a1.1, fun hs => (a2.2 (by rw [a1.1]; exact hs)).trans (a1.2 hs)⟩⟩
theorem zFr.mono {S S' : Nat → Prop} {σ σ' : zT} (h : zFr S σ σ') (hs : ∀ t, S t → S' t) : zFr S' σ σ' := ⟨h.1, fun a ha => ⟨(h.2 a ha).1, fun n => (h.2 a ha).2 (fun q => n (hs _ q))⟩⟩
theorem zFr.up {S : Nat → Prop} {σ : zT} {a : Nat} (e : va_E) (hs : S (sT σ a)) : zFr S σ (sUp σ a e) := ⟨Nat.le_refl _, fun x _ => ⟨rfl, fun n => by
  by_cases h : x = a
  · subst h; exact absurd hs n
  · exact sF_upN σ a e h⟩⟩
theorem zFr.new (S : Nat → Prop) (σ : zT) (t : Nat) (e : va_E) (n : Nat) : zFr S σ (sNew σ t e n) := ⟨Nat.le_succ _, fun x hx => ⟨sT_newN σ t e n (Nat.ne_of_lt hx), fun _ => sF_newN σ t e n (Nat.ne_of_lt hx)⟩⟩
/-- what a step costs: slots, and four for each cell -/
def sM (σ : zT) : Nat := sL σ + 4 * sZ σ
/-- all cells lie below the heap's end -/
def zWf (σ : zT) : Prop := ∀ a e, sF σ a = some e → a < sZ σ

set_option maxHeartbeats 4000000 in
theorem c_J2_size {G : zG} {σ : zT} {d : Nat} {t l : Nat} {mod : Int32} {xs : List Nat} (hd : 1 ≤ d) (hL : zL G σ t l mod xs) : zC G I_J2_size d [.ref l] σ (.inl (some (.int (nI xs.length)))) σ := by
  refine zCall.exact (zCall_of (ls := [(0, .ref l)]) (by decide) (Nat.le_of_ble_eq_true rfl) rfl ?_)
  obtain ⟨arr, cap, f, h1, -⟩ := hL
  refine zr_aload_n dJ2_size_0 rfl rfl ?_
  refine zr_get (k := 2) (v := .int (nI xs.length)) in_J2 (.new h1) rfl (Nat.le_of_ble_eq_true rfl) q133 (.inl rfl) rfl dJ2_size_1 ?_
  exact zr_iret rfl rfl dJ2_size_4 (⟨rfl, rfl⟩)
set_option maxHeartbeats 4000000 in
theorem c_J2_isEmpty {G : zG} {σ : zT} {d : Nat} {t l : Nat} {mod : Int32} {xs : List Nat} (hd : 1 ≤ d) (hL : zL G σ t l mod xs) : zC G I_J2_isEmpty d [.ref l] σ (.inl (some (.int (bI xs.isEmpty)))) σ := by
  refine zCall.exact (zCall_of (ls := [(0, .ref l)]) (by decide) (Nat.le_of_ble_eq_true rfl) rfl ?_)
  obtain ⟨arr, cap, f, h1, -, hc, hc2, -⟩ := hL
  refine zr_aload_n dJ2_isEmpty_0 rfl rfl ?_
  refine zr_get (k := 2) (v := .int (nI xs.length)) in_J2 (.new h1) rfl (Nat.le_of_ble_eq_true rfl) q133 (.inl rfl) rfl dJ2_isEmpty_1 ?_
  refine zr_if_ne (tgt := 11) dJ2_isEmpty_4 (by decide) (fun c => ?_) (fun c => ?_)
  · refine zr_iconst (v := 0) dJ2_isEmpty_11 (by decide) ?_
    exact zr_iret rfl rfl dJ2_isEmpty_12 (⟨by cases xs with
          | nil => exact absurd rfl c
          | cons x r => rfl, rfl⟩)
  · refine zr_iconst (v := 1) dJ2_isEmpty_7 (by decide) ?_
    refine zr_goto (tgt := 12) dJ2_isEmpty_8 (by decide) ?_
    exact zr_iret rfl rfl dJ2_isEmpty_12 (⟨by cases xs with
          | nil => rfl
          | cons x r => exact absurd c (nI_ne0 (Nat.succ_pos _) (by omega)), rfl⟩)
set_option maxHeartbeats 4000000 in
theorem c_J15_checkIndex {G : zG} {σ : zT} {d : Nat} {i n : Nat} (hi : i < n) (hn : n < 2 ^ 31) : zC G I_J15_checkIndex d [.int (nI i), .int (nI n), .null] σ (.inl (some (.int (nI i)))) σ := by
  refine zCall.exact (zCall_of (ls := [(0, .int (nI i)), (1, .int (nI n)), (2, .null)]) (by decide) (Nat.le_of_ble_eq_true rfl) rfl ?_)
  refine zr_iload_n dJ15_checkIndex_0 rfl rfl ?_
  refine zr_if_lt (tgt := 9) dJ15_checkIndex_1 (by decide) (fun h9 => absurd h9 (nI_pos (by omega))) (fun _ => ?_)
  refine zr_iload_n dJ15_checkIndex_4 rfl rfl ?_
  refine zr_iload_n dJ15_checkIndex_5 rfl rfl ?_
  refine zr_icmp_lt (tgt := 16) dJ15_checkIndex_6 (by decide) (fun _ => ?_) (fun h9 => absurd (nI_lt hi hn) h9)
  refine zr_iload_n dJ15_checkIndex_16 rfl rfl ?_
  exact zr_iret rfl rfl dJ15_checkIndex_17 (⟨rfl, rfl⟩)
set_option maxHeartbeats 4000000 in
theorem c_J21_checkIndex {G : zG} {σ : zT} {d : Nat} {i n : Nat} (hd : 2 ≤ d) (hi : i < n) (hn : n < 2 ^ 31) : zC G I_J21_checkIndex d [.int (nI i), .int (nI n)] σ (.inl (some (.int (nI i)))) σ := by
  refine zCall.exact (zCall_of (ls := [(0, .int (nI i)), (1, .int (nI n))]) (by decide) (Nat.le_of_ble_eq_true rfl) rfl ?_)
  refine zr_iload_n dJ21_checkIndex_0 rfl rfl ?_
  refine zr_iload_n dJ21_checkIndex_1 rfl rfl ?_
  refine zr_null dJ21_checkIndex_2 ?_
  refine zr_call1 (rest := []) (zs_S (As := [.int (nI i), .int (nI n), .null]) (by omega) ok_J15_checkIndex q964 q965 q72 q966 rfl rfl (Nat.le_of_ble_eq_true rfl) dJ21_checkIndex_3) (c_J15_checkIndex hi hn) ?_
  exact zr_iret rfl rfl dJ21_checkIndex_6 (⟨rfl, rfl⟩)
set_option maxHeartbeats 4000000 in
theorem c_J2_elementData {G : zG} {σ : zT} {d : Nat} {t l : Nat} {mod : Int32} {xs : List Nat} {i x : Nat} (hd : 1 ≤ d) (hG : zOk G) (hL : zL G σ t l mod xs) (hx : xs[i]? = some x) : zC G I_J2_elementData d [.ref l, .int (nI i)] σ (.inl (some (.ref x))) σ := by
  refine zCall.exact (zCall_of (ls := [(0, .ref l), (1, .int (nI i))]) (by decide) (Nat.le_of_ble_eq_true rfl) rfl ?_)
  obtain ⟨arr, cap, f, h1, -, hc, hc2, hf, ha⟩ := hL
  have hi : i < xs.length := (List.getElem?_eq_some_iff.mp hx).1
  refine zr_aload_n dJ2_elementData_0 rfl rfl ?_
  refine zr_get (k := 1) (v := .ref arr) in_J2 (.new h1) rfl (Nat.le_of_ble_eq_true rfl) q128 (.inl rfl) rfl dJ2_elementData_1 ?_
  refine zr_iload_n dJ2_elementData_4 rfl rfl ?_
  refine zr_aald (v := .ref x) (zL.arr hG ha) (vp_in_nI (by omega) (by omega)) (by rw [nI_clamp (by omega), hf i hi, hx]; rfl) dJ2_elementData_5 ?_
  exact zr_aret rfl (.inl ⟨_, rfl⟩) (.inr ⟨_, rfl⟩) dJ2_elementData_6 (⟨rfl, rfl⟩)
set_option maxHeartbeats 4000000 in
theorem c_J2_get {G : zG} {σ : zT} {d : Nat} {t l : Nat} {mod : Int32} {xs : List Nat} {i x : Nat} (hd : 3 ≤ d) (hG : zOk G) (hL : zL G σ t l mod xs) (hx : xs[i]? = some x) : zC G I_J2_get d [.ref l, .int (nI i)] σ (.inl (some (.ref x))) σ := by
  refine zCall.exact (zCall_of (ls := [(0, .ref l), (1, .int (nI i))]) (by decide) (Nat.le_of_ble_eq_true rfl) rfl ?_)
  have hL0 := hL
  obtain ⟨arr, cap, f, h1, -, hc, hc2, hf, ha⟩ := hL
  have hi : i < xs.length := (List.getElem?_eq_some_iff.mp hx).1
  refine zr_iload_n dJ2_get_0 rfl rfl ?_
  refine zr_aload_n dJ2_get_1 rfl rfl ?_
  refine zr_get (k := 2) (v := .int (nI xs.length)) in_J2 (.new h1) rfl (Nat.le_of_ble_eq_true rfl) q133 (.inl rfl) rfl dJ2_get_2 ?_
  refine zr_call1 (rest := []) (zs_S (As := [.int (nI i), .int (nI xs.length)]) (by omega) ok_J21_checkIndex q961 q962 q80 q963 rfl rfl (Nat.le_of_ble_eq_true rfl) dJ2_get_5) (c_J21_checkIndex (by omega) hi (by omega)) ?_
  refine zr_pop dJ2_get_8 rfl ?_
  refine zr_aload_n dJ2_get_9 rfl rfl ?_
  refine zr_iload_n dJ2_get_10 rfl rfl ?_
  refine zr_call1 (rest := []) (zs_V (As := [.int (nI i)]) (by omega) ok_J2_elementData q967 q968 q969 q56 q970 rfl (.new h1) rfl rfl rfl (Nat.le_of_ble_eq_true rfl) dJ2_get_11) (c_J2_elementData (by omega) hG hL0 hx) ?_
  exact zr_aret rfl (.inl ⟨_, rfl⟩) (.inr ⟨_, rfl⟩) dJ2_get_14 (⟨rfl, rfl⟩)
