/-! ===== bundles; ArrayList.clear, remove, new ArrayList(c), Integer.valueOf (rows printed by tools/p44.py) ===== -/
/-- from σ to σ': only cells with tags in S have changed, the store is sound, elements stay, at most n is spent -/
def zX (G : zG) (S : Nat → Prop) (σ σ' : zT) (n : Nat) : Prop := zFr S σ σ' ∧ zGd G σ' ∧ zEk G σ σ' ∧ sM σ' ≤ sM σ + n
theorem zX.rf {G : zG} (S : Nat → Prop) {σ : zT} (h : zGd G σ) (n : Nat) : zX G S σ σ n := ⟨zFr.rf S σ, h, zEk.rf G σ, Nat.le_add_right _ _⟩
theorem zX.trans {G : zG} {S : Nat → Prop} {σ σ1 σ2 : zT} {n m : Nat} (h1 : zX G S σ σ1 n) (h2 : zX G S σ1 σ2 m) : zX G S σ σ2 (n + m) := ⟨h1.1.trans h2.1, h2.2.1, h1.2.2.1.trans h2.2.2.1, by have := h1.2.2.2; have := h2.2.2.2; omega⟩
theorem zX.le {G : zG} {S : Nat → Prop} {σ σ1 : zT} {n m : Nat} (h1 : zX G S σ σ1 n) (h : n ≤ m) : zX G S σ σ1 m := ⟨h1.1, h1.2.1, h1.2.2.1, by have := h1.2.2.2; omega⟩
theorem zX.mono {G : zG} {S S2 : Nat → Prop} {σ σ1 : zT} {n : Nat} (h1 : zX G S σ σ1 n) (h : ∀ t, S t → S2 t) : zX G S2 σ σ1 n := ⟨h1.1.mono h, h1.2⟩
theorem zX.up {G : zG} {S : Nat → Prop} {σ : zT} (h : zGd G σ) {a ci : Nat} {fs gs : List Value} (ha : sF σ a = some (.inr (ci, fs))) (hs : S (sT σ a)) : zX G S σ (sUp σ a (.inr (ci, gs))) 0 := ⟨zFr.up _ hs, h.up _ ha, zEk.up ha, Nat.le_refl _⟩
theorem zX.upA {G : zG} {S : Nat → Prop} {σ : zT} (h : zGd G σ) {a : Nat} {A A2 : ClassId × vp_A} (ha : sF σ a = some (.inl A)) (hs : S (sT σ a)) : zX G S σ (sUp σ a (.inl A2)) 0 := ⟨zFr.up _ hs, h.up _ ha, zEk.upA ha, Nat.le_refl _⟩
theorem zX.new {G : zG} (S : Nat → Prop) {σ : zT} (h : zGd G σ) (t : Nat) (ht : t < 10002 + 2 * sZ σ) (e : va_E) (n : Nat) : zX G S σ (sNew σ t e n) (n + 4) := ⟨zFr.new S σ t e n, h.new t ht e n, zEk.new h t e n, by show sL σ + n + 4 * (sZ σ + 1) ≤ sL σ + 4 * sZ σ + (n + 4); omega⟩
theorem zX.gd {G : zG} {S : Nat → Prop} {σ σ1 : zT} {n : Nat} (h : zX G S σ σ1 n) : zGd G σ1 := h.2.1
theorem zX.L {G : zG} {S : Nat → Prop} {σ σ1 : zT} {n : Nat} (h : zX G S σ σ1 n) (hw : zGd G σ) {t l : Nat} {mod : Int32} {xs : List Nat} (hl : zL G σ t l mod xs) (h1 : ¬ S t) (h2 : ¬ S (t + 1)) : zL G σ1 t l mod xs := hl.frame hw.1 h.1 h1 h2
theorem zX.at {G : zG} {S : Nat → Prop} {σ σ1 : zT} {n : Nat} (h : zX G S σ σ1 n) (hw : zGd G σ) {a : Nat} {e : va_E} (ha : zAt G σ a e) (hs : ¬ S (sT σ a)) : zAt G σ1 a e := ha.frame hw.1 h.1 hs
theorem zX.f {G : zG} {S : Nat → Prop} {σ σ1 : zT} {n : Nat} (h : zX G S σ σ1 n) (hw : zGd G σ) {a : Nat} {e : va_E} (ha : sF σ a = some e) (hs : ¬ S (sT σ a)) : sF σ1 a = some e := ((h.1.2 a (hw.1 a _ ha)).2 hs).trans ha
theorem zX.t {G : zG} {S : Nat → Prop} {σ σ1 : zT} {n : Nat} (h : zX G S σ σ1 n) (hw : zGd G σ) {a : Nat} {e : va_E} (ha : sF σ a = some e) : sT σ1 a = sT σ a := (h.1.2 a (hw.1 a _ ha)).1
theorem c_add {G : zG} {σ : zT} {d t l x : Nat} {mod : Int32} {xs : List Nat} (hd : 6 ≤ d) (hG : zOk G) (hw : zGd G σ) (hL : zL G σ t l mod xs) (hlen : xs.length ≤ 1000) (hx : zEl G σ x) (hel : ∀ y, y ∈ xs → zEl G σ y) : zCall G I_J2_add d [.ref l, .ref x] σ (fun o σ' => o = .inl (some (.int 1)) ∧ zL G σ' t l (mod + 1) (xs ++ [x]) ∧ zX G (fun s => s = t ∨ s = t + 1) σ σ' (14 + 2 * xs.length)) :=
  (c_J2_add hd hG hw hL hlen hx hel).mono fun _ _ ⟨a, b, c, e, f, g⟩ => ⟨a, b, c, e, g, by omega⟩

set_option maxHeartbeats 4000000 in
theorem l_J2_clear {G : zG} {d t l arr cap m : Nat} {mod : Int32} {Q : zO → zT → Prop} (hm : m ≤ cap) (hc : cap ≤ 1000000) : ∀ (n i : Nat) (σ : zT) (f : Nat → Option Nat), i + n = m → zGd G σ → sF σ l = some (.inr (20, [.int mod, .ref arr, .int (nI 0)])) → (0 < m → sF σ arr = some (aO G cap f) ∧ sT σ arr = t + 1) → (∀ σ1 f1, zX G (fun s => s = t ∨ s = t + 1) σ σ1 0 → sF σ1 l = some (.inr (20, [.int mod, .ref arr, .int (nI 0)])) → (0 < m → sF σ1 arr = some (aO G cap f1) ∧ sT σ1 arr = t + 1) → (∀ a, sT σ1 a = sT σ a) → (m = 0 → σ1 = σ) → Q (.inl none) σ1) → zR G yJ2_clear cJ2_clear 4 (Option.none : Option Jvm.ClassFile.FieldType) [] d 27 [(0, .ref l), (1, .ref arr), (2, .int (nI m)), (3, .int (nI i))] [] σ Q := by
  intro n
  induction n with
  | zero =>
    intro i σ f hi hw h1 ha k
    have hi : i = m := by omega
    subst hi
    refine zr_iload_n dJ2_clear_27 rfl rfl ?_
    refine zr_iload_n dJ2_clear_28 rfl rfl ?_
    refine zr_icmp_ge (tgt := 42) dJ2_clear_29 (by decide) (fun _ => ?_) (fun h9 => absurd (Int32.le_refl _) h9)
    exact zr_vret rfl dJ2_clear_42 (k σ f (zX.rf _ hw 0) h1 ha (fun _ => rfl) (fun _ => rfl))
  | succ n ih =>
    intro i σ f hi hw h1 ha k
    obtain ⟨a1, a2⟩ := ha (by omega)
    have hla : l ≠ arr := sF_ne h1 a1 (fun e => by cases e)
    refine zr_iload_n dJ2_clear_27 rfl rfl ?_
    refine zr_iload_n dJ2_clear_28 rfl rfl ?_
    refine zr_icmp_ge (tgt := 42) dJ2_clear_29 (by decide) (fun h9 => absurd h9 (nI_ge (by omega) (by omega))) (fun _ => ?_)
    refine zr_aload_n dJ2_clear_32 rfl rfl ?_
    refine zr_iload_n dJ2_clear_33 rfl rfl ?_
    refine zr_null dJ2_clear_34 ?_
    refine zr_aastN a1 (vp_in_nI (by omega) (by omega)) (by rw [nI_clamp (by omega)]) dJ2_clear_35 ?_
    refine zr_iinc (v := ((nI i) + 1)) (ls2 := [(0, .ref l), (1, .ref arr), (2, .int (nI m)), (3, .int ((nI i) + 1))]) dJ2_clear_36 rfl rfl (Nat.le_of_ble_eq_true rfl) rfl ?_
    rw [show nI i + 1 = nI (i + 1) from nI_1 i]
    refine zr_goto (tgt := 27) dJ2_clear_39 (by decide) ?_
    refine ih (i + 1) _ _ (by omega) (hw.up _ a1) ((sF_upN _ _ _ hla).trans h1) (fun _ => ⟨sF_upS _ _ _, a2⟩) (fun σ1 f1 q1 q2 q3 q4 _ => k σ1 f1 ((zX.upA hw a1 (Or.inr a2)).trans q1) q2 q3 q4 (fun h => absurd h (by omega)))
set_option maxHeartbeats 4000000 in
theorem c_J2_clear {G : zG} {σ : zT} {d : Nat} {t l : Nat} {mod : Int32} {xs : List Nat} (hd : 1 ≤ d) (hG : zOk G) (hw : zGd G σ) (hL : zL G σ t l mod xs) : zCall G I_J2_clear d [.ref l] σ ((fun o σ' => o = .inl none ∧ zL G σ' t l (mod + 1) [] ∧ zX G (fun s => s = t ∨ s = t + 1) σ σ' 0)) := by
  refine zCall_of (ls := [(0, .ref l)]) (by decide) (Nat.le_of_ble_eq_true rfl) rfl ?_
  obtain ⟨arr, cap, f, h1, ht, hcx, hc, hf, ha⟩ := hL
  refine zr_aload_n dJ2_clear_0 rfl rfl ?_
  refine zr_dup dJ2_clear_1 rfl ?_
  refine zr_get (k := 0) (v := .int mod) in_J2 (.new h1) rfl (Nat.le_of_ble_eq_true rfl) q143 (.inr q136) rfl dJ2_clear_2 ?_
  refine zr_iconst (v := 1) dJ2_clear_5 (by decide) ?_
  refine zr_iadd dJ2_clear_6 ?_
  refine zr_put (k := 0) (fs' := [.int (mod + 1), .ref arr, .int (nI xs.length)]) zt_J2 h1 rfl (Nat.le_of_ble_eq_true rfl) q143 (.inr q136) rfl rfl rfl (Nat.le_of_ble_eq_true rfl) rfl dJ2_clear_7 ?_
  refine zr_aload_n dJ2_clear_10 rfl rfl ?_
  refine zr_get (k := 1) (v := .ref arr) in_J2 (.new (sF_upS _ _ _)) rfl (Nat.le_of_ble_eq_true rfl) q128 (.inl rfl) rfl dJ2_clear_11 ?_
  refine zr_astore_n (ls2 := [(0, .ref l), (1, .ref arr)]) dJ2_clear_14 rfl (Nat.le_of_ble_eq_true rfl) rfl ?_
  refine zr_aload_n dJ2_clear_15 rfl rfl ?_
  refine zr_get (k := 2) (v := .int (nI xs.length)) in_J2 (.new (sF_upS _ _ _)) rfl (Nat.le_of_ble_eq_true rfl) q133 (.inl rfl) rfl dJ2_clear_16 ?_
  refine zr_istore_n (ls2 := [(0, .ref l), (1, .ref arr), (2, .int (nI xs.length))]) dJ2_clear_19 rfl (Nat.le_of_ble_eq_true rfl) rfl ?_
  refine zr_aload_n dJ2_clear_20 rfl rfl ?_
  refine zr_iconst (v := 0) dJ2_clear_21 (by decide) ?_
  refine zr_dup_x1 dJ2_clear_22 rfl rfl ?_
  refine zr_put (k := 2) (fs' := [.int (mod + 1), .ref arr, .int (nI 0)]) zt_J2 (sF_upS _ _ _) rfl (Nat.le_of_ble_eq_true rfl) q133 (.inl rfl) rfl rfl rfl (Nat.le_of_ble_eq_true rfl) rfl dJ2_clear_23 ?_
  rw [sUp_sUp]
  refine zr_istore_n (ls2 := [(0, .ref l), (1, .ref arr), (2, .int (nI xs.length)), (3, .int 0)]) dJ2_clear_26 rfl (Nat.le_of_ble_eq_true rfl) rfl ?_
  refine l_J2_clear (m := xs.length) (cap := cap) (t := t) hcx hc xs.length 0 _ f (by omega) (hw.up _ h1) (sF_upS _ _ _) (fun h9 => ?_) (fun σ1 f1 q1 q2 q3 q4 q5 => ⟨rfl, ?_, (zX.up hw h1 (Or.inl ht)).trans q1⟩)
  · obtain ⟨-, b1, b2⟩ := ha.resolve_left (fun h => absurd h.1 (by omega))
    exact ⟨(sF_upN _ _ _ (sF_ne h1 b1 (fun e => by cases e)).symm).trans b1, b2⟩
  · have hz : zL G σ1 t l (mod + 1) [] := by
      rcases Nat.eq_zero_or_pos xs.length with h0 | h0
      · rcases ha with ⟨rfl, rfl, rfl⟩ | ⟨b0, b1, b2⟩
        · exact ⟨zc G 0, 0, _, q2, (q4 l).trans ht, Nat.le_refl _, by omega, fun j hj => absurd hj (Nat.not_lt_zero _), Or.inl ⟨rfl, rfl, rfl⟩⟩
        · have hb : sF (sUp σ l (.inr (20, [.int (mod + 1), .ref arr, .int (nI 0)]))) arr = some (aO G cap f) := (sF_upN _ _ _ (sF_ne h1 b1 (fun e => by cases e)).symm).trans b1
          exact ⟨arr, cap, f, q2, (q4 l).trans ht, Nat.zero_le _, hc, fun j hj => absurd hj (Nat.not_lt_zero _), Or.inr ⟨b0, by rw [q5 h0]; exact hb, (q4 arr).trans b2⟩⟩
      · obtain ⟨c1, c2⟩ := q3 h0
        exact ⟨arr, cap, f1, q2, (q4 l).trans ht, Nat.zero_le _, hc, fun j hj => absurd hj (Nat.not_lt_zero _), Or.inr ⟨by omega, c1, c2⟩⟩
    exact hz
