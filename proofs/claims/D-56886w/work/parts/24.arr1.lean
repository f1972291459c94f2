/-! ===== rows of zR: arrays, casts, statics, constants (printed by tools/mkarr.py) ===== -/
section zArr
variable {G : zG} {y : MethodName} {cc : ByteArray} {nL : Nat} {ret : Option FieldType} {hh : List (Nat × Nat × Nat × Nat)} {d pc : Nat} {ls : List (Nat × Value)} {st : List Value} {σ : zT} {Q : zO → zT → Prop}
/-- arrays of ints (booleans too), longs, doubles, references: length, contents -/
abbrev aI (G : zG) (n : Nat) (f : Nat → Int32) : va_E := .inl (zA G 0, n, .inl f)
abbrev aZ (G : zG) (n : Nat) (f : Nat → Int32) : va_E := .inl (zA G 1, n, .inl f)
abbrev aJ (G : zG) (n : Nat) (f : Nat → Int64) : va_E := .inl (zA G 2, n, .inr (.inl f))
abbrev aD (G : zG) (n : Nat) (f : Nat → UInt64) : va_E := .inl (zA G 3, n, .inr (.inr (.inr (.inl f))))
abbrev aO (G : zG) (n : Nat) (f : Nat → Option Nat) : va_E := .inl (zA G 4, n, .inr (.inr (.inr (.inr f))))
abbrev aN (G : zG) (n : Nat) (f : Nat → Option Nat) : va_E := .inl (zA G 5, n, .inr (.inr (.inr (.inr f))))
theorem zty_at (G : zG) : ∀ k, k < 6 → (ztys G)[k]? = some (zA G k, [FieldType.int, .boolean, .long, .double, .object "java/lang/Object", .object "java/lang/Integer"].getD k .int) := by
  intro k hk
  match k, hk with
  | 0, _ => rfl
  | 1, _ => rfl
  | 2, _ => rfl
  | 3, _ => rfl
  | 4, _ => rfl
  | 5, _ => rfl
  | n + 6, h => exact absurd h (by omega)

theorem zr_alenI {a n : Nat} {f : Nat → Int32} {v : Int32} (ha : zAt G σ a (aI G n f)) (hv : Int32.ofNat n = v) (hd : decode cc pc = .ok (.arraylength, 1)) (k : zR G y cc nL ret hh d (pc + 1) ls (.int v :: st) σ Q) : zR G y cc nL ret hh d pc ls (.ref a :: st) σ Q :=
  zR.lift (fun p l e R s m args below meth c H locs cells slots arr Q0 M hl hR k => va_alen M.x M.b M.K.1 (hR.P ha) 0 0 rfl (zty_at G 0 (Nat.le_of_ble_eq_true rfl)) hv hd k) k
theorem zr_alenZ {a n : Nat} {f : Nat → Int32} {v : Int32} (ha : zAt G σ a (aZ G n f)) (hv : Int32.ofNat n = v) (hd : decode cc pc = .ok (.arraylength, 1)) (k : zR G y cc nL ret hh d (pc + 1) ls (.int v :: st) σ Q) : zR G y cc nL ret hh d pc ls (.ref a :: st) σ Q :=
  zR.lift (fun p l e R s m args below meth c H locs cells slots arr Q0 M hl hR k => va_alen M.x M.b M.K.1 (hR.P ha) 0 1 rfl (zty_at G 1 (Nat.le_of_ble_eq_true rfl)) hv hd k) k
theorem zr_alenJ {a n : Nat} {f : Nat → Int64} {v : Int32} (ha : zAt G σ a (aJ G n f)) (hv : Int32.ofNat n = v) (hd : decode cc pc = .ok (.arraylength, 1)) (k : zR G y cc nL ret hh d (pc + 1) ls (.int v :: st) σ Q) : zR G y cc nL ret hh d pc ls (.ref a :: st) σ Q :=
  zR.lift (fun p l e R s m args below meth c H locs cells slots arr Q0 M hl hR k => va_alen M.x M.b M.K.1 (hR.P ha) 0 2 rfl (zty_at G 2 (Nat.le_of_ble_eq_true rfl)) hv hd k) k
theorem zr_alenD {a n : Nat} {f : Nat → UInt64} {v : Int32} (ha : zAt G σ a (aD G n f)) (hv : Int32.ofNat n = v) (hd : decode cc pc = .ok (.arraylength, 1)) (k : zR G y cc nL ret hh d (pc + 1) ls (.int v :: st) σ Q) : zR G y cc nL ret hh d pc ls (.ref a :: st) σ Q :=
  zR.lift (fun p l e R s m args below meth c H locs cells slots arr Q0 M hl hR k => va_alen M.x M.b M.K.1 (hR.P ha) 0 3 rfl (zty_at G 3 (Nat.le_of_ble_eq_true rfl)) hv hd k) k
theorem zr_alenO {a n : Nat} {f : Nat → Option Nat} {v : Int32} (ha : zAt G σ a (aO G n f)) (hv : Int32.ofNat n = v) (hd : decode cc pc = .ok (.arraylength, 1)) (k : zR G y cc nL ret hh d (pc + 1) ls (.int v :: st) σ Q) : zR G y cc nL ret hh d pc ls (.ref a :: st) σ Q :=
  zR.lift (fun p l e R s m args below meth c H locs cells slots arr Q0 M hl hR k => va_alen M.x M.b M.K.1 (hR.P ha) 0 4 rfl (zty_at G 4 (Nat.le_of_ble_eq_true rfl)) hv hd k) k
theorem zr_iald {a n : Nat} {f : Nat → Int32} {i : Int32} {v : Value} (ha : zAt G σ a (aI G n f)) (hi : vp_in i n) (hv : .int (f i.toNatClampNeg) = v) (hd : decode cc pc = .ok (.iaload, 1)) (k : zR G y cc nL ret hh d (pc + 1) ls (v :: st) σ Q) : zR G y cc nL ret hh d pc ls (.int i :: .ref a :: st) σ Q :=
  zR.lift (fun p l e R s m args below meth c H locs cells slots arr Q0 M hl hR k => by subst hv; exact va_iald M.x M.b M.K.1 (hR.P ha) 0 0 rfl (zty_at G 0 (Nat.le_of_ble_eq_true rfl)) hi hd k) k
theorem zr_zald {a n : Nat} {f : Nat → Int32} {i : Int32} {v : Value} (ha : zAt G σ a (aZ G n f)) (hi : vp_in i n) (hv : .int (f i.toNatClampNeg) = v) (hd : decode cc pc = .ok (.baload, 1)) (k : zR G y cc nL ret hh d (pc + 1) ls (v :: st) σ Q) : zR G y cc nL ret hh d pc ls (.int i :: .ref a :: st) σ Q :=
  zR.lift (fun p l e R s m args below meth c H locs cells slots arr Q0 M hl hR k => by subst hv; exact va_zald M.x M.b M.K.1 (hR.P ha) 0 1 rfl (zty_at G 1 (Nat.le_of_ble_eq_true rfl)) hi hd k) k
theorem zr_lald {a n : Nat} {f : Nat → Int64} {i : Int32} {v : Value} (ha : zAt G σ a (aJ G n f)) (hi : vp_in i n) (hv : .long (f i.toNatClampNeg) = v) (hd : decode cc pc = .ok (.laload, 1)) (k : zR G y cc nL ret hh d (pc + 1) ls (v :: st) σ Q) : zR G y cc nL ret hh d pc ls (.int i :: .ref a :: st) σ Q :=
  zR.lift (fun p l e R s m args below meth c H locs cells slots arr Q0 M hl hR k => by subst hv; exact va_lald M.x M.b M.K.1 (hR.P ha) 0 2 rfl (zty_at G 2 (Nat.le_of_ble_eq_true rfl)) hi hd k) k
theorem zr_dald {a n : Nat} {f : Nat → UInt64} {i : Int32} {v : Value} (ha : zAt G σ a (aD G n f)) (hi : vp_in i n) (hv : .double (f i.toNatClampNeg) = v) (hd : decode cc pc = .ok (.daload, 1)) (k : zR G y cc nL ret hh d (pc + 1) ls (v :: st) σ Q) : zR G y cc nL ret hh d pc ls (.int i :: .ref a :: st) σ Q :=
  zR.lift (fun p l e R s m args below meth c H locs cells slots arr Q0 M hl hR k => by subst hv; exact va_dald M.x M.b M.K.1 (hR.P ha) 0 3 rfl (zty_at G 3 (Nat.le_of_ble_eq_true rfl)) hi hd k) k
theorem zr_aald {a n : Nat} {f : Nat → Option Nat} {i : Int32} {v : Value} (ha : zAt G σ a (aO G n f)) (hi : vp_in i n) (hv : va_rf (f i.toNatClampNeg) = v) (hd : decode cc pc = .ok (.aaload, 1)) (k : zR G y cc nL ret hh d (pc + 1) ls (v :: st) σ Q) : zR G y cc nL ret hh d pc ls (.int i :: .ref a :: st) σ Q :=
  zR.lift (fun p l e R s m args below meth c H locs cells slots arr Q0 M hl hR k => by subst hv; exact va_aldq M.x M.b M.K.1 (hR.P ha) 0 4 rfl (zty_at G 4 (Nat.le_of_ble_eq_true rfl)) hi hd k) k
theorem zr_aaldN {a n : Nat} {f : Nat → Option Nat} {i : Int32} {v : Value} (ha : zAt G σ a (aN G n f)) (hi : vp_in i n) (hv : va_rf (f i.toNatClampNeg) = v) (hd : decode cc pc = .ok (.aaload, 1)) (k : zR G y cc nL ret hh d (pc + 1) ls (v :: st) σ Q) : zR G y cc nL ret hh d pc ls (.int i :: .ref a :: st) σ Q :=
  zR.lift (fun p l e R s m args below meth c H locs cells slots arr Q0 M hl hR k => by subst hv; exact va_aldq M.x M.b M.K.1 (hR.P ha) 0 5 rfl (zty_at G 5 (Nat.le_of_ble_eq_true rfl)) hi hd k) k
theorem zr_iast {a n : Nat} {f f2 : Nat → Int32} {i : Int32} {x : Int32} (ha : sF σ a = some (aI G n f)) (hi : vp_in i n) (hf : upd f i.toNatClampNeg x = f2) (hd : decode cc pc = .ok (.iastore, 1)) (k : zR G y cc nL ret hh d (pc + 1) ls st (sUp σ a (aI G n f2)) Q) : zR G y cc nL ret hh d pc ls (.int x :: .int i :: .ref a :: st) σ Q := by
  subst hf
  obtain ⟨o, σ', q, k1, k2, k3⟩ := k
  refine ⟨o, σ', q, k1, k2, fun p l e R s m args below meth c H locs cells slots arr M N9 => ?_⟩
  have hat := N9.rel.at (.new ha)
  refine W.iast M.x M.b hat ((M.K.1.2 0 _ (zty_at G 0 (Nat.le_of_ble_eq_true rfl))).1 n (fun j => .int (f j))) (fun q => by cases q) (by show ¬ (i < 0 ∨ (arrV _ _ _).slots.size ≤ _); rw [arrV_size]; exact hi) rfl rfl hd fun H1 e9 z oq => ?_
  refine k3 p l e R s m args below meth c H1 _ cells slots arr M ⟨by rw [z]; exact N9.sz, N9.rel.up ha ?_ z oq (fun _ h9 => by cases h9), fun w hw => (List.mem_append.mp hw).elim (N9.lc w) (fun h => by rw [List.mem_singleton.mp h]; exact (N9.rel.2.2.2 a _ ha).1), N9.c, N9.sl, N9.hl⟩
  show H1[a]? = some (vp_cell _ _)
  rw [e9]
  rw [vp_cell_i, vp_cell_i, arrV_store]
  congr 2
  funext q
  by_cases hq : q = i.toNatClampNeg
  · subst hq
    simp [updV, upd]
    try rfl
  · simp [updV, upd, hq]
theorem zr_zast {a n : Nat} {f f2 : Nat → Int32} {i : Int32} {x : Int32} (ha : sF σ a = some (aZ G n f)) (hi : vp_in i n) (hf : upd f i.toNatClampNeg (vp_nar .boolean x) = f2) (hd : decode cc pc = .ok (.bastore, 1)) (k : zR G y cc nL ret hh d (pc + 1) ls st (sUp σ a (aZ G n f2)) Q) : zR G y cc nL ret hh d pc ls (.int x :: .int i :: .ref a :: st) σ Q := by
  subst hf
  obtain ⟨o, σ', q, k1, k2, k3⟩ := k
  refine ⟨o, σ', q, k1, k2, fun p l e R s m args below meth c H locs cells slots arr M N9 => ?_⟩
  have hat := N9.rel.at (.new ha)
  refine W.zast M.x M.b hat ((M.K.1.2 1 _ (zty_at G 1 (Nat.le_of_ble_eq_true rfl))).1 n (fun j => .int (f j))) (fun q => by cases q) (by show ¬ (i < 0 ∨ (arrV _ _ _).slots.size ≤ _); rw [arrV_size]; exact hi) rfl rfl hd fun H1 e9 z oq => ?_
  refine k3 p l e R s m args below meth c H1 _ cells slots arr M ⟨by rw [z]; exact N9.sz, N9.rel.up ha ?_ z oq (fun _ h9 => by cases h9), fun w hw => (List.mem_append.mp hw).elim (N9.lc w) (fun h => by rw [List.mem_singleton.mp h]; exact (N9.rel.2.2.2 a _ ha).1), N9.c, N9.sl, N9.hl⟩
  show H1[a]? = some (vp_cell _ _)
  rw [e9]
  rw [vp_cell_i, vp_cell_i, arrV_store]
  congr 2
  funext q
  by_cases hq : q = i.toNatClampNeg
  · subst hq
    simp [updV, upd, vp_nar]
    try rfl
  · simp [updV, upd, vp_nar, hq]
theorem zr_last {a n : Nat} {f f2 : Nat → Int64} {i : Int32} {x : Int64} (ha : sF σ a = some (aJ G n f)) (hi : vp_in i n) (hf : vp_updL f i.toNatClampNeg x = f2) (hd : decode cc pc = .ok (.lastore, 1)) (k : zR G y cc nL ret hh d (pc + 1) ls st (sUp σ a (aJ G n f2)) Q) : zR G y cc nL ret hh d pc ls (.long x :: .int i :: .ref a :: st) σ Q := by
  subst hf
  obtain ⟨o, σ', q, k1, k2, k3⟩ := k
  refine ⟨o, σ', q, k1, k2, fun p l e R s m args below meth c H locs cells slots arr M N9 => ?_⟩
  have hat := N9.rel.at (.new ha)
  refine W.last M.x M.b hat ((M.K.1.2 2 _ (zty_at G 2 (Nat.le_of_ble_eq_true rfl))).1 n (fun j => .long (f j))) (fun q => by cases q) (by show ¬ (i < 0 ∨ (arrV _ _ _).slots.size ≤ _); rw [arrV_size]; exact hi) rfl rfl hd fun H1 e9 z oq => ?_
  refine k3 p l e R s m args below meth c H1 _ cells slots arr M ⟨by rw [z]; exact N9.sz, N9.rel.up ha ?_ z oq (fun _ h9 => by cases h9), fun w hw => (List.mem_append.mp hw).elim (N9.lc w) (fun h => by rw [List.mem_singleton.mp h]; exact (N9.rel.2.2.2 a _ ha).1), N9.c, N9.sl, N9.hl⟩
  show H1[a]? = some (vp_cell _ _)
  rw [e9]
  rw [vp_cell_l, vp_cell_l, arrV_store]
  congr 2
  funext q
  by_cases hq : q = i.toNatClampNeg
  · subst hq
    simp [updV, vp_updL]
    try rfl
  · simp [updV, vp_updL, hq]
theorem zr_dast {a n : Nat} {f f2 : Nat → UInt64} {i : Int32} {x : UInt64} (ha : sF σ a = some (aD G n f)) (hi : vp_in i n) (hf : vf_upd f i.toNatClampNeg x = f2) (hd : decode cc pc = .ok (.dastore, 1)) (k : zR G y cc nL ret hh d (pc + 1) ls st (sUp σ a (aD G n f2)) Q) : zR G y cc nL ret hh d pc ls (.double x :: .int i :: .ref a :: st) σ Q := by
  subst hf
  obtain ⟨o, σ', q, k1, k2, k3⟩ := k
  refine ⟨o, σ', q, k1, k2, fun p l e R s m args below meth c H locs cells slots arr M N9 => ?_⟩
  have hat := N9.rel.at (.new ha)
  refine W.dast M.x M.b hat ((M.K.1.2 3 _ (zty_at G 3 (Nat.le_of_ble_eq_true rfl))).1 n (fun j => .double (f j))) (fun q => by cases q) (by show ¬ (i < 0 ∨ (arrV _ _ _).slots.size ≤ _); rw [arrV_size]; exact hi) rfl rfl hd fun H1 e9 z oq => ?_
  refine k3 p l e R s m args below meth c H1 _ cells slots arr M ⟨by rw [z]; exact N9.sz, N9.rel.up ha ?_ z oq (fun _ h9 => by cases h9), fun w hw => (List.mem_append.mp hw).elim (N9.lc w) (fun h => by rw [List.mem_singleton.mp h]; exact (N9.rel.2.2.2 a _ ha).1), N9.c, N9.sl, N9.hl⟩
  show H1[a]? = some (vp_cell _ _)
  rw [e9]
  rw [vp_cell_d, vp_cell_d, arrV_store]
  congr 2
  funext q
  by_cases hq : q = i.toNatClampNeg
  · subst hq
    simp [updV, vf_upd]
    try rfl
  · simp [updV, vf_upd, hq]
end zArr
