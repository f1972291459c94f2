/-! rows of zR: arrays .. (tools/mkarr.py) -/
section zArr
variable {G : zG} {y : MethodName} {cc : ByteArray} {nL : Nat} {ret : Option FieldType} {hh : List (Nat × Nat × Nat × Nat)} {d pc : Nat} {ls : List (Nat × Value)} {st : List Value} {σ : zT} {Q : zO → zT → Prop}
/-- a reference into an array of Objects: to an object of the class numbered ci -/
theorem zr_aast {a n v ci : Nat} {f f2 : Nat → Option Nat} {i : Int32} {vs : List Value} {C : String} {T : u_T} {N : Nat} (ha : sF σ a = some (aO G n f)) (hv : zAt G σ v (.inr (ci, vs))) (hc : zcl[ci]? = some (C, T, N)) (hca : Cond.castable C "java/lang/Object" ∈ lw_tbl) (hi : vp_in i n) (hf : va_up f i.toNatClampNeg (some v) = f2) (hd : decode cc pc = .ok (.aastore, 1)) (k : zR G y cc nL ret hh d (pc + 1) ls st (sUp σ a (aO G n f2)) Q) : zR G y cc nL ret hh d pc ls (.ref v :: .int i :: .ref a :: st) σ Q := by
  subst hf
  obtain ⟨o, σ', q, k1, k2, k3⟩ := k
  refine ⟨o, σ', q, k1, k2, fun p l e R s m args below meth c H locs cells slots arr M N9 => ?_⟩
  have hat := N9.rel.at (.new ha)
  have hlt : i.toNatClampNeg < n := Nat.not_le.mp fun q => hi (Or.inr q)
  have h0 : ¬ i < 0 := fun q => hi (Or.inl q)
  obtain ⟨r', hr', cellV, g1, g2, g3, -⟩ := N9.rel.at hv
  have hcls := (M.K.1.1 ci _ hc).2
  obtain ⟨kA, comp, k1', k2', k3', -⟩ := (M.K.1.2 4 _ (zty_at G 4 (Nat.le_of_ble_eq_true rfl))).2
  obtain ⟨c0, t1, f1, f2, f3⟩ := Cond.castable_spec (va_Nw.use (A := args) rfl (M.K.2.1 _ hca rfl))
  have e1 : comp = t1 := Option.some.inj (k3'.symm.trans f2)
  have e2 : c0 = (zD G).1 ci := Option.some.inj (f1.symm.trans hcls.1)
  obtain ⟨kC, hkC, -⟩ := hcls.2
  have hkcomp : ∃ kcomp : Class, s.vm.classes[comp]? = some kcomp := by
    obtain ⟨k9, h9, -⟩ := Vm.findClass_spec k3'
    exact ⟨k9, h9⟩
  obtain ⟨kcomp, hkcomp⟩ := hkcomp
  refine W.aast M.x M.b hat (fun q h => by cases h) (fun h => by cases h) k1' k2' rfl hkcomp ⟨h0, by show _ < (arrV _ _ _).slots.size; rw [arrV_size]; exact hlt⟩ g1 (fun q h => by rw [g3] at h; cases h) (by rw [g2]; exact hkC) (by rw [g2, ← e2, e1]; exact f3) rfl rfl hd fun H1 e9 z oq => ?_
  refine k3 p l e R s m args below meth c H1 _ cells slots arr M ⟨by rw [z]; exact N9.sz, N9.rel.up ha ?_ z oq (fun _ h9 => by cases h9), fun w hw => (List.mem_append.mp hw).elim (N9.lc w) (fun h => by rw [List.mem_singleton.mp h]; exact (N9.rel.2.2.2 a _ ha).1), N9.c, N9.sl, N9.hl⟩
  show H1[a]? = some (vp_cell _ _)
  rw [e9]
  rw [vp_cell_q, vp_cell_q, arrV_store]
  congr 2
  funext q
  by_cases hq : q = i.toNatClampNeg
  · subst hq
    simp [updV, va_up, va_rf]
  · simp [updV, va_up, hq]
theorem zr_aastN {a n : Nat} {f f2 : Nat → Option Nat} {i : Int32} (ha : sF σ a = some (aO G n f)) (hi : vp_in i n) (hf : va_up f i.toNatClampNeg none = f2) (hd : decode cc pc = .ok (.aastore, 1)) (k : zR G y cc nL ret hh d (pc + 1) ls st (sUp σ a (aO G n f2)) Q) : zR G y cc nL ret hh d pc ls (.null :: .int i :: .ref a :: st) σ Q := by
  subst hf
  obtain ⟨o, σ', q, k1, k2, k3⟩ := k
  refine ⟨o, σ', q, k1, k2, fun p l e R s m args below meth c H locs cells slots arr M N9 => ?_⟩
  have hat := N9.rel.at (.new ha)
  refine va_WaastN (C := "java/lang/Object") M.x M.b hat ((M.K.1.2 4 _ (zty_at G 4 (Nat.le_of_ble_eq_true rfl))).1 n (fun j => va_rf (f j))) (fun h => by cases h) (by show ¬ (i < 0 ∨ (arrV _ _ _).slots.size ≤ _); rw [arrV_size]; exact hi) rfl rfl hd fun H1 e9 z oq => ?_
  refine k3 p l e R s m args below meth c H1 _ cells slots arr M ⟨by rw [z]; exact N9.sz, N9.rel.up ha ?_ z oq (fun _ h9 => by cases h9), fun w hw => (List.mem_append.mp hw).elim (N9.lc w) (fun h => by rw [List.mem_singleton.mp h]; exact (N9.rel.2.2.2 a _ ha).1), N9.c, N9.sl, N9.hl⟩
  show H1[a]? = some (vp_cell _ _)
  rw [e9]
  rw [vp_cell_q, vp_cell_q, arrV_store]
  congr 2
  funext q
  by_cases hq : q = i.toNatClampNeg
  · subst hq
    simp [updV, va_up, va_rf]
  · simp [updV, va_up, hq]
end zArr
