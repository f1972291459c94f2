/-! ===== rows of zR that read, write or make cells ===== -/
section zHeap
variable {G : zG} {y : MethodName} {cc : ByteArray} {nL : Nat} {ret : Option FieldType} {hh : List (Nat × Nat × Nat × Nat)} {d pc : Nat} {ls : List (Nat × Value)} {st : List Value} {σ : zT} {Q : zO → zT → Prop}
/-- a field by the name that the code gives: its declarer's, or an heir's -/
def zref (ref O n t : String) : Prop := ref = O ∨ Cond.sameField ref O n t ∈ lw_all
theorem zref.found {ref O n t : String} (h : zref ref O n t) {s : State} {args : Array Value} (hts : ∀ w ∈ lw_all, w.before args s = true) : ∀ x, s.fieldFound? O n t = some x → s.fieldFound? ref n t = some x := by
  rcases h with h | h
  · subst h; exact fun _ h => h
  · exact fun x hx => u_same (hts _ h) x hx
theorem zr_get {ref C : String} {T : u_T} {N ci idx a k : Nat} {fs : List Value} {v : Value} (hin : ∀ w ∈ u_ws C T N, w ∈ lw_all) (ha : zAt G σ a (.inr (ci, fs))) (hc : zcl[ci]? = some (C, T, N)) (hk : k < N) (hl : Cond.fieldLink y.cls idx ref (T k).2.1 (T k).2.2.1 ∈ lw_all) (hr : zref ref (T k).1 (T k).2.1 (T k).2.2.1) (hv : fs[k]? = some v) (hd : decode cc pc = .ok (.getfield idx, 3))
    (kk : zR G y cc nL ret hh d (pc + 3) ls (v :: st) σ Q) : zR G y cc nL ret hh d pc ls (.ref a :: st) σ Q :=
  zR.lift (fun p l e R s m args below meth c H locs cells slots arr Q0 M hl2 hR k2 => va_get M.x M.b M.ws hin M.own M.K.1 (hR.P ha) 0 rfl hc k hk (M.ws _ hl) (hr.found M.ws) hv hd k2) kk
theorem zr_getN {ref C host : String} {T : u_T} {N ci idx a k : Nat} {fs : List Value} {v : Value} (hin : ∀ w ∈ u_ws C T N, w ∈ lw_all) (ha : zAt G σ a (.inr (ci, fs))) (hc : zcl[ci]? = some (C, T, N)) (hk : k < N) (hl : Cond.fieldLinkNest y.cls idx ref (T k).2.1 (T k).2.2.1 host ∈ lw_tbl) (hr : zref ref (T k).1 (T k).2.1 (T k).2.2.1) (hv : fs[k]? = some v) (hd : decode cc pc = .ok (.getfield idx, 3))
    (kk : zR G y cc nL ret hh d (pc + 3) ls (v :: st) σ Q) : zR G y cc nL ret hh d pc ls (.ref a :: st) σ Q :=
  zR.lift (fun p l e R s m args below meth c H locs cells slots arr Q0 M hl2 hR k2 => va_getN M.x M.b M.ws hin M.own M.K.1 (hR.P ha) 0 rfl hc k hk (va_Nw.use rfl (M.K.2.1 _ hl rfl)) (hr.found M.ws) hv hd k2) kk
/-- what a class says of its fields: types, names apart -/
def zty (C : String) (T : u_T) (N : Nat) (ty0 : Nat → FieldType) : Prop := (∀ w ∈ u_ws C T N, w ∈ lw_all) ∧ (∀ k, k < N → parseFieldDescriptor (T k).2.2.1 = some (ty0 k)) ∧ ∀ a, a < N → ∀ b, b < N → a ≠ b → (T a).2.1 ≠ (T b).2.1
theorem zr_put {ref C : String} {T : u_T} {N ci idx a k : Nat} {fs fs' : List Value} {v : Value} {ty0 : Nat → FieldType} (ht : zty C T N ty0) (ha : sF σ a = some (.inr (ci, fs))) (hc : zcl[ci]? = some (C, T, N)) (hk : k < N) (hl : Cond.fieldLink y.cls idx ref (T k).2.1 (T k).2.2.1 ∈ lw_all) (hr : zref ref (T k).1 (T k).2.1 (T k).2.2.1) (hfin : (T k).2.2.2 = false) (hn : narrow (ty0 k) v = v) (hfit : fits (ty0 k) v = true) (hlen : k < fs.length) (hfs : fs.set k v = fs') (hd : decode cc pc = .ok (.putfield idx, 3))
    (kk : zR G y cc nL ret hh d (pc + 3) ls st (sUp σ a (.inr (ci, fs'))) Q) : zR G y cc nL ret hh d pc ls (v :: .ref a :: st) σ Q := by
  subst hfs
  obtain ⟨o, σ', q, k1, k2, k3⟩ := kk
  refine ⟨o, σ', q, k1, k2, fun p l e R s m args below meth c H locs cells slots arr M N9 => ?_⟩
  have hK := M.K.1
  have hap := va_apart (own := y.cls) M.ws ht.1 ty0 ht.2.1 ht.2.2 hK hc
  obtain ⟨r, h1, cell, q1, q2, q3, q4⟩ := N9.rel.at (.new ha)
  have hr9 : r = (C, T, N) := Option.some.inj (h1.symm.trans hc)
  subst hr9
  obtain ⟨hS, hfc, kC, hkC, hkind⟩ := hK.1 ci _ hc
  obtain ⟨cf, kf, fi, f, hi, hsl⟩ := hS k hk
  have hlay := M.ws _ (ht.1 _ (u_in_lay hk))
  unfold u_lay at hlay
  rw [if_neg (by rw [hfin]; decide)] at hlay
  have hst := (u_facts hfc hkC (u_lays M.ws ht.1 hk) hi).1
  have h6 := u_store hfc hkC hkind hlay hi (ht.2.1 k hk) hn hfit
  refine W.putK M.x M.b (f := f) ⟨M.own, M.ws _ hl, ⟨_, _, _, hr.found M.ws _ hi⟩, hst⟩ (by rw [q2]; exact h6) q1 q3 (by rw [hsl]; exact k2_hasslot (q4 k hk)) rfl rfl hd fun H' e1 e2 e3 => ?_
  rw [hsl] at e1
  exact k3 p l e R s m args below meth c H' _ cells slots arr M ⟨by rw [e2]; exact N9.sz, N9.rel.up ha ⟨_, hc, t_OB.to (V := updV (vp_V fs) k v) ⟨_, e1, q2, q3, t_set q4 hap hk v⟩ (fun j _ => vp_updV_set hlen v j)⟩ e2 e3 (fun fs9 h9 c9 hc9 => by rw [e1] at hc9; cases hc9; cases h9; exact (N9.rel.2.2.2 a _ ha).2.2 _ rfl cell q1), fun z hz => (List.mem_append.mp hz).elim (N9.lc z) (fun h => by rw [List.mem_singleton.mp h]; exact (N9.rel.2.2.2 a _ ha).1), N9.c, N9.sl, N9.hl⟩
theorem zr_putN {ref C host : String} {T : u_T} {N ci idx a k : Nat} {fs fs' : List Value} {v : Value} {ty0 : Nat → FieldType} (ht : zty C T N ty0) (ha : sF σ a = some (.inr (ci, fs))) (hc : zcl[ci]? = some (C, T, N)) (hk : k < N) (hl : Cond.fieldLinkNest y.cls idx ref (T k).2.1 (T k).2.2.1 host ∈ lw_tbl) (hr : zref ref (T k).1 (T k).2.1 (T k).2.2.1) (hfin : (T k).2.2.2 = false) (hn : narrow (ty0 k) v = v) (hfit : fits (ty0 k) v = true) (hlen : k < fs.length) (hfs : fs.set k v = fs') (hd : decode cc pc = .ok (.putfield idx, 3))
    (kk : zR G y cc nL ret hh d (pc + 3) ls st (sUp σ a (.inr (ci, fs'))) Q) : zR G y cc nL ret hh d pc ls (v :: .ref a :: st) σ Q := by
  subst hfs
  obtain ⟨o, σ', q, k1, k2, k3⟩ := kk
  refine ⟨o, σ', q, k1, k2, fun p l e R s m args below meth c H locs cells slots arr M N9 => ?_⟩
  have hK := M.K.1
  have hap := va_apart (own := y.cls) M.ws ht.1 ty0 ht.2.1 ht.2.2 hK hc
  obtain ⟨r, h1, cell, q1, q2, q3, q4⟩ := N9.rel.at (.new ha)
  have hr9 : r = (C, T, N) := Option.some.inj (h1.symm.trans hc)
  subst hr9
  obtain ⟨hS, hfc, kC, hkC, hkind⟩ := hK.1 ci _ hc
  obtain ⟨cf, kf, fi, f, hi, hsl⟩ := hS k hk
  have hlay := M.ws _ (ht.1 _ (u_in_lay hk))
  unfold u_lay at hlay
  rw [if_neg (by rw [hfin]; decide)] at hlay
  have hst := (u_facts hfc hkC (u_lays M.ws ht.1 hk) hi).1
  have h6 := u_store hfc hkC hkind hlay hi (ht.2.1 k hk) hn hfit
  refine va_WputK M.x M.b (f := f) M.own (va_Nw.use rfl (M.K.2.1 _ hl rfl)) (hr.found M.ws _ hi) hst (by rw [q2]; exact h6) q1 q3 (by rw [hsl]; exact k2_hasslot (q4 k hk)) rfl rfl hd fun H' e1 e2 e3 => ?_
  rw [hsl] at e1
  exact k3 p l e R s m args below meth c H' _ cells slots arr M ⟨by rw [e2]; exact N9.sz, N9.rel.up ha ⟨_, hc, t_OB.to (V := updV (vp_V fs) k v) ⟨_, e1, q2, q3, t_set q4 hap hk v⟩ (fun j _ => vp_updV_set hlen v j)⟩ e2 e3 (fun fs9 h9 c9 hc9 => by rw [e1] at hc9; cases hc9; cases h9; exact (N9.rel.2.2.2 a _ ha).2.2 _ rfl cell q1), fun z hz => (List.mem_append.mp hz).elim (N9.lc z) (fun h => by rw [List.mem_singleton.mp h]; exact (N9.rel.2.2.2 a _ ha).1), N9.c, N9.sl, N9.hl⟩
/-- a final field in its class's constructor -/
theorem zr_putF {ref C : String} {T : u_T} {N ci idx a k : Nat} {fs fs' : List Value} {v : Value} {ty0 : Nat → FieldType} (hini : y.name = "<init>") (hdc : (T k).1 = y.cls) (ht : zty C T N ty0) (ha : sF σ a = some (.inr (ci, fs))) (hc : zcl[ci]? = some (C, T, N)) (hk : k < N) (hl : Cond.fieldLink y.cls idx ref (T k).2.1 (T k).2.2.1 ∈ lw_all) (hr : zref ref (T k).1 (T k).2.1 (T k).2.2.1) (hfin : (T k).2.2.2 = true) (hn : narrow (ty0 k) v = v) (hfit : fits (ty0 k) v = true) (hlen : k < fs.length) (hfs : fs.set k v = fs') (hd : decode cc pc = .ok (.putfield idx, 3))
    (kk : zR G y cc nL ret hh d (pc + 3) ls st (sUp σ a (.inr (ci, fs'))) Q) : zR G y cc nL ret hh d pc ls (v :: .ref a :: st) σ Q := by
  subst hfs
  obtain ⟨o, σ', q, k1, k2, k3⟩ := kk
  refine ⟨o, σ', q, k1, k2, fun p l e R s m args below meth c H locs cells slots arr M N9 => ?_⟩
  have hK := M.K.1
  have hap := va_apart (own := y.cls) M.ws ht.1 ty0 ht.2.1 ht.2.2 hK hc
  obtain ⟨r, h1, cell, q1, q2, q3, q4⟩ := N9.rel.at (.new ha)
  have hr9 : r = (C, T, N) := Option.some.inj (h1.symm.trans hc)
  subst hr9
  obtain ⟨hS, hfc, kC, hkC, hkind⟩ := hK.1 ci _ hc
  obtain ⟨cf, kf, fi, f, hi, hsl⟩ := hS k hk
  have hlay := M.ws _ (ht.1 _ (u_in_lay hk))
  unfold u_lay at hlay
  rw [if_pos hfin] at hlay
  have hst := (u_facts hfc hkC (u_lays M.ws ht.1 hk) hi).1
  have hcf : m.cls = cf := by
    obtain ⟨_, _, c', _, _, _, -, -, hf', -, -, -, hown2, -⟩ := Cond.laysFinal_spec hlay
    have e1 : c' = cf := by have := hi.symm.trans hf'; simp at this; exact this.1.symm
    rw [hdc] at hown2
    rw [← e1]; exact Option.some.inj (M.own.symm.trans hown2)
  have h6 := u_fits hfc hkC hkind (Or.inr hlay) hi (ht.2.1 k hk) hn hfit
  refine W.putFinK M.x M.b M.own (M.ws _ hl) (hr.found M.ws _ hi) hst hcf (M.nm.trans hini) (by rw [q2]; exact h6) q1 q3 (by rw [hsl]; exact k2_hasslot (q4 k hk)) rfl rfl hd fun H' e1 e2 e3 => ?_
  rw [hsl] at e1
  exact k3 p l e R s m args below meth c H' _ cells slots arr M ⟨by rw [e2]; exact N9.sz, N9.rel.up ha ⟨_, hc, t_OB.to (V := updV (vp_V fs) k v) ⟨_, e1, q2, q3, t_set q4 hap hk v⟩ (fun j _ => vp_updV_set hlen v j)⟩ e2 e3 (fun fs9 h9 c9 hc9 => by rw [e1] at hc9; cases hc9; cases h9; exact (N9.rel.2.2.2 a _ ha).2.2 _ rfl cell q1), fun z hz => (List.mem_append.mp hz).elim (N9.lc z) (fun h => by rw [List.mem_singleton.mp h]; exact (N9.rel.2.2.2 a _ ha).1), N9.c, N9.sl, N9.hl⟩
/-- a new object: at the heap's end, its fields the defaults; t: its tag -/
theorem zr_new {C : String} {T : u_T} {N ci idx : Nat} {fs : List Value} {ty0 : Nat → FieldType} (t : Nat) (ht : zty C T N ty0) (hcl : Cond.classLink y.cls idx C ∈ lw_all) (hins : Cond.instantiable C N ∈ lw_all) (hini : Cond.initialized C ∈ lw_all) (hc : zcl[ci]? = some (C, T, N)) (hfs : ∀ j, j < N → defaultValue (ty0 j) = vp_V fs j) (hd : decode cc pc = .ok (.new idx, 3))
    (kk : zR G y cc nL ret hh d (pc + 3) ls (.ref (sZ σ) :: st) (sNew σ t (.inr (ci, fs)) N) Q) : zR G y cc nL ret hh d pc ls st σ Q := by
  obtain ⟨o, σ', q, k1, k2, k3⟩ := kk
  rw [sZ_new] at k1
  rw [sL_new] at k2
  refine ⟨o, σ', q, by omega, by omega, fun p l e R s m args below meth c H locs cells slots arr M N9 => ?_⟩
  have n1 := N9.c
  have n2 := N9.sl
  have n3 := N9.sz
  have n4 := N9.rel.1
  have hKn := M.K.1.1 ci _ hc
  refine W.newcK M.x M.b M.own (M.ws _ hcl) (M.ws _ hins) (M.ws _ hini) rfl hd (by omega) (by omega) hKn.2.1 rfl fun H1 kC hkC e1 z1 o1 => ?_
  rw [N9.rel.1]
  exact k3 p l e R s m args below meth c H1 locs _ _ arr M ⟨by omega, N9.rel.new t N ⟨_, hc, (u_born ty0 M.ws ht.1 hKn hkC e1 ht.2.1).to hfs⟩ z1 o1 (fun fs9 _ c9 hc9 => by rw [e1] at hc9; cases hc9; rfl), N9.lc, by rw [sZ_new]; omega, by rw [sL_new]; omega, N9.hl⟩
end zHeap
