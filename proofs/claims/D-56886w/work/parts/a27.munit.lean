/-! ===== the reference: units (rows printed by tools/p127.py) ===== -/
set_option maxHeartbeats 4000000 in
theorem c_X18_init {G : zG} {σ : zT} {d : Nat} {x : Nat} {v1 v2 v3 : Int32} {r0 r4 : Nat} (hd : 3 ≤ d) (hx : sF σ x = some (.inr (18, d0_X18))) : zC G I_X18_init d [.ref x, .ref r0, .int v1, .int v2, .int v3, .ref r4] σ (.inl none) (sUp σ x (.inr (18, [.ref r0, .int v1, .int v2, .int v3, .ref r4]))) := by
  refine zCall.exact (zCall_of (ls := [(0, .ref x), (1, .ref r0), (2, .int v1), (3, .int v2), (4, .int v3), (5, .ref r4)]) (by decide) (Nat.le_of_ble_eq_true rfl) rfl ?_)
  refine zr_aload_n dX18_init_0 rfl rfl ?_
  refine zr_callv (rest := []) (zs_I (As := []) (by omega) ok_J29_init q2667 q1427 q93 q1428 rfl rfl rfl (Nat.le_of_ble_eq_true rfl) dX18_init_1) (c_J29_init (by omega)) ?_
  refine zr_aload_n dX18_init_4 rfl rfl ?_
  refine zr_aload_n dX18_init_5 rfl rfl ?_
  refine zr_putF rfl rfl (k := 0) (fs' := [.ref r0, .int 0, .int 0, .int 0, .null]) zt_X18 hx rfl (Nat.le_of_ble_eq_true rfl) q2668 (.inl rfl) rfl rfl rfl (Nat.le_of_ble_eq_true rfl) rfl dX18_init_6 ?_
  show zR _ _ _ _ _ _ _ _ _ _ _ _
  refine zr_aload_n dX18_init_9 rfl rfl ?_
  refine zr_iload_n dX18_init_10 rfl rfl ?_
  refine zr_putF rfl rfl (k := 1) (fs' := [.ref r0, .int v1, .int 0, .int 0, .null]) zt_X18 (sF_upS _ _ _) rfl (Nat.le_of_ble_eq_true rfl) q2669 (.inl rfl) rfl rfl rfl (Nat.le_of_ble_eq_true rfl) rfl dX18_init_11 ?_
  rw [sUp_sUp]
  refine zr_aload_n dX18_init_14 rfl rfl ?_
  refine zr_iload_n dX18_init_15 rfl rfl ?_
  refine zr_putF rfl rfl (k := 2) (fs' := [.ref r0, .int v1, .int v2, .int 0, .null]) zt_X18 (sF_upS _ _ _) rfl (Nat.le_of_ble_eq_true rfl) q2670 (.inl rfl) rfl rfl rfl (Nat.le_of_ble_eq_true rfl) rfl dX18_init_16 ?_
  rw [sUp_sUp]
  refine zr_aload_n dX18_init_19 rfl rfl ?_
  refine zr_iload dX18_init_20 rfl ?_
  refine zr_putF rfl rfl (k := 3) (fs' := [.ref r0, .int v1, .int v2, .int v3, .null]) zt_X18 (sF_upS _ _ _) rfl (Nat.le_of_ble_eq_true rfl) q2671 (.inl rfl) rfl rfl rfl (Nat.le_of_ble_eq_true rfl) rfl dX18_init_22 ?_
  rw [sUp_sUp]
  refine zr_aload_n dX18_init_25 rfl rfl ?_
  refine zr_aload dX18_init_26 rfl ?_
  refine zr_putF rfl rfl (k := 4) (fs' := [.ref r0, .int v1, .int v2, .int v3, .ref r4]) zt_X18 (sF_upS _ _ _) rfl (Nat.le_of_ble_eq_true rfl) q2672 (.inl rfl) rfl rfl rfl (Nat.le_of_ble_eq_true rfl) rfl dX18_init_28 ?_
  rw [sUp_sUp]
  exact zr_vret rfl dX18_init_31 (⟨rfl, rfl⟩)
set_option maxHeartbeats 4000000 in
theorem c_X18_box {G : zG} {σ : zT} {d : Nat} {x : Nat} {v1 v2 v3 : Int32} {r0 r4 : Nat} (hx : zAt G σ x (.inr (18, [.ref r0, .int v1, .int v2, .int v3, .ref r4]))) : zC G I_X18_box d [.ref x] σ (.inl (some (.ref r0))) σ := by
  refine zCall.exact (zCall_of (ls := [(0, .ref x)]) (by decide) (Nat.le_of_ble_eq_true rfl) rfl ?_)
  refine zr_aload_n dX18_box_0 rfl rfl ?_
  refine zr_get (k := 0) (v := .ref r0) in_X18 hx rfl (Nat.le_of_ble_eq_true rfl) q2668 (.inl rfl) rfl dX18_box_1 ?_
  exact zr_aret rfl (.inl ⟨_, rfl⟩) (.inr ⟨_, rfl⟩) dX18_box_4 (⟨rfl, rfl⟩)
set_option maxHeartbeats 4000000 in
theorem c_X18_line {G : zG} {σ : zT} {d : Nat} {x : Nat} {v1 v2 v3 : Int32} {r0 r4 : Nat} (hx : zAt G σ x (.inr (18, [.ref r0, .int v1, .int v2, .int v3, .ref r4]))) : zC G I_X18_line d [.ref x] σ (.inl (some (.int v1))) σ := by
  refine zCall.exact (zCall_of (ls := [(0, .ref x)]) (by decide) (Nat.le_of_ble_eq_true rfl) rfl ?_)
  refine zr_aload_n dX18_line_0 rfl rfl ?_
  refine zr_get (k := 1) (v := .int v1) in_X18 hx rfl (Nat.le_of_ble_eq_true rfl) q2669 (.inl rfl) rfl dX18_line_1 ?_
  exact zr_iret rfl rfl dX18_line_4 (⟨rfl, rfl⟩)
set_option maxHeartbeats 4000000 in
theorem c_X18_top {G : zG} {σ : zT} {d : Nat} {x : Nat} {v1 v2 v3 : Int32} {r0 r4 : Nat} (hx : zAt G σ x (.inr (18, [.ref r0, .int v1, .int v2, .int v3, .ref r4]))) : zC G I_X18_top d [.ref x] σ (.inl (some (.int v2))) σ := by
  refine zCall.exact (zCall_of (ls := [(0, .ref x)]) (by decide) (Nat.le_of_ble_eq_true rfl) rfl ?_)
  refine zr_aload_n dX18_top_0 rfl rfl ?_
  refine zr_get (k := 2) (v := .int v2) in_X18 hx rfl (Nat.le_of_ble_eq_true rfl) q2670 (.inl rfl) rfl dX18_top_1 ?_
  exact zr_iret rfl rfl dX18_top_4 (⟨rfl, rfl⟩)
set_option maxHeartbeats 4000000 in
theorem c_X18_bottom {G : zG} {σ : zT} {d : Nat} {x : Nat} {v1 v2 v3 : Int32} {r0 r4 : Nat} (hx : zAt G σ x (.inr (18, [.ref r0, .int v1, .int v2, .int v3, .ref r4]))) : zC G I_X18_bottom d [.ref x] σ (.inl (some (.int v3))) σ := by
  refine zCall.exact (zCall_of (ls := [(0, .ref x)]) (by decide) (Nat.le_of_ble_eq_true rfl) rfl ?_)
  refine zr_aload_n dX18_bottom_0 rfl rfl ?_
  refine zr_get (k := 3) (v := .int v3) in_X18 hx rfl (Nat.le_of_ble_eq_true rfl) q2671 (.inl rfl) rfl dX18_bottom_1 ?_
  exact zr_iret rfl rfl dX18_bottom_4 (⟨rfl, rfl⟩)
set_option maxHeartbeats 4000000 in
theorem c_X18_firsts {G : zG} {σ : zT} {d : Nat} {x : Nat} {v1 v2 v3 : Int32} {r0 r4 : Nat} (hx : zAt G σ x (.inr (18, [.ref r0, .int v1, .int v2, .int v3, .ref r4]))) : zC G I_X18_firsts d [.ref x] σ (.inl (some (.ref r4))) σ := by
  refine zCall.exact (zCall_of (ls := [(0, .ref x)]) (by decide) (Nat.le_of_ble_eq_true rfl) rfl ?_)
  refine zr_aload_n dX18_firsts_0 rfl rfl ?_
  refine zr_get (k := 4) (v := .ref r4) in_X18 hx rfl (Nat.le_of_ble_eq_true rfl) q2672 (.inl rfl) rfl dX18_firsts_1 ?_
  exact zr_aret rfl (.inl ⟨_, rfl⟩) (.inr ⟨_, rfl⟩) dX18_firsts_4 (⟨rfl, rfl⟩)
set_option maxHeartbeats 4000000 in
theorem c_X19_init {G : zG} {σ : zT} {d : Nat} {x : Nat} {v1 : Int32} {r0 : Nat} (hd : 3 ≤ d) (hx : sF σ x = some (.inr (19, d0_X19))) : zC G I_X19_init d [.ref x, .ref r0, .int v1] σ (.inl none) (sUp σ x (.inr (19, [.ref r0, .int v1]))) := by
  refine zCall.exact (zCall_of (ls := [(0, .ref x), (1, .ref r0), (2, .int v1)]) (by decide) (Nat.le_of_ble_eq_true rfl) rfl ?_)
  refine zr_aload_n dX19_init_0 rfl rfl ?_
  refine zr_callv (rest := []) (zs_I (As := []) (by omega) ok_J29_init q2783 q1427 q93 q1428 rfl rfl rfl (Nat.le_of_ble_eq_true rfl) dX19_init_1) (c_J29_init (by omega)) ?_
  refine zr_aload_n dX19_init_4 rfl rfl ?_
  refine zr_aload_n dX19_init_5 rfl rfl ?_
  refine zr_putF rfl rfl (k := 0) (fs' := [.ref r0, .int 0]) zt_X19 hx rfl (Nat.le_of_ble_eq_true rfl) q2784 (.inl rfl) rfl rfl rfl (Nat.le_of_ble_eq_true rfl) rfl dX19_init_6 ?_
  show zR _ _ _ _ _ _ _ _ _ _ _ _
  refine zr_aload_n dX19_init_9 rfl rfl ?_
  refine zr_iload_n dX19_init_10 rfl rfl ?_
  refine zr_putF rfl rfl (k := 1) (fs' := [.ref r0, .int v1]) zt_X19 (sF_upS _ _ _) rfl (Nat.le_of_ble_eq_true rfl) q2785 (.inl rfl) rfl rfl rfl (Nat.le_of_ble_eq_true rfl) rfl dX19_init_11 ?_
  rw [sUp_sUp]
  exact zr_vret rfl dX19_init_14 (⟨rfl, rfl⟩)
set_option maxHeartbeats 4000000 in
theorem c_X19_unit {G : zG} {σ : zT} {d : Nat} {x : Nat} {v1 : Int32} {r0 : Nat} (hx : zAt G σ x (.inr (19, [.ref r0, .int v1]))) : zC G I_X19_unit d [.ref x] σ (.inl (some (.ref r0))) σ := by
  refine zCall.exact (zCall_of (ls := [(0, .ref x)]) (by decide) (Nat.le_of_ble_eq_true rfl) rfl ?_)
  refine zr_aload_n dX19_unit_0 rfl rfl ?_
  refine zr_get (k := 0) (v := .ref r0) in_X19 hx rfl (Nat.le_of_ble_eq_true rfl) q2784 (.inl rfl) rfl dX19_unit_1 ?_
  exact zr_aret rfl (.inl ⟨_, rfl⟩) (.inr ⟨_, rfl⟩) dX19_unit_4 (⟨rfl, rfl⟩)
set_option maxHeartbeats 4000000 in
theorem c_X19_number {G : zG} {σ : zT} {d : Nat} {x : Nat} {v1 : Int32} {r0 : Nat} (hx : zAt G σ x (.inr (19, [.ref r0, .int v1]))) : zC G I_X19_number d [.ref x] σ (.inl (some (.int v1))) σ := by
  refine zCall.exact (zCall_of (ls := [(0, .ref x)]) (by decide) (Nat.le_of_ble_eq_true rfl) rfl ?_)
  refine zr_aload_n dX19_number_0 rfl rfl ?_
  refine zr_get (k := 1) (v := .int v1) in_X19 hx rfl (Nat.le_of_ble_eq_true rfl) q2785 (.inl rfl) rfl dX19_number_1 ?_
  exact zr_iret rfl rfl dX19_number_4 (⟨rfl, rfl⟩)
abbrev SU : Nat → Prop := fun s => 2010 ≤ s ∧ s < 2030
abbrev Un5 : Type := Nat × Int32 × Int32 × Int32 × List Nat
/-- the boxes that have no unit yet; the units: box, line, top, bottom, those boxes then -/
abbrev UnT : Type := List Nat × List Un5
def nUnit (s : UnT) (i : Nat) (k top h : Int32) : UnT := ([], s.2 ++ [(i, k, top, top + h, s.1)])
def nLnU (c : zCS) (j : Nat) (s : UnT) (k : Nat) : UnT := nUnit s j (nI k) (kP c j 1 + lnY c j k) 10
def nClo (o : List Nat) (s : UnT) : UnT := (if s.1 = [] then [] else o, s.2)
def nOne (c : zCS) (W : UnT → Nat → UnT) (s : UnT) (j : Nat) : UnT :=
  if kF c j 2 = 116 then (List.range (kLn c j).length).foldl (nLnU c j) s
  else if kF c j 2 = 98 ∧ kCh c j ≠ [] then W s j
  else if 0 < kP c j 3 then nUnit s j 0 (kP c j 1) (kP c j 3) else s
def nKid (c : zCS) (W : UnT → Nat → UnT) (s : UnT) (j : Nat) : UnT :=
  if kLifted c j = true ∨ mFloat c j = true then s else nClo s.1 (nOne c W (s.1 ++ [j], s.2) j)
def nUs (c : zCS) : Nat → UnT → Nat → UnT
  | 0, s, _ => s
  | f + 1, s, i => (kCh c i).foldl (nKid c (nUs c f)) s
def uOp (G : zG) (σ : zT) (c : zCS) (ol : Nat) (o : List Nat) : Prop := ∃ mod : Int32, zL G σ 2014 ol mod (o.map (fun j => kA c (rB j)))
def uOk1 (G : zG) (σ : zT) (c : zCS) (q : Nat) (u : Un5) : Prop := ∃ fl : Nat, sF σ q = some (.inr (18, [.ref (kA c (rB u.1)), .int u.2.1, .int u.2.2.1, .int u.2.2.2.1, .ref fl])) ∧ sT σ q = 2012 ∧ fL G σ 2016 fl (u.2.2.2.2.map (fun j => kA c (rB j)))
def uUn (G : zG) (σ : zT) (c : zCS) (ul : Nat) (us : List Un5) : Prop := ∃ (mod : Int32) (xs : List Nat), zL G σ 2010 ul mod xs ∧ xs.length = us.length ∧ ∀ (j q : Nat) (u : Un5), xs[j]? = some q → us[j]? = some u → uOk1 G σ c q u
theorem fL.keep {G : zG} {S : Nat → Prop} {σ σ1 : zT} {n t l : Nat} {xs : List Nat} (h : fL G σ t l xs) (hw : zGd G σ) (hX : zX G S σ σ1 n) (h1 : ¬ S t) (h2 : ¬ S (t + 1)) : fL G σ1 t l xs := by
  rcases h with ⟨e, ⟨arr, ha⟩, ht⟩ | h
  · exact Or.inl ⟨e, ⟨arr, hX.f hw ha (by rw [ht]; exact h1)⟩, (hX.t hw ha).trans ht⟩
  · exact Or.inr (hX.L hw h h1 h2)
theorem uOk1.keep {G : zG} {S : Nat → Prop} {σ σ1 : zT} {n q : Nat} {c : zCS} {u : Un5} (h : uOk1 G σ c q u) (hw : zGd G σ) (hX : zX G S σ σ1 n) (h1 : ¬ S 2012) (h2 : ¬ S 2016) (h3 : ¬ S 2017) : uOk1 G σ1 c q u := by
  obtain ⟨fl, a, b, d⟩ := h
  exact ⟨fl, hX.f hw a (by rw [b]; exact h1), (hX.t hw a).trans b, d.keep hw hX h2 h3⟩
theorem uUn.keep {G : zG} {S : Nat → Prop} {σ σ1 : zT} {n ul : Nat} {c : zCS} {us : List Un5} (h : uUn G σ c ul us) (hw : zGd G σ) (hX : zX G S σ σ1 n) (h0 : ¬ S 2010) (h9 : ¬ S 2011) (h1 : ¬ S 2012) (h2 : ¬ S 2016) (h3 : ¬ S 2017) : uUn G σ1 c ul us := by
  obtain ⟨mod, xs, a, b, d⟩ := h
  exact ⟨mod, xs, hX.L hw a h0 h9, b, fun j q u hq hu => (d j q u hq hu).keep hw hX h1 h2 h3⟩
theorem uOp.keep {G : zG} {S : Nat → Prop} {σ σ1 : zT} {n ol : Nat} {c : zCS} {o : List Nat} (h : uOp G σ c ol o) (hw : zGd G σ) (hX : zX G S σ σ1 n) (h1 : ¬ S 2014) (h2 : ¬ S 2015) : uOp G σ1 c ol o := by
  obtain ⟨mod, a⟩ := h
  exact ⟨mod, hX.L hw a h1 h2⟩
theorem fL_c {G : zG} {σb σc : zT} {fl l : Nat} {xs : List Nat} {gs : List Value} (h : fL G σb 2016 l xs) (hne : l ≠ fl) (hub : sF σb fl = some (.inr (20, gs))) (hO : ∀ a e, sF σb a = some e → a ≠ fl → sF σc a = some e ∧ sT σc a = sT σb a) : fL G σc 2016 l xs := by
  rcases h with ⟨e, ⟨arr, ha⟩, ht⟩ | ⟨arr, cap, f, h1, ht, hcx, hc, hf, ha⟩
  · exact Or.inl ⟨e, ⟨arr, (hO _ _ ha hne).1⟩, ((hO _ _ ha hne).2).trans ht⟩
  · refine Or.inr ⟨arr, cap, f, (hO _ _ h1 hne).1, ((hO _ _ h1 hne).2).trans ht, hcx, hc, hf, ?_⟩
    rcases ha with ha | ⟨a1, a2, a3⟩
    · exact Or.inl ha
    · have hn : arr ≠ fl := sF_ne a2 hub zE_arr
      exact Or.inr ⟨a1, (hO _ _ a2 hn).1, ((hO _ _ a2 hn).2).trans a3⟩
theorem SU_M (s : Nat) (h1 : 1000 ≤ s) (h2 : s < 2000) : ¬ SU s := by unfold SU; omega
theorem SU_0 : ¬ SU 0 := by unfold SU; omega
theorem MSys.bne {G : zG} {σ : zT} {c : zCS} {th ct : Int32} (h : MSys G σ c th ct) {i j : Nat} (hi : i < kN c) (hj : j < kN c) (hn : i ≠ j) : kA c (rB i) ≠ kA c (rB j) := fun e => by
  have a := (h.2.2.1 i hi).1.2
  have b := (h.2.2.1 j hj).1.2
  rw [e, b] at a
  unfold rB at a
  omega
set_option maxHeartbeats 4000000 in
theorem c_X4_unit {G : zG} {σ : zT} {d : Nat} {c : zCS} {th ct : Int32} {i ol ul : Nat} {v tp h : Int32} {o : List Nat} {us : List Un5} (hd : 10 ≤ d) (hG : zOk G) (hw : zGd G σ) (hS : MSys G σ c th ct) (hi : i < kN c) (hO : uOp G σ c ol o) (hU : uUn G σ c ul us) (hol : o.length ≤ 30) (ho : ∀ x, x ∈ o → x < kN c) (hul : us.length ≤ 900) : zCall G I_X4_unit d [.ref (kA c (rB i)), .int v, .int tp, .int h, .ref ol, .ref ul] σ ((fun o9 σ' => o9 = .inl none ∧ uOp G σ' c ol [] ∧ uUn G σ' c ul (us ++ [(i, v, tp, tp + h, o)]) ∧ zX G SU σ σ' (70 + 2 * us.length))) := by
  refine zCall_of (ls := [(0, .ref (kA c (rB i))), (1, .int v), (2, .int tp), (3, .int h), (4, .ref ol), (5, .ref ul)]) (by decide) (Nat.le_of_ble_eq_true rfl) rfl ?_
  obtain ⟨mo, hOL⟩ := hO
  have hUU := hU
  obtain ⟨mu, xs, hUL, hxl, hxs⟩ := hU
  have hXa := zX.new SU hw 2012 (by omega) (.inr (18, d0_X18)) 5
  have hua := sF_newS σ 2012 (.inr (18, d0_X18)) 5
  have hta := sT_newS σ 2012 (.inr (18, d0_X18)) 5
  have hXa0 := zX.new S0 hw 2012 (by omega) (.inr (18, d0_X18)) 5
  obtain ⟨q, hq⟩ : ∃ z, z = sZ σ := ⟨_, rfl⟩
  obtain ⟨σa, hσa⟩ : ∃ z, z = sNew σ 2012 (.inr (18, d0_X18)) 5 := ⟨_, rfl⟩
  rw [← hσa] at hXa hua hta hXa0
  rw [← hq] at hua hta
  have hXb := zX.new SU hXa.gd 2016 (by omega) (.inr (20, d0_J2)) 3
  have hub := sF_newS σa 2016 (.inr (20, d0_J2)) 3
  have htb := sT_newS σa 2016 (.inr (20, d0_J2)) 3
  have hXb0 := zX.new S0 hXa.gd 2016 (by omega) (.inr (20, d0_J2)) 3
  obtain ⟨fl, hfl⟩ : ∃ z, z = sZ σa := ⟨_, rfl⟩
  obtain ⟨σb, hσb⟩ : ∃ z, z = sNew σa 2016 (.inr (20, d0_J2)) 3 := ⟨_, rfl⟩
  rw [← hσb] at hXb hub htb hXb0
  rw [← hfl] at hub htb
  have hX0b := hXa0.trans hXb0
  have hOb := hX0b.L hw hOL (fun h => h) (fun h => h)
  have hSb := hS.keep0 hw hX0b
  have hub2 := hXb0.f hXa.gd hua (fun h => h)
  have htb2 := (hXb0.t hXa.gd hua).trans hta
  obtain ⟨_, σc, ⟨rfl, hF, hXc, hOc⟩, hCc⟩ := c_J2_init_2 (d := d - 1) (t2 := 2016) (l := fl) (by omega) hG hXb.gd (by omega) hOb (by rw [List.length_map]; omega) (fun y hy => by
    obtain ⟨x, hx, rfl⟩ := List.mem_map.mp hy
    exact hSb.el (ho x hx)) hub htb
  rw [List.length_map] at hXc
  have huc := hXc.f hXb.gd hub2 (by rw [htb2]; omega)
  have htc := (hXc.t hXb.gd hub2).trans htb2
  have hCd := c_X18_init (G := G) (d := d - 1) (v1 := v) (v2 := tp) (v3 := tp + h) (r0 := kA c (rB i)) (r4 := fl) (by omega) huc
  have hXd := zX.up (S := ST 2012) (gs := [.ref (kA c (rB i)), .int v, .int tp, .int (tp + h), .ref fl]) hXc.gd huc htc
  have hqd := sF_upS σc q (.inr (18, [.ref (kA c (rB i)), .int v, .int tp, .int (tp + h), .ref fl]))
  have htd : sT (sUp σc q (.inr (18, [.ref (kA c (rB i)), .int v, .int tp, .int (tp + h), .ref fl]))) q = 2012 := htc
  have hod : ∀ x e, sF σc x = some e → x ≠ q → sF (sUp σc q (.inr (18, [.ref (kA c (rB i)), .int v, .int tp, .int (tp + h), .ref fl]))) x = some e ∧ sT (sUp σc q (.inr (18, [.ref (kA c (rB i)), .int v, .int tp, .int (tp + h), .ref fl]))) x = sT σc x := fun x e h1 h2 => ⟨(sF_upN _ _ _ h2).trans h1, rfl⟩
  obtain ⟨σd, hσd⟩ : ∃ z, z = sUp σc q (.inr (18, [.ref (kA c (rB i)), .int v, .int tp, .int (tp + h), .ref fl])) := ⟨_, rfl⟩
  rw [← hσd] at hCd hXd hqd htd hod
  have hFd := hF.keep hXc.gd hXd (by omega) (by omega)
  have hX0c : zX G (ST 2016) σ σc _ := hX0b.in.trans hXc
  have hULd := hXd.L hXc.gd (hX0c.L hw hUL (by omega) (by omega)) (by omega) (by omega)
  have hOd := hXd.L hXc.gd (hX0c.L hw hOL (by omega) (by omega)) (by omega) (by omega)
  have hUc : ∀ (j p : Nat) (u : Un5), xs[j]? = some p → us[j]? = some u → uOk1 G σd c p u := fun j p u hp hu => by
    obtain ⟨fl9, a1, a2, a3⟩ := hxs j p u hp hu
    have hlt : p < sZ σ := hw.1 p _ a1
    have a3b : fL G σb 2016 fl9 _ := a3.keep hw hX0b (fun h => h) (fun h => h)
    have b1 := hX0c.f hw a1 (by rw [a2]; omega)
    have b2 := (hX0c.t hw a1).trans a2
    have b3 := hod p _ b1 (by omega)
    refine ⟨fl9, b3.1, b3.2.trans b2, ?_⟩
    have a3c : fL G σc 2016 fl9 (u.2.2.2.2.map (fun j => kA c (rB j))) := fL_c a3b (fun e => by
      subst e
      rcases a3 with ⟨-, ⟨arr, h1⟩, -⟩ | ⟨arr, cap, ff, h1, -⟩
      · have := hw.1 _ _ h1; have := hXa.1.1; omega
      · have := hw.1 _ _ h1; have := hXa.1.1; omega) hub hOc
    exact a3c.keep hXc.gd hXd (by omega) (by omega)
  have hzu : ∀ σ9 : zT, ∀ y : Nat, (∃ fs, zAt G σ9 y (.inr (18, fs))) → zEl G σ9 y := fun σ9 y ⟨fs, h⟩ => ⟨_, _, _, _, _, h, rfl, q2877⟩
  obtain ⟨_, σe, ⟨rfl, hLe, hXe⟩, hCe⟩ := c_add (d := d - 1) (x := q) (by omega) hG hXd.gd hULd (by omega) (hzu _ _ ⟨_, .new hqd⟩) (fun y hy => by
    obtain ⟨j, hj, hy2⟩ := List.mem_iff_getElem.mp hy
    obtain ⟨u, hu⟩ : ∃ u, us[j]? = some u := ⟨_, List.getElem?_eq_getElem (by omega)⟩
    obtain ⟨fl9, a1, -⟩ := hUc j y u (by rw [List.getElem?_eq_getElem hj, hy2]) hu
    exact hzu _ _ ⟨_, .new a1⟩)
  have hOe := hXe.L hXd.gd hOd (by omega) (by omega)
  obtain ⟨_, σf, ⟨rfl, hLf, hXf⟩, hCf⟩ := c_J2_clear (d := d - 1) (by omega) hG hXe.gd hOe
  have hUnf : uUn G σf c ul (us ++ [(i, v, tp, tp + h, o)]) := by
    refine ⟨_, _, hXf.L hXe.gd hLe (by omega) (by omega), by rw [List.length_append, List.length_append, hxl]; rfl, fun j p u hp hu => ?_⟩
    have hk : uOk1 G σd c p u := by
      by_cases hj : j < xs.length
      · rw [List.getElem?_append_left hj] at hp
        rw [List.getElem?_append_left (by omega)] at hu
        exact hUc j p u hp hu
      · have hj1 : j = xs.length := by
          have := (List.getElem?_eq_some_iff.mp hp).1
          rw [List.length_append, List.length_singleton] at this
          omega
        subst hj1
        rw [List.getElem?_append_right (Nat.le_refl _), Nat.sub_self] at hp
        rw [hxl, List.getElem?_append_right (Nat.le_refl _), Nat.sub_self] at hu
        cases hp
        cases hu
        exact ⟨fl, hqd, htd, hFd⟩
    exact (hk.keep hXd.gd hXe (by omega) (by omega) (by omega)).keep hXe.gd hXf (by omega) (by omega) (by omega)
  refine zr_aload dX4_unit_0 rfl ?_
  refine zr_new (ci := 18) (2012) zt_X18 q2625 q2626 q103 rfl df_X18 dX4_unit_2 ?_
  rw [← hσa, ← hq]
  refine zr_dup dX4_unit_5 rfl ?_
  refine zr_aload_n dX4_unit_6 rfl rfl ?_
  refine zr_iload_n dX4_unit_7 rfl rfl ?_
  refine zr_iload_n dX4_unit_8 rfl rfl ?_
  refine zr_iload_n dX4_unit_9 rfl rfl ?_
  refine zr_iload_n dX4_unit_10 rfl rfl ?_
  refine zr_iadd dX4_unit_11 ?_
  refine zr_new (ci := 20) (2016) zt_J2 q2082 q115 q56 rfl df_J2 dX4_unit_12 ?_
  rw [← hσb, ← hfl]
  refine zr_dup dX4_unit_15 rfl ?_
  refine zr_aload dX4_unit_16 rfl ?_
  refine zr_callv (rest := [.ref fl, .int (tp + h), .int tp, .int v, .ref (kA c (rB i)), .ref q, .ref q, .ref ul]) (zs_I (As := [.ref ol]) (by omega) ok_J2_init_2 q2627 q2628 q56 q2629 rfl rfl rfl (Nat.le_of_ble_eq_true rfl) dX4_unit_18) hCc ?_
  refine zr_callv (rest := [.ref q, .ref ul]) (zs_IN (As := [.ref (kA c (rB i)), .int v, .int tp, .int (tp + h), .ref fl]) (by omega) ok_X18_init q2664 q2665 q103 q2666 rfl rfl rfl (Nat.le_of_ble_eq_true rfl) dX4_unit_21) hCd ?_
  obtain ⟨arru, capu, ffu, hu9, -⟩ := hULd
  obtain ⟨arro, capo, ffo, ho9, -⟩ := hOe
  refine zr_call1 (rest := []) (zs_V (As := [.ref q]) (by omega) ok_J2_add q2217 q357 q2838 q56 q359 rfl (.new hu9) rfl rfl rfl (Nat.le_of_ble_eq_true rfl) dX4_unit_24) hCe ?_
  refine zr_pop dX4_unit_27 rfl ?_
  refine zr_aload dX4_unit_28 rfl ?_
  refine zr_callv (rest := []) (zs_V (As := []) (by omega) ok_J2_clear q2477 q2478 q2479 q56 q2480 rfl (.new ho9) rfl rfl rfl (Nat.le_of_ble_eq_true rfl) dX4_unit_30) hCf ?_
  exact zr_vret rfl dX4_unit_33 (⟨rfl, ⟨_, hLf⟩, hUnf, (((((hXa.trans hXb).trans (hXc.mono (fun s h => by unfold SU; omega))).trans (hXd.mono (fun s h => by unfold SU; omega))).trans (hXe.mono (fun s h => by unfold SU; omega))).trans (hXf.mono (fun s h => by unfold SU; omega))).le (by omega)⟩)
set_option maxHeartbeats 4000000 in
theorem l_X4_uln {G : zG} {σ : zT} {d : Nat} {c : zCS} {th ct : Int32} {i j ol ul it M N : Nat} {Q : zO → zT → Prop} (hd : 14 ≤ d) (hG : zOk G) (hw : zGd G σ) (hS : MSys G σ c th ct) (hj : j < kN c) (hM : M ≤ 900) : ∀ (ys : List Nat) (k m : Nat) (s : UnT) (σ1 : zT), (List.range (kLn c j).length).drop k = ys → k ≤ (kLn c j).length → zX G SU σ σ1 m → m + ys.length * (70 + 2 * M) ≤ N → uOp G σ1 c ol s.1 → uUn G σ1 c ul s.2 → s.1.length ≤ 30 → (∀ x, x ∈ s.1 → x < kN c) → s.2.length + ys.length ≤ M → (∀ σ2, uOp G σ2 c ol (ys.foldl (nLnU c j) s).1 → uUn G σ2 c ul (ys.foldl (nLnU c j) s).2 → zX G SU σ σ2 N → zR G yX4_units cX4_units 6 (Option.none : Option Jvm.ClassFile.FieldType) [] d 179 [(0, .ref (kA c (rB i))), (1, .ref ol), (2, .ref ul), (3, .ref it), (4, .ref (kA c (rB j)))] [] σ2 Q) → zR G yX4_units cX4_units 6 (Option.none : Option Jvm.ClassFile.FieldType) [] d 67 [(0, .ref (kA c (rB i))), (1, .ref ol), (2, .ref ul), (3, .ref it), (4, .ref (kA c (rB j))), (5, .int (nI k))] [] σ1 Q := by
  intro ys
  induction ys with
  | nil =>
    intro k m s σ1 hy hk hX hN hO hU hol ho hM2 kQ
    have hS1 := hS.keep hw hX SU_M
    obtain ⟨ml, xl, l1, l2, l3⟩ := hS1.lnL hj
    obtain ⟨fl_l, hfll⟩ := l1.A
    have hkl := drop_nil hy (by rw [List.length_range]; exact hk)
    rw [List.length_range] at hkl
    refine zr_iload dX4_units_67 rfl ?_
    refine zr_aload dX4_units_69 rfl ?_
    refine zr_get (k := 6) (v := .ref (kA c (rL j))) in_X5 (hS1.bx hj) rfl (Nat.le_of_ble_eq_true rfl) q2105 (.inl rfl) rfl dX4_units_71 ?_
    refine zr_call1 (rest := [.int (nI k)]) (zs_V (As := []) (by omega) ok_J2_size q2246 q164 q2839 q56 q166 rfl hfll rfl rfl rfl (Nat.le_of_ble_eq_true rfl) dX4_units_74) (c_size (by omega) l1 l2) ?_
    refine zr_icmp_ge (tgt := 119) dX4_units_77 (by decide) (fun _ => ?_) (fun h9 => absurd (by rw [hkl]; exact Int32.le_refl _) h9)
    refine zr_goto (tgt := 179) dX4_units_119 (by decide) ?_
    refine zr_sub (ls2 := [(0, .ref (kA c (rB i))), (1, .ref ol), (2, .ref ul), (3, .ref it), (4, .ref (kA c (rB j)))]) [0, 1, 2, 3, 4] rfl ?_
    exact kQ σ1 hO hU (hX.le (by omega))
  | cons x ys ih =>
    intro k m s σ1 hy hk hX hN hO hU hol ho hM2 kQ
    have hS1 := hS.keep hw hX SU_M
    obtain ⟨ml, xl, l1, l2, l3⟩ := hS1.lnL hj
    obtain ⟨fl_l, hfll⟩ := l1.A
    obtain ⟨hx, hy2, hkl, hm⟩ := drop_cons hy
    rw [List.length_range] at hkl
    have hxk := range_at hx
    subst hxk
    obtain ⟨q, hq⟩ : ∃ q, xl[x]? = some q := ⟨_, List.getElem?_eq_getElem (by omega)⟩
    obtain ⟨z, hz⟩ : ∃ z, (kLn c j)[x]? = some z := ⟨_, List.getElem?_eq_getElem hkl⟩
    have hqz : zAt G σ1 q (.inr (14, [.int z.2.2, .int z.1, .int z.2.1])) := .new (l3 x q z hq hz).1
    have hll : (kLn c j).length ≤ 1000000 := by
      obtain ⟨arr9, cap9, f9, -, -, c1, c2, -⟩ := id l1
      omega
    have hly : lnY c j x = z.2.1 := by unfold lnY; rw [List.getD_eq_getElem?_getD, hz]; rfl
    rw [List.length_cons] at hM2 hN
    have hN2 : (ys.length + 1) * (70 + 2 * M) = ys.length * (70 + 2 * M) + (70 + 2 * M) := Nat.succ_mul _ _
    have hfold : ∀ s, List.foldl (nLnU c j) s (x :: ys) = ys.foldl (nLnU c j) (nLnU c j s x) := fun _ => rfl
    simp only [hfold] at kQ
    obtain ⟨_, σ2, ⟨rfl, hO2, hU2, hX2⟩, hC2⟩ := c_X4_unit (d := d - 1) (v := nI x) (tp := kP c j 1 + z.2.1) (h := 10) (by omega) hG hX.gd hS1 hj hO hU hol ho (by omega)
    rw [← hly] at hC2 hU2
    refine zr_iload dX4_units_67 rfl ?_
    refine zr_aload dX4_units_69 rfl ?_
    refine zr_get (k := 6) (v := .ref (kA c (rL j))) in_X5 (hS1.bx hj) rfl (Nat.le_of_ble_eq_true rfl) q2105 (.inl rfl) rfl dX4_units_71 ?_
    refine zr_call1 (rest := [.int (nI x)]) (zs_V (As := []) (by omega) ok_J2_size q2246 q164 q2839 q56 q166 rfl hfll rfl rfl rfl (Nat.le_of_ble_eq_true rfl) dX4_units_74) (c_size (by omega) l1 l2) ?_
    refine zr_icmp_ge (tgt := 119) dX4_units_77 (by decide) (fun h9 => absurd h9 (Int32.not_le.mpr ((nI_ltI (by omega) (by omega)).mpr hkl))) (fun _ => ?_)
    refine zr_aload dX4_units_80 rfl ?_
    refine zr_iload dX4_units_82 rfl ?_
    refine zr_aload dX4_units_84 rfl ?_
    refine zr_get (k := 28) (v := .int (kP c j 1)) in_X5 (hS1.bx hj) rfl (Nat.le_of_ble_eq_true rfl) q2149 (.inl rfl) rfl dX4_units_86 ?_
    refine zr_aload dX4_units_89 rfl ?_
    refine zr_get (k := 6) (v := .ref (kA c (rL j))) in_X5 (hS1.bx hj) rfl (Nat.le_of_ble_eq_true rfl) q2105 (.inl rfl) rfl dX4_units_91 ?_
    refine zr_iload dX4_units_94 rfl ?_
    refine zr_call1 (rest := [.int (kP c j 1), .int (nI x), .ref (kA c (rB j))]) (zs_V (As := [.int (nI x)]) (by omega) ok_J2_get q2250 q959 q2840 q56 q960 rfl hfll rfl rfl rfl (Nat.le_of_ble_eq_true rfl) dX4_units_96) (c_J2_get (by omega) hG l1 hq) ?_
    refine zr_castS hqz rfl q2481 dX4_units_99 ?_
    refine zr_call1 (rest := [.int (kP c j 1), .int (nI x), .ref (kA c (rB j))]) (zs_V (As := []) (by omega) ok_X14_y q2603 q2604 q2605 q99 q2606 rfl hqz rfl rfl rfl (Nat.le_of_ble_eq_true rfl) dX4_units_102) (c_X14_y hqz) ?_
    rw [← hly]
    refine zr_iadd dX4_units_105 ?_
    refine zr_bipush (v := 10) dX4_units_106 (by decide) ?_
    refine zr_aload_n dX4_units_108 rfl rfl ?_
    refine zr_aload_n dX4_units_109 rfl rfl ?_
    refine zr_callv (rest := []) (zs_S (As := [.ref (kA c (rB j)), .int (nI x), .int ((kP c j 1) + (lnY c j x)), .int 10, .ref ol, .ref ul]) (by omega) ok_X4_unit q2622 q2623 q77 q2624 rfl rfl (Nat.le_of_ble_eq_true rfl) dX4_units_110) hC2 ?_
    refine zr_iinc (v := nI x + 1) (ls2 := [(0, .ref (kA c (rB i))), (1, .ref ol), (2, .ref ul), (3, .ref it), (4, .ref (kA c (rB j))), (5, .int (nI x + 1))]) dX4_units_113 rfl rfl (Nat.le_of_ble_eq_true rfl) rfl ?_
    rw [show nI x + 1 = nI (x + 1) from nI_1 x]
    refine zr_goto (tgt := 67) dX4_units_116 (by decide) ?_
    refine ih (x + 1) _ (nLnU c j s x) σ2 hy2 hkl (hX.trans hX2) (by omega) hO2 hU2 (Nat.zero_le _) (fun y h9 => absurd h9 List.not_mem_nil) ?_ kQ
    show (s.2 ++ [_]).length + ys.length ≤ M
    rw [List.length_append, List.length_singleton]
    omega
theorem nLnU_len (c : zCS) (j : Nat) : ∀ (ys : List Nat) (s : UnT), (ys.foldl (nLnU c j) s).2.length = s.2.length + ys.length ∧ ((ys.foldl (nLnU c j) s).1 = s.1 ∨ (ys.foldl (nLnU c j) s).1 = []) := by
  intro ys
  induction ys with
  | nil => intro s; exact ⟨rfl, Or.inl rfl⟩
  | cons y ys ih =>
    intro s
    obtain ⟨a, b⟩ := ih (nLnU c j s y)
    refine ⟨?_, ?_⟩
    · show (ys.foldl (nLnU c j) (nLnU c j s y)).2.length = _
      rw [a]
      show (s.2 ++ [_]).length + _ = _
      rw [List.length_append, List.length_singleton, List.length_cons]
      omega
    · rcases b with b | b
      · exact Or.inr b
      · exact Or.inr b
abbrev HUS (G : zG) (c : zCS) (th ct : Int32) (ol ul M f d : Nat) : Prop := ∀ (σ : zT) (s : UnT) (i : Nat), zGd G σ → MSys G σ c th ct → i < kN c → kN c ≤ f + i → uOp G σ c ol s.1 → uUn G σ c ul s.2 → (∀ x, x ∈ s.1 → x ≤ i) → s.1.length ≤ i + 1 → s.2.length + tsum c (uA c) f i ≤ M → zCall G I_X4_units d [.ref (kA c (rB i)), .ref ol, .ref ul] σ (fun o σ' => o = .inl none ∧ uOp G σ' c ol (nUs c f s i).1 ∧ uUn G σ' c ul (nUs c f s i).2 ∧ ((nUs c f s i).1 = s.1 ∨ (nUs c f s i).1 = []) ∧ (nUs c f s i).2.length ≤ s.2.length + tsum c (uA c) f i ∧ zX G SU σ σ' (tsum c (uA c) f i * (160 + 2 * M) - 80))
theorem nClo_1 {o : List Nat} {j : Nat} {s : UnT} (h : s.1 = o ++ [j]) : nClo o s = (o, s.2) := by unfold nClo; rw [if_neg (by rw [h]; simp)]
theorem nClo_0 {o : List Nat} {s : UnT} (h : s.1 = []) : nClo o s = ([], s.2) := by unfold nClo; rw [if_pos h]
set_option maxHeartbeats 4000000 in
theorem l_X4_ukids {G : zG} {σ : zT} {d f : Nat} {c : zCS} {th ct : Int32} {ol ul i it M N L : Nat} {o0 : List Nat} {Q : zO → zT → Prop} (hd : 16 ≤ d) (hG : zOk G) (hw : zGd G σ) (hS : MSys G σ c th ct) (hi : i < kN c) (hf : kN c ≤ f + 1 + i) (hit : sZ σ ≤ it) (hM : M ≤ 900) (ho0 : ∀ x, x ∈ o0 → x ≤ i) (hol0 : o0.length ≤ i + 1) (hWK : HUS G c th ct ol ul M f (d - 1)) : ∀ (ys : List Nat) (k m : Nat) (lr : Int32) (s : UnT) (σ1 : zT), (kCh c i).drop k = ys → k ≤ (kCh c i).length → zX G SU σ σ1 m → m + (ys.map (tsum c (uA c) f)).sum * (160 + 2 * M) ≤ N → uOp G σ1 c ol s.1 → uUn G σ1 c ul s.2 → (s.1 = o0 ∨ s.1 = []) → s.2.length + (ys.map (tsum c (uA c) f)).sum ≤ L → L ≤ M → sF σ1 it = some (.inr (21, [.int (nI k), .int lr, .int (kM c (rC i)), .ref (kA c (rC i))])) → sT σ1 it = 0 → (∀ σ2, uOp G σ2 c ol (ys.foldl (nKid c (nUs c f)) s).1 → uUn G σ2 c ul (ys.foldl (nKid c (nUs c f)) s).2 → ((ys.foldl (nKid c (nUs c f)) s).1 = o0 ∨ (ys.foldl (nKid c (nUs c f)) s).1 = []) → (ys.foldl (nKid c (nUs c f)) s).2.length ≤ L → zX G SU σ σ2 N → Q (.inl none) σ2) → zR G yX4_units cX4_units 6 (Option.none : Option Jvm.ClassFile.FieldType) [] d 8 [(0, .ref (kA c (rB i))), (1, .ref ol), (2, .ref ul), (3, .ref it)] [] σ1 Q := by
  intro ys
  induction ys with
  | nil =>
    intro k m lr s σ1 hy hk hX hN hO hU hso hL hLM hI hT kQ
    have hS1 := hS.keep hw hX SU_M
    have hL1 := hS1.chL hi
    have hkl := drop_nil hy hk
    rw [List.map_nil, List.sum_nil] at hL hN
    refine zr_aload_n dX4_units_8 rfl rfl ?_
    refine zr_call51 (rest := []) (zs_F (As := []) (by omega) okF_J23_hasNext (by decide +kernel) q2324 q927 q929 q84 q931 (.new hI) rfl rfl rfl (Nat.le_of_ble_eq_true rfl) dX4_units_9) (c_hasNext0 hL1 hI (by rw [List.length_map]; exact hkl)) ?_
    refine zr_if_eq (tgt := 189) dX4_units_14 (by decide) (fun _ => ?_) (fun h9 => absurd (rfl) h9)
    exact zr_vret rfl dX4_units_189 (kQ σ1 hO hU hso (by rw [List.foldl_nil]; omega) (hX.le (by omega)))
  | cons j ys ih =>
    intro k m lr s σ1 hy hk hX hN hO hU hso hL hLM hI hT kQ
    have hS1 := hS.keep hw hX SU_M
    have hle := hS.le
    have hL1 := hS1.chL hi
    obtain ⟨hx, hy2, hkl, hm⟩ := drop_cons hy
    have hj := hS.ch hi hm
    have hsx : ∀ x, x ∈ s.1 → x ≤ i := fun x h9 => by
      rcases hso with e | e
      · exact ho0 x (e ▸ h9)
      · rw [e] at h9; exact absurd h9 List.not_mem_nil
    have hsl : s.1.length ≤ i + 1 := by
      rcases hso with e | e
      · rw [e]; exact hol0
      · rw [e]; exact Nat.zero_le _
    rw [List.map_cons, List.sum_cons] at hL hN
    rw [Nat.add_mul] at hN
    have hX2 := hX.upN (gs := [.int (nI (k + 1)), .int (nI k), .int (kM c (rC i)), .ref (kA c (rC i))]) hI hit
    have hX12 : zX G (ST 0) σ1 (sUp σ1 it (.inr (21, [.int (nI (k + 1)), .int (nI k), .int (kM c (rC i)), .ref (kA c (rC i))]))) 0 := zX.up hX.gd hI hT
    have hI2 : sF (sUp σ1 it (.inr (21, [.int (nI (k + 1)), .int (nI k), .int (kM c (rC i)), .ref (kA c (rC i))]))) it = _ := sF_upS _ _ _
    have hT2 : sT (sUp σ1 it (.inr (21, [.int (nI (k + 1)), .int (nI k), .int (kM c (rC i)), .ref (kA c (rC i))]))) it = 0 := hT
    generalize hσ2 : sUp σ1 it (.inr (21, [.int (nI (k + 1)), .int (nI k), .int (kM c (rC i)), .ref (kA c (rC i))])) = σ2 at hX2 hX12 hI2 hT2
    have hS2 := hS.keep hw hX2 SU_M
    have hO2 := hO.keep hX.gd hX12 (by omega) (by omega)
    have hU2 := hU.keep hX.gd hX12 (by omega) (by omega) (by omega) (by omega) (by omega)
    have hfold : ∀ s, List.foldl (nKid c (nUs c f)) s (j :: ys) = ys.foldl (nKid c (nUs c f)) (nKid c (nUs c f) s j) := fun _ => rfl
    simp only [hfold] at kQ
    refine zr_aload_n dX4_units_8 rfl rfl ?_
    refine zr_call51 (rest := []) (zs_F (As := []) (by omega) okF_J23_hasNext (by decide +kernel) q2324 q927 q929 q84 q931 (.new hI) rfl rfl rfl (Nat.le_of_ble_eq_true rfl) dX4_units_9) (c_hasNext1 hL1 hI (by rw [List.length_map]; exact hkl)) ?_
    refine zr_if_eq (tgt := 189) dX4_units_14 (by decide) (fun h9 => absurd h9 (by decide)) (fun _ => ?_)
    refine zr_aload_n dX4_units_17 rfl rfl ?_
    refine zr_call51 (rest := []) (zs_F (As := []) (by omega) okF_J23_next (by decide +kernel) q2326 q1044 q1046 q84 q1048 (.new hI) rfl rfl rfl (Nat.le_of_ble_eq_true rfl) dX4_units_18) (c_J23_next (by omega) hG hL1 hI (map_at (fun j => kA c (rB j)) hx)) ?_
    rw [hσ2]
    refine zr_castS (hS2.bx hj.2) rfl q2084 dX4_units_23 ?_
    refine zr_astore (ls2 := [(0, .ref (kA c (rB i))), (1, .ref ol), (2, .ref ul), (3, .ref it), (4, .ref (kA c (rB j)))]) dX4_units_26 (Nat.le_of_ble_eq_true rfl) rfl ?_
    refine zr_aload dX4_units_28 rfl ?_
    refine zr_call1 (rest := []) (zs_V (As := []) (by omega) ok_X5_isLifted q2333 q2334 q2335 q78 q2336 rfl (hS2.bx hj.2) rfl rfl rfl (Nat.le_of_ble_eq_true rfl) dX4_units_30) (c_X5_isLifted hS2 hj.2) ?_
    refine zr_ifneB (tgt := 8) dX4_units_33 (by decide) (fun h1 => ?_) (fun h1 => ?_)
    · refine zr_sub (ls2 := [(0, .ref (kA c (rB i))), (1, .ref ol), (2, .ref ul), (3, .ref it)]) [0, 1, 2, 3] rfl ?_
      have e9 : nKid c (nUs c f) s j = s := if_pos (Or.inl h1)
      rw [e9] at kQ
      exact ih (k + 1) _ _ s σ2 hy2 hkl hX2 (by omega) hO2 hU2 hso (by omega) hLM hI2 hT2 kQ
    · refine zr_aload dX4_units_36 rfl ?_
      refine zr_call1 (rest := []) (zs_V (As := []) (by omega) ok_X5_isFloat q2364 q2365 q2366 q78 q2367 rfl (hS2.bx hj.2) rfl rfl rfl (Nat.le_of_ble_eq_true rfl) dX4_units_38) (c_X5_isFloat (by omega) hS2 hj.2) ?_
      refine zr_ifeqB (tgt := 47) dX4_units_41 (by decide) (fun h2 => ?_) (fun h2 => ?_)
      · have e9 : nKid c (nUs c f) s j = nClo s.1 (nOne c (nUs c f) (s.1 ++ [j], s.2) j) := if_neg (by rw [h1, h2]; simp)
        rw [e9] at kQ
        have hO2' := hO2
        obtain ⟨mo, hOL⟩ := hO2'
        obtain ⟨arro, capo, ffo, ho9, -⟩ := id hOL
        obtain ⟨_, σ3, ⟨rfl, hL3, hX3⟩, hC3⟩ := c_add (d := d - 1) (x := kA c (rB j)) (by omega) hG hX2.gd hOL (by rw [List.length_map]; omega) (hS2.el hj.2) (fun y hy => by
          obtain ⟨x, hx, rfl⟩ := List.mem_map.mp hy
          exact hS2.el (Nat.lt_of_le_of_lt (hsx x hx) hi))
        rw [List.length_map] at hX3
        have hO3 : uOp G σ3 c ol (s.1 ++ [j]) := ⟨_, by rw [List.map_append]; exact hL3⟩
        have hU3 := hU2.keep hX2.gd hX3 (by omega) (by omega) (by omega) (by omega) (by omega)
        have hXs3 := hX2.trans (hX3.mono (S2 := SU) (fun s h => by unfold SU; omega))
        have hS3 := hS.keep hw hXs3 SU_M
        have hI3 := hX3.f hX2.gd hI2 (by rw [hT2]; omega)
        have hT3 := (hX3.t hX2.gd hI2).trans hT2
        have htj : 1 ≤ tsum c (uA c) f j := by
          cases f with
          | zero => omega
          | succ f => rw [tsum_succ]; unfold uA; omega
        have hpu : 160 + 2 * M ≤ tsum c (uA c) f j * (160 + 2 * M) := Nat.le_mul_of_pos_left _ htj
        have hnj : ¬ j ∈ s.1 := fun h9 => by have := hsx j h9; omega
        have hsj : ∀ x, x ∈ s.1 ++ [j] → x ≤ j := fun x h9 => by
          rcases List.mem_append.mp h9 with h9 | h9
          · have := hsx x h9; omega
          · rw [List.mem_singleton.mp h9]; exact Nat.le_refl _
        have hslj : (s.1 ++ [j]).length ≤ j + 1 := by rw [List.length_append, List.length_singleton]; omega
        refine zr_aload_n dX4_units_47 rfl rfl ?_
        refine zr_aload dX4_units_48 rfl ?_
        refine zr_call1 (rest := []) (zs_V (As := [.ref (kA c (rB j))]) (by omega) ok_J2_add q2217 q357 q2838 q56 q359 rfl (.new ho9) rfl rfl rfl (Nat.le_of_ble_eq_true rfl) dX4_units_50) hC3 ?_
        have key : ∀ (s2 : UnT) (σ4 : zT) (n4 : Nat), nOne c (nUs c f) (s.1 ++ [j], s.2) j = s2 → uOp G σ4 c ol s2.1 → uUn G σ4 c ul s2.2 → (s2.1 = s.1 ++ [j] ∨ s2.1 = []) → s2.2.length ≤ s.2.length + tsum c (uA c) f j → zX G SU σ3 σ4 n4 → m + (14 + 2 * s.1.length) + n4 ≤ m + tsum c (uA c) f j * (160 + 2 * M) → zR G yX4_units cX4_units 6 (Option.none : Option Jvm.ClassFile.FieldType) [] d 179 [(0, .ref (kA c (rB i))), (1, .ref ol), (2, .ref ul), (3, .ref it), (4, .ref (kA c (rB j)))] [] σ4 Q := by
          intro s2 σ4 n4 e2 hO4 hU4 hs2 hl2 hX4 hn4
          rw [e2] at kQ
          have hXs4 := hXs3.trans hX4
          have hS4 := hS.keep hw hXs4 SU_M
          have hI4 := hX4.f hXs3.gd hI3 (by rw [hT3]; exact SU_0)
          have hT4 := (hX4.t hXs3.gd hI3).trans hT3
          obtain ⟨mo4, hOL4⟩ := hO4
          obtain ⟨arr4, cap4, ff4, ho4, -⟩ := id hOL4
          have hbj4 : zAt G σ4 (kA c (rB j)) (.inr (5, mBx c j)) := hS4.bx hj.2
          refine zr_aload_n dX4_units_179 rfl rfl ?_
          refine zr_aload dX4_units_180 rfl ?_
          rcases hs2 with e4 | e4
          · rw [nClo_1 e4] at kQ
            rw [e4, List.map_append] at hOL4
            obtain ⟨_, σ5, ⟨rfl, hL5, hX5⟩, hC5⟩ := c_J2_remove (d := d - 1) (by omega) hXs4.gd hOL4 hbj4 (fun h9 => by
              obtain ⟨x, hx, he⟩ := List.mem_map.mp h9
              have hxl := hsx x hx
              exact hS4.bne (by omega) hj.2 (by omega) he)
            have hU5 := hU4.keep hXs4.gd hX5 (by omega) (by omega) (by omega) (by omega) (by omega)
            have hI5 := hX5.f hXs4.gd hI4 (by rw [hT4]; omega)
            have hT5 := (hX5.t hXs4.gd hI4).trans hT4
            refine zr_call1 (rest := []) (zs_V (As := [.ref (kA c (rB j))]) (by omega) ok_J2_remove q2684 q2685 q2686 q56 q2687 rfl (.new ho4) rfl rfl rfl (Nat.le_of_ble_eq_true rfl) dX4_units_182) hC5 ?_
            refine zr_pop dX4_units_185 rfl ?_
            refine zr_goto (tgt := 8) dX4_units_186 (by decide) ?_
            refine zr_sub (ls2 := [(0, .ref (kA c (rB i))), (1, .ref ol), (2, .ref ul), (3, .ref it)]) [0, 1, 2, 3] rfl ?_
            exact ih (k + 1) _ _ (s.1, s2.2) σ5 hy2 hkl (hXs4.trans (hX5.mono (S2 := SU) (fun s h => by unfold SU; omega))) (by omega) ⟨_, hL5⟩ hU5 hso (by show s2.2.length + _ ≤ _; omega) hLM hI5 hT5 kQ
          · rw [nClo_0 e4] at kQ
            rw [e4] at hOL4
            obtain ⟨_, σ5, ⟨rfl, h5⟩, hC5⟩ := c_J2_remove0 (d := d - 1) (x := kA c (rB j)) hXs4.gd hOL4
            subst h5
            have hX5 : zX G S0 σ5 σ5 0 := zX.rf _ hXs4.gd 0
            have hU5 := hU4
            have hI5 := hI4
            have hT5 := hT4
            have hL5 := hOL4
            refine zr_call1 (rest := []) (zs_V (As := [.ref (kA c (rB j))]) (by omega) ok_J2_remove q2684 q2685 q2686 q56 q2687 rfl (.new ho4) rfl rfl rfl (Nat.le_of_ble_eq_true rfl) dX4_units_182) hC5 ?_
            refine zr_pop dX4_units_185 rfl ?_
            refine zr_goto (tgt := 8) dX4_units_186 (by decide) ?_
            refine zr_sub (ls2 := [(0, .ref (kA c (rB i))), (1, .ref ol), (2, .ref ul), (3, .ref it)]) [0, 1, 2, 3] rfl ?_
            exact ih (k + 1) _ _ ([], s2.2) σ5 hy2 hkl (hXs4.trans hX5.in) (by omega) ⟨_, hL5⟩ hU5 (Or.inr rfl) (by show s2.2.length + _ ≤ _; omega) hLM hI5 hT5 kQ
        refine zr_pop dX4_units_53 rfl ?_
        refine zr_aload dX4_units_54 rfl ?_
        refine zr_get (k := 1) (v := .int (kF c j 2)) in_X5 (hS3.bx hj.2) rfl (Nat.le_of_ble_eq_true rfl) q2095 (.inl rfl) rfl dX4_units_56 ?_
        refine zr_bipush (v := 116) dX4_units_59 (by decide) ?_
        refine zr_icmp_ne (tgt := 122) dX4_units_61 (by decide) (fun hk => ?_) (fun hk => ?_)
        · have hk0 : ¬ kF c j 2 = 116 := by first | exact hk | exact fun h => hk h
          have k153 : ¬ (kF c j 2 = 98 ∧ kCh c j ≠ []) → zR G yX4_units cX4_units 6 (Option.none : Option Jvm.ClassFile.FieldType) [] d 153 [(0, .ref (kA c (rB i))), (1, .ref ol), (2, .ref ul), (3, .ref it), (4, .ref (kA c (rB j)))] [] σ3 Q := by
            intro hnb
            refine zr_aload dX4_units_153 rfl ?_
            refine zr_get (k := 30) (v := .int (kP c j 3)) in_X5 (hS3.bx hj.2) rfl (Nat.le_of_ble_eq_true rfl) q2153 (.inl rfl) rfl dX4_units_155 ?_
            refine zr_if_le (tgt := 179) dX4_units_158 (by decide) (fun h4 => ?_) (fun h4 => ?_)
            · exact key (s.1 ++ [j], s.2) σ3 0 (by unfold nOne; rw [if_neg hk0, if_neg hnb, if_neg (Int32.not_lt.mpr h4)]) hO3 hU3 (Or.inl rfl) (by show s.2.length ≤ _; omega) (zX.rf _ hXs3.gd _) (by omega)
            · obtain ⟨_, σ4, ⟨rfl, hO4, hU4, hX4⟩, hC4⟩ := c_X4_unit (d := d - 1) (v := 0) (tp := kP c j 1) (h := kP c j 3) (by omega) hG hXs3.gd hS3 hj.2 hO3 hU3 (by omega) (fun x h9 => Nat.lt_of_le_of_lt (hsj x h9) hj.2) (by omega)
              refine zr_aload dX4_units_161 rfl ?_
              refine zr_iconst (v := 0) dX4_units_163 (by decide) ?_
              refine zr_aload dX4_units_164 rfl ?_
              refine zr_get (k := 28) (v := .int (kP c j 1)) in_X5 (hS3.bx hj.2) rfl (Nat.le_of_ble_eq_true rfl) q2149 (.inl rfl) rfl dX4_units_166 ?_
              refine zr_aload dX4_units_169 rfl ?_
              refine zr_get (k := 30) (v := .int (kP c j 3)) in_X5 (hS3.bx hj.2) rfl (Nat.le_of_ble_eq_true rfl) q2153 (.inl rfl) rfl dX4_units_171 ?_
              refine zr_aload_n dX4_units_174 rfl rfl ?_
              refine zr_aload_n dX4_units_175 rfl rfl ?_
              refine zr_callv (rest := []) (zs_S (As := [.ref (kA c (rB j)), .int 0, .int (kP c j 1), .int (kP c j 3), .ref ol, .ref ul]) (by omega) ok_X4_unit q2622 q2623 q77 q2624 rfl rfl (Nat.le_of_ble_eq_true rfl) dX4_units_176) hC4 ?_
              exact key (nUnit (s.1 ++ [j], s.2) j 0 (kP c j 1) (kP c j 3)) σ4 _ (by unfold nOne; rw [if_neg hk0, if_neg hnb, if_pos (Int32.not_le.mp h4)]) hO4 hU4 (Or.inr rfl) (by show (s.2 ++ [_]).length ≤ _; rw [List.length_append, List.length_singleton]; omega) hX4 (by omega)
          refine zr_aload dX4_units_122 rfl ?_
          refine zr_get (k := 1) (v := .int (kF c j 2)) in_X5 (hS3.bx hj.2) rfl (Nat.le_of_ble_eq_true rfl) q2095 (.inl rfl) rfl dX4_units_124 ?_
          refine zr_bipush (v := 98) dX4_units_127 (by decide) ?_
          refine zr_icmp_ne (tgt := 153) dX4_units_129 (by decide) (fun hk3 => ?_) (fun hk3 => ?_)
          · exact k153 (fun h => absurd h.1 (by first | exact hk3 | exact fun h9 => hk3 h9))
          · have hk98 : kF c j 2 = 98 := by first | exact hk3 | exact Decidable.not_not.mp hk3
            obtain ⟨fl_c, hflc⟩ := (hS3.chL hj.2).A
            refine zr_aload dX4_units_132 rfl ?_
            refine zr_get (k := 4) (v := .ref (kA c (rC j))) in_X5 (hS3.bx hj.2) rfl (Nat.le_of_ble_eq_true rfl) q2101 (.inl rfl) rfl dX4_units_134 ?_
            refine zr_call1 (rest := []) (zs_V (As := []) (by omega) ok_J2_isEmpty q2523 q1525 q2842 q56 q1527 rfl hflc rfl rfl rfl (Nat.le_of_ble_eq_true rfl) dX4_units_137) (c_J2_isEmpty (by omega) (hS3.chL hj.2)) ?_
            have hem : ((kCh c j).map (fun j => kA c (rB j))).isEmpty = (kCh c j).isEmpty := by cases kCh c j <;> rfl
            rw [hem]
            refine zr_ifneB (tgt := 153) dX4_units_140 (by decide) (fun h3 => ?_) (fun h3 => ?_)
            · exact k153 (fun h => h.2 (by cases hc : kCh c j with | nil => rfl | cons x y => rw [hc] at h3; cases h3))
            · have hne : kCh c j ≠ [] := fun e => by rw [e] at h3; cases h3
              obtain ⟨_, σ4, ⟨rfl, hO4, hU4, hs4, hl4, hX4⟩, hC4⟩ := hWK σ3 (s.1 ++ [j], s.2) j hXs3.gd hS3 hj.2 (by omega) hO3 hU3 hsj hslj (by show s.2.length + _ ≤ M; omega)
              refine zr_aload dX4_units_143 rfl ?_
              refine zr_aload_n dX4_units_145 rfl rfl ?_
              refine zr_aload_n dX4_units_146 rfl rfl ?_
              refine zr_callv (rest := []) (zs_S (As := [.ref (kA c (rB j)), .ref ol, .ref ul]) (by omega) ok_X4_units q2619 q2620 q77 q2621 rfl rfl (Nat.le_of_ble_eq_true rfl) dX4_units_147) hC4 ?_
              refine zr_goto (tgt := 179) dX4_units_150 (by decide) ?_
              exact key _ σ4 _ (by unfold nOne; rw [if_neg hk0, if_pos ⟨hk98, hne⟩]) hO4 hU4 hs4 hl4 hX4 (by omega)
        · have hk1 : kF c j 2 = 116 := by first | exact hk | exact Decidable.not_not.mp hk
          have hln := nLnU_len c j (List.range (kLn c j).length) (s.1 ++ [j], s.2)
          rw [List.length_range] at hln
          have htl : 1 + (kLn c j).length ≤ tsum c (uA c) f j := by
            cases f with
            | zero => omega
            | succ f => rw [tsum_succ]; exact Nat.le_add_right _ _
          have ht2 := Nat.mul_le_mul_right (160 + 2 * M) htl
          rw [Nat.add_mul] at ht2
          have ht3 : (kLn c j).length * (70 + 2 * M) ≤ (kLn c j).length * (160 + 2 * M) := Nat.mul_le_mul_left _ (by omega)
          refine zr_iconst (v := 0) dX4_units_64 (by decide) ?_
          refine zr_istore (ls2 := [(0, .ref (kA c (rB i))), (1, .ref ol), (2, .ref ul), (3, .ref it), (4, .ref (kA c (rB j))), (5, .int 0)]) dX4_units_65 (Nat.le_of_ble_eq_true rfl) rfl ?_
          refine l_X4_uln (σ := σ3) (M := M) (N := (kLn c j).length * (70 + 2 * M)) (by omega) hG hXs3.gd hS3 hj.2 hM _ 0 0 (s.1 ++ [j], s.2) σ3 rfl (Nat.zero_le _) (zX.rf _ hXs3.gd _) (by rw [List.drop_zero, List.length_range]; omega) hO3 hU3 (by show (s.1 ++ [j]).length ≤ 30; omega) (fun x h9 => Nat.lt_of_le_of_lt (hsj x h9) hj.2) (by rw [List.drop_zero, List.length_range]; show s.2.length + _ ≤ M; omega) (fun σ4 a1 a2 a3 => ?_)
          rw [List.drop_zero] at a1 a2
          exact key _ σ4 _ (by unfold nOne; rw [if_pos hk1]) a1 a2 hln.2 (by rw [hln.1]; show s.2.length + _ ≤ _; omega) a3 (by omega)
      · refine zr_goto (tgt := 8) dX4_units_44 (by decide) ?_
        refine zr_sub (ls2 := [(0, .ref (kA c (rB i))), (1, .ref ol), (2, .ref ul), (3, .ref it)]) [0, 1, 2, 3] rfl ?_
        have e9 : nKid c (nUs c f) s j = s := if_pos (Or.inr h2)
        rw [e9] at kQ
        exact ih (k + 1) _ _ s σ2 hy2 hkl hX2 (by omega) hO2 hU2 hso (by omega) hLM hI2 hT2 kQ
set_option maxHeartbeats 4000000 in
theorem c_X4_units {G : zG} {c : zCS} {th ct : Int32} {ol ul M : Nat} (hG : zOk G) (hM : M ≤ 900) : ∀ (f d : Nat), 30 + f ≤ d → HUS G c th ct ol ul M f d := by
  intro f
  induction f with
  | zero => intro d hd σ s i hw hS hi hf; omega
  | succ f ih =>
    intro d hd σ s i hw hS hi hf hO hU ho hol hL
    refine zCall_of (ls := [(0, .ref (kA c (rB i))), (1, .ref ol), (2, .ref ul)]) (by decide) (Nat.le_of_ble_eq_true rfl) rfl ?_
    have hle := hS.le
    obtain ⟨fl_c, hflc⟩ := (hS.chL hi).A
    have hX1 : zX G SU σ (sNew σ 0 (.inr (21, [.int 0, .int (-1), .int (kM c (rC i)), .ref (kA c (rC i))])) 4) 8 := zX.new SU hw 0 (by omega) _ 4
    have hX10 : zX G S0 σ (sNew σ 0 (.inr (21, [.int 0, .int (-1), .int (kM c (rC i)), .ref (kA c (rC i))])) 4) 8 := zX.new S0 hw 0 (by omega) _ 4
    have hts := tsum_succ c (uA c) f i
    have hua : uA c i = 1 + (kLn c i).length := rfl
    have htm : tsum c (uA c) (f + 1) i * (160 + 2 * M) = (uA c i) * (160 + 2 * M) + ((kCh c i).map (tsum c (uA c) f)).sum * (160 + 2 * M) := by rw [hts, Nat.add_mul]
    have hpu : 160 + 2 * M ≤ uA c i * (160 + 2 * M) := Nat.le_mul_of_pos_left _ (by omega)
    refine zr_aload_n dX4_units_0 rfl rfl ?_
    refine zr_get (k := 4) (v := .ref (kA c (rC i))) in_X5 (hS.bx hi) rfl (Nat.le_of_ble_eq_true rfl) q2101 (.inl rfl) rfl dX4_units_1 ?_
    refine zr_call1 (rest := []) (zs_V (As := []) (by omega) ok_J2_iterator q2322 q834 q2841 q56 q836 rfl hflc rfl rfl rfl (Nat.le_of_ble_eq_true rfl) dX4_units_4) (c_J2_iterator (by omega) hw.1 (hS.chL hi)) ?_
    refine zr_astore_n (ls2 := [(0, .ref (kA c (rB i))), (1, .ref ol), (2, .ref ul), (3, .ref (sZ σ))]) dX4_units_7 rfl (Nat.le_of_ble_eq_true rfl) rfl ?_
    refine l_X4_ukids (σ := σ) (f := f) (M := M) (o0 := s.1) (L := s.2.length + tsum c (uA c) (f + 1) i) (N := tsum c (uA c) (f + 1) i * (160 + 2 * M) - 80) (by omega) hG hw hS hi (by omega) (Nat.le_refl _) hM ho hol (ih (d - 1) (by omega)) _ 0 8 (-1) s _ rfl (Nat.zero_le _) hX1 (by rw [List.drop_zero]; omega) (hO.keep hw hX10 (fun h => h) (fun h => h)) (hU.keep hw hX10 (fun h => h) (fun h => h) (fun h => h) (fun h => h) (fun h => h)) (Or.inl rfl) (by rw [List.drop_zero]; omega) hL (sF_newS _ _ _ _) (sT_newS _ _ _ _) (fun σ2 h3 h4 h5 h6 x2 => ?_)
    rw [List.drop_zero] at h3 h4 h5 h6
    exact ⟨rfl, h3, h4, h5, h6, x2⟩
