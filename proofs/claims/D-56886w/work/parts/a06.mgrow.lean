/-! ===== the reference: items, grown (rows printed by tools/p106.py) ===== -/
theorem MSys.el {G : zG} {σ : zT} {c : zCS} {th ct : Int32} (h : MSys G σ c th ct) {i : Nat} (hi : i < kN c) : zEl G σ (kA c (rB i)) := ⟨_, _, _, _, _, h.bx hi, rfl, q2850⟩
/-- a sum of grow factors is small and not negative -/
theorem gSum_nn {c : zCS} (hK : KWf c) : ∀ (es : List Nat) (n : Nat), (∀ j, j ∈ es → j < kN c) → n + 9 * es.length ≤ 1000 → ∃ m, es.foldl (fun s j => s + kF c j 13) (nI n) = nI m ∧ m ≤ n + 9 * es.length := by
  intro es
  induction es with
  | nil => intro n _ _; exact ⟨n, rfl, Nat.le_refl _⟩
  | cons j es ih =>
    intro n he hn
    rw [List.length_cons] at hn
    have hv : btw (kF c j 13) 0 9 = true := (hK.2 j (he j (List.mem_cons_self ..))).2.2.2.2 13
    unfold btw at hv
    obtain ⟨h1, h2⟩ := (Bool.and_eq_true _ _).mp hv
    obtain ⟨x, hx, e⟩ := nI_of2 (nI_toInt (by omega)) (Int32.not_lt.mpr (of_decide_eq_true h1)) (show kF c j 13 ≤ nI 9 from of_decide_eq_true h2)
    obtain ⟨m, e2, hm⟩ := ih (n + x) (fun j hj => he j (List.mem_cons_of_mem _ hj)) (by omega)
    refine ⟨m, ?_, by rw [List.length_cons]; omega⟩
    rw [List.foldl_cons, e, nI_add]
    exact e2
theorem grow_0 {c : zCS} (hK : KWf c) {j : Nat} (hj : j < kN c) : kF c j 13 ≤ 0 ↔ kF c j 13 = 0 := by
  have hv : btw (kF c j 13) 0 9 = true := (hK.2 j hj).2.2.2.2 13
  unfold btw at hv
  have h1 : 0 ≤ kF c j 13 := of_decide_eq_true ((Bool.and_eq_true _ _).mp hv).1
  exact ⟨fun h => Int32.le_antisymm h h1, fun h => by rw [h]; exact Int32.le_refl _⟩
set_option maxHeartbeats 4000000 in
theorem l_X4_items {G : zG} {σ : zT} {d N : Nat} {c : zCS} {th ct : Int32} {i it l : Nat} {Q : zO → zT → Prop} (hd : 7 ≤ d) (hG : zOk G) (hw : zGd G σ) (hS : MSys G σ c th ct) (hi : i < kN c) (hit : sZ σ ≤ it) (hl : sZ σ ≤ l) : ∀ (ys : List Nat) (k n : Nat) (lr : Int32) (zs : List Nat) (mod : Int32) (σ1 : zT), (kCh c i).drop k = ys → k ≤ (kCh c i).length → zs.length ≤ k → (∀ j, j ∈ zs → j < kN c) → zX G S0 σ σ1 n → zL G σ1 (dT l) l mod (zs.map (fun j => kA c (rB j))) → n + 62 * ys.length ≤ N → sF σ1 it = some (.inr (21, [.int (nI k), .int lr, .int (kM c (rC i)), .ref (kA c (rC i))])) → sT σ1 it = 0 → (∀ σ2 mod2, zX G S0 σ σ2 N → zL G σ2 (dT l) l mod2 ((zs ++ ys.filter (fun j => !kLifted c j)).map (fun j => kA c (rB j))) → Q (.inl (some (.ref l))) σ2) → zR G yX4_items cX4_items 4 (Option.some (Jvm.ClassFile.FieldType.object "java/util/ArrayList")) [] d 16 [(0, .ref (kA c (rB i))), (1, .ref l), (2, .ref it)] [] σ1 Q := by
  intro ys
  induction ys with
  | nil =>
    intro k n lr zs mod σ1 hy hk hzk hzs hX hL hN hI hT kQ
    have hS1 := hS.keep0 hw hX
    have hkl := drop_nil hy hk
    refine zr_aload_n dX4_items_16 rfl rfl ?_
    refine zr_call51 (rest := []) (zs_F (As := []) (by omega) okF_J23_hasNext (by decide +kernel) q2324 q927 q929 q84 q931 (.new hI) rfl rfl rfl (Nat.le_of_ble_eq_true rfl) dX4_items_17) (c_hasNext0 (hS1.chL hi) hI (by rw [List.length_map]; exact hkl)) ?_
    refine zr_if_eq (tgt := 51) dX4_items_22 (by decide) (fun _ => ?_) (fun h9 => absurd (rfl) h9)
    refine zr_aload_n dX4_items_51 rfl rfl ?_
    exact zr_aret rfl (.inl ⟨_, rfl⟩) (.inr ⟨_, rfl⟩) dX4_items_52 (kQ σ1 mod (hX.le (by simpa using hN)) (by simpa using hL))
  | cons j ys ih =>
    intro k n lr zs mod σ1 hy hk hzk hzs hX hL hN hI hT kQ
    have hS1 := hS.keep0 hw hX
    obtain ⟨hx, hy2, hkl, hm⟩ := drop_cons hy
    obtain ⟨hij, hj⟩ := hS.ch hi hm
    have hchl := hS.chl hi
    have hX2 := hX.upN (gs := [.int (nI (k + 1)), .int (nI k), .int (kM c (rC i)), .ref (kA c (rC i))]) hI hit
    have hS2 := hS.keep0 hw hX2
    have hL2 := hL.upO (e := .inr (21, [.int (nI (k + 1)), .int (nI k), .int (kM c (rC i)), .ref (kA c (rC i))])) hI (by decide)
    have hI2 : sF (sUp σ1 it (.inr (21, [.int (nI (k + 1)), .int (nI k), .int (kM c (rC i)), .ref (kA c (rC i))]))) it = _ := sF_upS _ _ _
    have hT2 : sT (sUp σ1 it (.inr (21, [.int (nI (k + 1)), .int (nI k), .int (kM c (rC i)), .ref (kA c (rC i))]))) it = 0 := hT
    generalize hσ2 : sUp σ1 it (.inr (21, [.int (nI (k + 1)), .int (nI k), .int (kM c (rC i)), .ref (kA c (rC i))])) = σ2 at hX2 hS2 hL2 hI2 hT2
    rw [List.length_cons] at hN
    refine zr_aload_n dX4_items_16 rfl rfl ?_
    refine zr_call51 (rest := []) (zs_F (As := []) (by omega) okF_J23_hasNext (by decide +kernel) q2324 q927 q929 q84 q931 (.new hI) rfl rfl rfl (Nat.le_of_ble_eq_true rfl) dX4_items_17) (c_hasNext1 (hS1.chL hi) hI (by rw [List.length_map]; exact hkl)) ?_
    refine zr_if_eq (tgt := 51) dX4_items_22 (by decide) (fun h9 => absurd h9 (by decide)) (fun _ => ?_)
    refine zr_aload_n dX4_items_25 rfl rfl ?_
    refine zr_call51 (rest := []) (zs_F (As := []) (by omega) okF_J23_next (by decide +kernel) q2326 q1044 q1046 q84 q1048 (.new hI) rfl rfl rfl (Nat.le_of_ble_eq_true rfl) dX4_items_26) (c_J23_next (by omega) hG (hS1.chL hi) hI (map_at (fun j => kA c (rB j)) hx)) ?_
    rw [hσ2]
    refine zr_castS (hS2.bx hj) rfl q2084 dX4_items_31 ?_
    refine zr_astore_n (ls2 := [(0, .ref (kA c (rB i))), (1, .ref l), (2, .ref it), (3, .ref (kA c (rB j)))]) dX4_items_34 rfl (Nat.le_of_ble_eq_true rfl) rfl ?_
    refine zr_aload_n dX4_items_35 rfl rfl ?_
    refine zr_call1 (rest := []) (zs_V (As := []) (by omega) ok_X5_isLifted q2333 q2334 q2335 q78 q2336 rfl (hS2.bx hj) rfl rfl rfl (Nat.le_of_ble_eq_true rfl) dX4_items_36) (c_X5_isLifted hS2 hj) ?_
    refine zr_ifneB (tgt := 48) dX4_items_39 (by decide) (fun h => ?_) (fun h => ?_)
    · refine zr_goto (tgt := 16) dX4_items_48 (by decide) ?_
      refine zr_sub (ls2 := [(0, .ref (kA c (rB i))), (1, .ref l), (2, .ref it)]) [0, 1, 2] rfl ?_
      exact ih (k + 1) _ _ zs mod _ hy2 (by omega) (by omega) hzs hX2 hL2 (by omega) hI2 hT2 (fun σ4 m4 h4 l4 => kQ σ4 m4 h4 (by simpa [h] using l4))
    · refine zr_aload_n dX4_items_42 rfl rfl ?_
      refine zr_aload_n dX4_items_43 rfl rfl ?_
      obtain ⟨_, σ3, ⟨rfl, hL3, hX3⟩, hC⟩ := c_add (d := d - 1) (by omega) hG hX2.gd hL2 (by rw [List.length_map]; omega) (hS2.el hj) (fun y hy => by
        obtain ⟨z, hz, rfl⟩ := List.mem_map.mp hy
        exact hS2.el (hzs z hz))
      rw [List.length_map] at hX3
      have hX4 := zX.dyn hw hX2 hX3 (by unfold dT; omega)
      have hI3 := hX3.f hX2.gd hI2 (by rw [hT2]; unfold dT; omega)
      have hT3 : sT σ3 it = 0 := (hX3.t hX2.gd hI2).trans hT2
      obtain ⟨fl, hfl⟩ := hL2.A
      refine zr_call1 (rest := []) (zs_V (As := [.ref (kA c (rB j))]) (by omega) ok_J2_add q2217 q357 q2838 q56 q359 rfl hfl rfl rfl rfl (Nat.le_of_ble_eq_true rfl) dX4_items_44) hC ?_
      refine zr_pop dX4_items_47 rfl ?_
      refine zr_goto (tgt := 16) dX4_items_48 (by decide) ?_
      refine zr_sub (ls2 := [(0, .ref (kA c (rB i))), (1, .ref l), (2, .ref it)]) [0, 1, 2] rfl ?_
      refine ih (k + 1) _ _ (zs ++ [j]) _ _ hy2 (by omega) (by simp; omega) (fun z hz => ?_) hX4 (by simpa using hL3) (by omega) hI3 hT3 (fun σ4 m4 h4 l4 => kQ σ4 m4 h4 (by simpa [h] using l4))
      rcases List.mem_append.mp hz with h9 | h9
      · exact hzs z h9
      · rw [List.mem_singleton.mp h9]; exact hj
set_option maxHeartbeats 4000000 in
theorem c_X4_items {G : zG} {σ : zT} {d : Nat} {c : zCS} {th ct : Int32} {i : Nat} (hd : 8 ≤ d) (hG : zOk G) (hw : zGd G σ) (hS : MSys G σ c th ct) (hi : i < kN c) : zCall G I_X4_items d [.ref (kA c (rB i))] σ ((fun o σ' => ∃ l mod, o = .inl (some (.ref l)) ∧ sZ σ ≤ l ∧ zL G σ' (dT l) l mod ((kItemsOf c i).map (fun j => kA c (rB j))) ∧ zX G S0 σ σ' (15 + 62 * (kCh c i).length))) := by
  refine zCall_of (ls := [(0, .ref (kA c (rB i)))]) (by decide) (Nat.le_of_ble_eq_true rfl) rfl ?_
  refine zr_new (ci := 20) (dT (sZ σ)) zt_J2 q2082 q115 q56 rfl df_J2 dX4_items_0 ?_
  refine zr_dup dX4_items_3 rfl ?_
  refine zr_callv (rest := [.ref (sZ σ)]) (zs_I (As := []) (by omega) ok_J2_init q2083 q117 q56 q118 rfl rfl rfl (Nat.le_of_ble_eq_true rfl) dX4_items_4) (c_J2_init (by omega) hG (sF_newS _ _ _ _)) ?_
  rw [sNew_up]
  have hX1 := zX.new S0 hw (dT (sZ σ)) (by unfold dT; omega) (.inr (20, [.int 0, .ref (zc G 0), .int 0])) 3
  have hS1 := hS.keep0 hw hX1
  have hL1 : zL G (sNew σ (dT (sZ σ)) (.inr (20, [.int 0, .ref (zc G 0), .int 0])) 3) (dT (sZ σ)) (sZ σ) 0 [] := zL.mk σ (dT (sZ σ))
  have hz1 : sZ (sNew σ (dT (sZ σ)) (.inr (20, [.int 0, .ref (zc G 0), .int 0])) 3) = sZ σ + 1 := rfl
  generalize hσ1 : sNew σ (dT (sZ σ)) (.inr (20, [.int 0, .ref (zc G 0), .int 0])) 3 = σ1 at hX1 hS1 hL1 hz1 ⊢
  have hX2 := hX1.trans (zX.new S0 hX1.gd 0 (by omega) (.inr (21, [.int 0, .int (-1), .int (kM c (rC i)), .ref (kA c (rC i))])) 4)
  obtain ⟨fl1, hfl1⟩ := (hS1.chL hi).A
  refine zr_astore_n (ls2 := [(0, .ref (kA c (rB i))), (1, .ref (sZ σ))]) dX4_items_7 rfl (Nat.le_of_ble_eq_true rfl) rfl ?_
  refine zr_aload_n dX4_items_8 rfl rfl ?_
  refine zr_get (k := 4) (v := .ref (kA c (rC i))) in_X5 (hS1.bx hi) rfl (Nat.le_of_ble_eq_true rfl) q2101 (.inl rfl) rfl dX4_items_9 ?_
  refine zr_call1 (rest := []) (zs_V (As := []) (by omega) ok_J2_iterator q2322 q834 q2841 q56 q836 rfl hfl1 rfl rfl rfl (Nat.le_of_ble_eq_true rfl) dX4_items_12) (c_J2_iterator (by omega) hX1.gd.1 (hS1.chL hi)) ?_
  refine zr_astore_n (ls2 := [(0, .ref (kA c (rB i))), (1, .ref (sZ σ)), (2, .ref (sZ σ1))]) dX4_items_15 rfl (Nat.le_of_ble_eq_true rfl) rfl ?_
  exact l_X4_items (N := 15 + 62 * (kCh c i).length) (l := sZ σ) (it := sZ σ1) (by omega) hG hw hS hi (by omega) (Nat.le_refl _) (kCh c i) 0 _ _ [] 0 _ rfl (Nat.zero_le _) (Nat.le_refl _) (fun j hj => absurd hj List.not_mem_nil) hX2 (hL1.new hX1.gd.1 _ _ _) (by omega) (sF_newS _ _ _ _) (sT_newS _ _ _ _) (fun σ2 m2 h2 l2 => ⟨_, m2, rfl, Nat.le_refl _, l2, h2.le (by omega)⟩)
set_option maxHeartbeats 4000000 in
theorem l_X4_grown1 {G : zG} {σ : zT} {d : Nat} {c : zCS} {th ct : Int32} {tl l wa : Nat} {mod free : Int32} {es : List Nat} {g0 : Nat → Int32} {Q : zO → zT → Prop} (hd : 7 ≤ d) (hG : zOk G) (hw : zGd G σ) (hS : MSys G σ c th ct) (hL : zL G σ tl l mod (es.map (fun j => kA c (rB j)))) (hes : ∀ j, j ∈ es → j < kN c) (hel : es.length ≤ 24) (hA0 : zAt G σ wa (aI G es.length g0)) {it : Nat} (hit : sZ σ ≤ it) : ∀ (ys : List Nat) (k : Nat) (lr s : Int32) (σ1 : zT), es.drop k = ys → k ≤ es.length → zX G S0 σ σ1 8 → sF σ1 it = some (.inr (21, [.int (nI k), .int lr, .int mod, .ref l])) → (∀ σ2, zX G S0 σ σ2 8 → zR G yX4_grown cX4_grown 7 (Option.some (Jvm.ClassFile.FieldType.array Jvm.ClassFile.FieldType.int)) [] d 43 [(0, .ref l), (1, .ref wa), (2, .int free), (3, .int (ys.foldl (fun s j => s + kF c j 13) s))] [] σ2 Q) → zR G yX4_grown cX4_grown 7 (Option.some (Jvm.ClassFile.FieldType.array Jvm.ClassFile.FieldType.int)) [] d 10 [(0, .ref l), (1, .ref wa), (2, .int free), (3, .int s), (4, .ref it)] [] σ1 Q := by
  intro ys
  induction ys with
  | nil =>
    intro k lr s σ1 hy hk hX hI kQ
    have hL1 := hX.L hw hL (fun h => h) (fun h => h)
    have hkl := drop_nil hy hk
    refine zr_aload dX4_grown_10 rfl ?_
    refine zr_call51 (rest := []) (zs_F (As := []) (by omega) okF_J23_hasNext (by decide +kernel) q2324 q927 q929 q84 q931 (.new hI) rfl rfl rfl (Nat.le_of_ble_eq_true rfl) dX4_grown_12) (c_hasNext0 hL1 hI (by rw [List.length_map]; exact hkl)) ?_
    refine zr_if_eq (tgt := 43) dX4_grown_17 (by decide) (fun _ => ?_) (fun h9 => absurd (rfl) h9)
    refine zr_sub (ls2 := [(0, .ref l), (1, .ref wa), (2, .int free), (3, .int s)]) [0, 1, 2, 3] rfl ?_
    exact kQ σ1 hX
  | cons j ys ih =>
    intro k lr s σ1 hy hk hX hI kQ
    have hL1 := hX.L hw hL (fun h => h) (fun h => h)
    obtain ⟨hx, hy2, hkl, hm⟩ := drop_cons hy
    have hj := hes j hm
    have hX2 := hX.upN (gs := [.int (nI (k + 1)), .int (nI k), .int mod, .ref l]) hI hit
    have hI2 : sF (sUp σ1 it (.inr (21, [.int (nI (k + 1)), .int (nI k), .int mod, .ref l]))) it = _ := sF_upS _ _ _
    generalize hσ2 : sUp σ1 it (.inr (21, [.int (nI (k + 1)), .int (nI k), .int mod, .ref l])) = σ2 at hX2 hI2
    have hS2 := hS.keep0 hw hX2
    rw [List.foldl_cons] at kQ
    refine zr_aload dX4_grown_10 rfl ?_
    refine zr_call51 (rest := []) (zs_F (As := []) (by omega) okF_J23_hasNext (by decide +kernel) q2324 q927 q929 q84 q931 (.new hI) rfl rfl rfl (Nat.le_of_ble_eq_true rfl) dX4_grown_12) (c_hasNext1 hL1 hI (by rw [List.length_map]; exact hkl)) ?_
    refine zr_if_eq (tgt := 43) dX4_grown_17 (by decide) (fun h9 => absurd h9 (by decide)) (fun _ => ?_)
    refine zr_aload dX4_grown_20 rfl ?_
    refine zr_call51 (rest := []) (zs_F (As := []) (by omega) okF_J23_next (by decide +kernel) q2326 q1044 q1046 q84 q1048 (.new hI) rfl rfl rfl (Nat.le_of_ble_eq_true rfl) dX4_grown_22) (c_J23_next (by omega) hG hL1 hI (map_at (fun j => kA c (rB j)) hx)) ?_
    rw [hσ2]
    refine zr_castS (hS2.bx hj) rfl q2084 dX4_grown_27 ?_
    refine zr_astore (ls2 := [(0, .ref l), (1, .ref wa), (2, .int free), (3, .int s), (4, .ref it), (5, .ref (kA c (rB j)))]) dX4_grown_30 (Nat.le_of_ble_eq_true rfl) rfl ?_
    refine zr_iload_n dX4_grown_32 rfl rfl ?_
    refine zr_aload dX4_grown_33 rfl ?_
    refine zr_get (k := 14) (v := .int (kF c j 13)) in_X5 (hS2.bx hj) rfl (Nat.le_of_ble_eq_true rfl) q2121 (.inl rfl) rfl dX4_grown_35 ?_
    refine zr_iadd dX4_grown_38 ?_
    refine zr_istore_n (ls2 := [(0, .ref l), (1, .ref wa), (2, .int free), (3, .int (s + (kF c j 13))), (4, .ref it), (5, .ref (kA c (rB j)))]) dX4_grown_39 rfl (Nat.le_of_ble_eq_true rfl) rfl ?_
    refine zr_goto (tgt := 10) dX4_grown_40 (by decide) ?_
    refine zr_sub (ls2 := [(0, .ref l), (1, .ref wa), (2, .int free), (3, .int (s + (kF c j 13))), (4, .ref it)]) [0, 1, 2, 3, 4] rfl ?_
    exact ih (k + 1) _ _ _ hy2 (by omega) hX2 hI2 kQ
set_option maxHeartbeats 4000000 in
theorem l_X4_grown2 {G : zG} {σ : zT} {d : Nat} {c : zCS} {th ct : Int32} {tl l wa : Nat} {mod free : Int32} {es : List Nat} {g0 : Nat → Int32} {Q : zO → zT → Prop} (hd : 7 ≤ d) (hG : zOk G) (hw : zGd G σ) (hS : MSys G σ c th ct) (hL : zL G σ tl l mod (es.map (fun j => kA c (rB j)))) (hes : ∀ j, j ∈ es → j < kN c) (hel : es.length ≤ 24) (hA0 : zAt G σ wa (aI G es.length g0)) {s : Int32} (hs0 : ¬ s = 0) {wb n : Nat} (hwb : sZ σ ≤ wb) : ∀ (ys : List Nat) (k : Nat) (p : (Nat → Int32) × Int32) (σ1 : zT), es.drop k = ys → k ≤ es.length → zX G S0 σ σ1 n → sF σ1 wb = some (aI G es.length p.1) → sT σ1 wb = 0 → (∀ σ2 x, zX G S0 σ σ2 n → sF σ2 wb = some (aI G es.length ((nums ys k).foldl (gr1 c free s) p).1) → sT σ2 wb = 0 → zR G yX4_grown cX4_grown 7 (Option.some (Jvm.ClassFile.FieldType.array Jvm.ClassFile.FieldType.int)) [] d 127 [(0, .ref l), (1, .ref wa), (2, .int free), (3, .int s), (4, .ref wb), (5, .int ((nums ys k).foldl (gr1 c free s) p).2), (6, .int x)] [] σ2 Q) → zR G yX4_grown cX4_grown 7 (Option.some (Jvm.ClassFile.FieldType.array Jvm.ClassFile.FieldType.int)) [] d 65 [(0, .ref l), (1, .ref wa), (2, .int free), (3, .int s), (4, .ref wb), (5, .int p.2), (6, .int (nI k))] [] σ1 Q := by
  intro ys
  induction ys with
  | nil =>
    intro k p σ1 hy hk hX hA hT kQ
    have hA1 := hX.at hw hA0 (fun h => h)
    have hkl := drop_nil hy hk
    refine zr_iload dX4_grown_65 rfl ?_
    refine zr_aload_n dX4_grown_67 rfl rfl ?_
    refine zr_alenI (v := nI es.length) hA1 rfl dX4_grown_68 ?_
    refine zr_icmp_ge (tgt := 127) dX4_grown_69 (by decide) (fun _ => ?_) (fun h9 => absurd (by rw [hkl]; exact Int32.le_refl _) h9)
    exact kQ σ1 _ hX hA hT
  | cons j ys ih =>
    intro k p σ1 hy hk hX hA hT kQ
    have hA1 := hX.at hw hA0 (fun h => h)
    obtain ⟨hx, hy2, hkl, hm⟩ := drop_cons hy
    have hj := hes j hm
    have hS1 := hS.keep0 hw hX
    have hL1 := hX.L hw hL (fun h => h) (fun h => h)
    obtain ⟨fl, hfl⟩ := hL1.A
    have hfold : ∀ p, List.foldl (gr1 c free s) p (nums (j :: ys) k) = (nums ys (k + 1)).foldl (gr1 c free s) (gr1 c free s p (k, j)) := fun _ => rfl
    simp only [hfold] at kQ
    refine zr_iload dX4_grown_65 rfl ?_
    refine zr_aload_n dX4_grown_67 rfl rfl ?_
    refine zr_alenI (v := nI es.length) hA1 rfl dX4_grown_68 ?_
    refine zr_icmp_ge (tgt := 127) dX4_grown_69 (by decide) (fun h9 => absurd h9 (Int32.not_le.mpr ((nI_ltI (by omega) (by omega)).mpr hkl))) (fun _ => ?_)
    refine zr_aload dX4_grown_72 rfl ?_
    refine zr_iload dX4_grown_74 rfl ?_
    refine zr_dup2 dX4_grown_76 rfl rfl ?_
    refine zr_iald (v := .int (p.1 k)) (.new hA) (vp_in_nI (by omega) (by omega)) (by rw [nI_clamp (by omega)]) dX4_grown_77 ?_
    refine zr_iload_n dX4_grown_78 rfl rfl ?_
    refine zr_aload_n dX4_grown_79 rfl rfl ?_
    refine zr_iload dX4_grown_80 rfl ?_
    refine zr_call51 (rest := [.int free, .int (p.1 k), .int (nI k), .ref wb]) (zs_F (As := [.int (nI k)]) (by omega) okF_J2_get (by decide +kernel) q2390 q1106 q959 q56 q960 hfl rfl rfl rfl (Nat.le_of_ble_eq_true rfl) dX4_grown_82) (c_J2_get (by omega) hG hL1 (map_at (fun j => kA c (rB j)) hx)) ?_
    refine zr_castS (hS1.bx hj) rfl q2084 dX4_grown_87 ?_
    refine zr_get (k := 14) (v := .int (kF c j 13)) in_X5 (hS1.bx hj) rfl (Nat.le_of_ble_eq_true rfl) q2121 (.inl rfl) rfl dX4_grown_90 ?_
    refine zr_imul dX4_grown_93 ?_
    refine zr_iload_n dX4_grown_94 rfl rfl ?_
    refine zr_idiv dX4_grown_95 hs0 ?_
    refine zr_iadd dX4_grown_96 ?_
    refine zr_iast (f2 := (gr1 c free s p (k, j)).1) hA (vp_in_nI (by omega) (by omega)) (by rw [nI_clamp (by omega)]; rfl) dX4_grown_97 ?_
    have hX2 := hX.upNA (A2 := (zA G 0, (es.length, .inl (gr1 c free s p (k, j)).1))) hA hwb
    have hA2 : sF (sUp σ1 wb (aI G es.length (gr1 c free s p (k, j)).1)) wb = some (aI G es.length (gr1 c free s p (k, j)).1) := sF_upS _ _ _
    have hX2 : zX G S0 σ (sUp σ1 wb (aI G es.length (gr1 c free s p (k, j)).1)) n := hX2
    have hT2 : sT (sUp σ1 wb (aI G es.length (gr1 c free s p (k, j)).1)) wb = 0 := hT
    generalize hσ2 : sUp σ1 wb (aI G es.length (gr1 c free s p (k, j)).1) = σ2 at hX2 hA2 hT2 ⊢
    have hS2 := hS.keep0 hw hX2
    have hL2 := hX2.L hw hL (fun h => h) (fun h => h)
    obtain ⟨fl2, hfl2⟩ := hL2.A
    refine zr_iload dX4_grown_98 rfl ?_
    refine zr_iload_n dX4_grown_100 rfl rfl ?_
    refine zr_aload_n dX4_grown_101 rfl rfl ?_
    refine zr_iload dX4_grown_102 rfl ?_
    refine zr_call51 (rest := [.int free, .int p.2]) (zs_F (As := [.int (nI k)]) (by omega) okF_J2_get (by decide +kernel) q2390 q1106 q959 q56 q960 hfl2 rfl rfl rfl (Nat.le_of_ble_eq_true rfl) dX4_grown_104) (c_J2_get (by omega) hG hL2 (map_at (fun j => kA c (rB j)) hx)) ?_
    refine zr_castS (hS2.bx hj) rfl q2084 dX4_grown_109 ?_
    refine zr_get (k := 14) (v := .int (kF c j 13)) in_X5 (hS2.bx hj) rfl (Nat.le_of_ble_eq_true rfl) q2121 (.inl rfl) rfl dX4_grown_112 ?_
    refine zr_imul dX4_grown_115 ?_
    refine zr_iload_n dX4_grown_116 rfl rfl ?_
    refine zr_idiv dX4_grown_117 hs0 ?_
    refine zr_isub dX4_grown_118 ?_
    refine zr_istore (ls2 := [(0, .ref l), (1, .ref wa), (2, .int free), (3, .int s), (4, .ref wb), (5, .int (p.2 - (free * kF c j 13 / s))), (6, .int (nI k))]) dX4_grown_119 (Nat.le_of_ble_eq_true rfl) rfl ?_
    refine zr_iinc (v := (nI k + 1)) (ls2 := [(0, .ref l), (1, .ref wa), (2, .int free), (3, .int s), (4, .ref wb), (5, .int (p.2 - (free * kF c j 13 / s))), (6, .int (nI k + 1))]) dX4_grown_121 rfl rfl (Nat.le_of_ble_eq_true rfl) rfl ?_
    rw [show nI k + 1 = nI (k + 1) from nI_1 k]
    refine zr_goto (tgt := 65) dX4_grown_124 (by decide) ?_
    exact ih (k + 1) (gr1 c free s p (k, j)) _ hy2 (by omega) hX2 hA2 hT2 kQ
set_option maxHeartbeats 4000000 in
theorem l_X4_grown3 {G : zG} {σ : zT} {d : Nat} {c : zCS} {th ct : Int32} {tl l wa : Nat} {mod free : Int32} {es : List Nat} {g0 : Nat → Int32} {Q : zO → zT → Prop} (hd : 7 ≤ d) (hG : zOk G) (hw : zGd G σ) (hS : MSys G σ c th ct) (hL : zL G σ tl l mod (es.map (fun j => kA c (rB j)))) (hes : ∀ j, j ∈ es → j < kN c) (hel : es.length ≤ 24) (hA0 : zAt G σ wa (aI G es.length g0)) {s : Int32} {wb n : Nat} (hwb : sZ σ ≤ wb) : ∀ (ys : List Nat) (k : Nat) (p : (Nat → Int32) × Int32) (σ1 : zT), es.drop k = ys → k ≤ es.length → zX G S0 σ σ1 n → sF σ1 wb = some (aI G es.length p.1) → sT σ1 wb = 0 → (∀ σ2 x, zX G S0 σ σ2 n → sF σ2 wb = some (aI G es.length ((nums ys k).foldl (gr2 c) p).1) → sT σ2 wb = 0 → zR G yX4_grown cX4_grown 7 (Option.some (Jvm.ClassFile.FieldType.array Jvm.ClassFile.FieldType.int)) [] d 180 [(0, .ref l), (1, .ref wa), (2, .int free), (3, .int s), (4, .ref wb), (5, .int ((nums ys k).foldl (gr2 c) p).2), (6, .int x)] [] σ2 Q) → zR G yX4_grown cX4_grown 7 (Option.some (Jvm.ClassFile.FieldType.array Jvm.ClassFile.FieldType.int)) [] d 130 [(0, .ref l), (1, .ref wa), (2, .int free), (3, .int s), (4, .ref wb), (5, .int p.2), (6, .int (nI k))] [] σ1 Q := by
  intro ys
  induction ys with
  | nil =>
    intro k p σ1 hy hk hX hA hT kQ
    have hA1 := hX.at hw hA0 (fun h => h)
    have hkl := drop_nil hy hk
    refine zr_iload dX4_grown_130 rfl ?_
    refine zr_aload_n dX4_grown_132 rfl rfl ?_
    refine zr_alenI (v := nI es.length) hA1 rfl dX4_grown_133 ?_
    refine zr_icmp_ge (tgt := 180) dX4_grown_134 (by decide) (fun _ => ?_) (fun h9 => absurd (by rw [hkl]; exact Int32.le_refl _) h9)
    exact kQ σ1 _ hX hA hT
  | cons j ys ih =>
    intro k p σ1 hy hk hX hA hT kQ
    have hA1 := hX.at hw hA0 (fun h => h)
    obtain ⟨hx, hy2, hkl, hm⟩ := drop_cons hy
    have hj := hes j hm
    have hS1 := hS.keep0 hw hX
    have hL1 := hX.L hw hL (fun h => h) (fun h => h)
    obtain ⟨fl, hfl⟩ := hL1.A
    have hfold : ∀ p, List.foldl (gr2 c) p (nums (j :: ys) k) = (nums ys (k + 1)).foldl (gr2 c) (gr2 c p (k, j)) := fun _ => rfl
    simp only [hfold] at kQ
    refine zr_iload dX4_grown_130 rfl ?_
    refine zr_aload_n dX4_grown_132 rfl rfl ?_
    refine zr_alenI (v := nI es.length) hA1 rfl dX4_grown_133 ?_
    refine zr_icmp_ge (tgt := 180) dX4_grown_134 (by decide) (fun h9 => absurd h9 (Int32.not_le.mpr ((nI_ltI (by omega) (by omega)).mpr hkl))) (fun _ => ?_)
    refine zr_iload dX4_grown_137 rfl ?_
    refine zr_if_le (tgt := 180) dX4_grown_139 (by decide) (fun h1 => ?_) (fun h1 => ?_)
    · have e9 : (nums ys (k + 1)).foldl (gr2 c) (gr2 c p (k, j)) = p := by rw [show gr2 c p (k, j) = p from if_pos h1]; exact gr2_stop c _ p h1
      rw [e9] at kQ
      exact kQ σ1 (nI k) hX hA hT
    · refine zr_aload_n dX4_grown_142 rfl rfl ?_
      refine zr_iload dX4_grown_143 rfl ?_
      refine zr_call51 (rest := []) (zs_F (As := [.int (nI k)]) (by omega) okF_J2_get (by decide +kernel) q2390 q1106 q959 q56 q960 hfl rfl rfl rfl (Nat.le_of_ble_eq_true rfl) dX4_grown_145) (c_J2_get (by omega) hG hL1 (map_at (fun j => kA c (rB j)) hx)) ?_
      refine zr_castS (hS1.bx hj) rfl q2084 dX4_grown_150 ?_
      refine zr_get (k := 14) (v := .int (kF c j 13)) in_X5 (hS1.bx hj) rfl (Nat.le_of_ble_eq_true rfl) q2121 (.inl rfl) rfl dX4_grown_153 ?_
      refine zr_if_ne (tgt := 162) dX4_grown_156 (by decide) (fun h2 => ?_) (fun h2 => ?_)
      · have e9 : gr2 c p (k, j) = (upd p.1 k (p.1 k + 1), p.2 + (-1)) := by unfold gr2; rw [if_neg h1, if_neg (fun h => h2 ((grow_0 hS.k hj).mp h))]
        rw [e9] at kQ
        refine zr_aload dX4_grown_162 rfl ?_
        refine zr_iload dX4_grown_164 rfl ?_
        refine zr_dup2 dX4_grown_166 rfl rfl ?_
        refine zr_iald (v := .int (p.1 k)) (.new hA) (vp_in_nI (by omega) (by omega)) (by rw [nI_clamp (by omega)]) dX4_grown_167 ?_
        refine zr_iconst (v := 1) dX4_grown_168 (by decide) ?_
        refine zr_iadd dX4_grown_169 ?_
        refine zr_iast (f2 := upd p.1 k (p.1 k + 1)) hA (vp_in_nI (by omega) (by omega)) (by rw [nI_clamp (by omega)]) dX4_grown_170 ?_
        refine zr_iinc (v := (p.2 + (-1))) (ls2 := [(0, .ref l), (1, .ref wa), (2, .int free), (3, .int s), (4, .ref wb), (5, .int (p.2 + (-1))), (6, .int (nI k))]) dX4_grown_171 rfl rfl (Nat.le_of_ble_eq_true rfl) rfl ?_
        refine zr_iinc (v := (nI k + 1)) (ls2 := [(0, .ref l), (1, .ref wa), (2, .int free), (3, .int s), (4, .ref wb), (5, .int (p.2 + (-1))), (6, .int (nI k + 1))]) dX4_grown_174 rfl rfl (Nat.le_of_ble_eq_true rfl) rfl ?_
        rw [show nI k + 1 = nI (k + 1) from nI_1 k]
        refine zr_goto (tgt := 130) dX4_grown_177 (by decide) ?_
        exact ih (k + 1) (upd p.1 k (p.1 k + 1), p.2 + (-1)) _ hy2 (by omega) (hX.upNA hA hwb) (sF_upS _ _ _) hT kQ
      · have e9 : gr2 c p (k, j) = p := by unfold gr2; rw [if_neg h1, if_pos ((grow_0 hS.k hj).mpr (by first | exact h2 | exact Decidable.not_not.mp h2))]
        rw [e9] at kQ
        refine zr_goto (tgt := 174) dX4_grown_159 (by decide) ?_
        refine zr_iinc (v := (nI k + 1)) (ls2 := [(0, .ref l), (1, .ref wa), (2, .int free), (3, .int s), (4, .ref wb), (5, .int p.2), (6, .int (nI k + 1))]) dX4_grown_174 rfl rfl (Nat.le_of_ble_eq_true rfl) rfl ?_
        rw [show nI k + 1 = nI (k + 1) from nI_1 k]
        refine zr_goto (tgt := 130) dX4_grown_177 (by decide) ?_
        exact ih (k + 1) p σ1 hy2 (by omega) hX hA hT kQ
set_option maxHeartbeats 4000000 in
theorem c_X4_grown {G : zG} {σ : zT} {d : Nat} {c : zCS} {th ct : Int32} {tl l wa : Nat} {mod free : Int32} {es : List Nat} {g0 : Nat → Int32} (hd : 9 ≤ d) (hG : zOk G) (hw : zGd G σ) (hS : MSys G σ c th ct) (hL : zL G σ tl l mod (es.map (fun j => kA c (rB j)))) (hes : ∀ j, j ∈ es → j < kN c) (hel : es.length ≤ 24) (hA0 : zAt G σ wa (aI G es.length g0)) : zCall G I_X4_grown d [.ref l, .ref wa, .int free] σ ((fun o σ' => ∃ wb, o = .inl (some (.ref wb)) ∧ sZ σ ≤ wb ∧ sF σ' wb = some (aI G es.length (cGrow c es free g0)) ∧ sT σ' wb = 0 ∧ zX G S0 σ σ' (12 + es.length))) := by
  refine zCall_of (ls := [(0, .ref l), (1, .ref wa), (2, .int free)]) (by decide) (Nat.le_of_ble_eq_true rfl) rfl ?_
  obtain ⟨fl, hfl⟩ := hL.A
  have hgn := gSum_nn hS.k es 0 hes (by omega)
  refine zr_iconst (v := 0) dX4_grown_0 (by decide) ?_
  refine zr_istore_n (ls2 := [(0, .ref l), (1, .ref wa), (2, .int free), (3, .int 0)]) dX4_grown_1 rfl (Nat.le_of_ble_eq_true rfl) rfl ?_
  refine zr_aload_n dX4_grown_2 rfl rfl ?_
  refine zr_call51 (rest := []) (zs_F (As := []) (by omega) okF_J2_iterator (by decide +kernel) q2400 q832 q834 q56 q836 hfl rfl rfl rfl (Nat.le_of_ble_eq_true rfl) dX4_grown_3) (c_J2_iterator (by omega) hw.1 hL) ?_
  refine zr_astore (ls2 := [(0, .ref l), (1, .ref wa), (2, .int free), (3, .int 0), (4, .ref (sZ σ))]) dX4_grown_8 (Nat.le_of_ble_eq_true rfl) rfl ?_
  refine l_X4_grown1 (free := free) (it := sZ σ) (by omega) hG hw hS hL hes hel hA0 (Nat.le_refl _) es 0 _ _ _ rfl (Nat.zero_le _) (zX.new _ hw _ (by omega) _ _) (sF_newS _ _ _ _) (fun σ1 hX1 => ?_)
  have hA1 := hX1.at hw hA0 (fun h => h)
  show zR G yX4_grown cX4_grown 7 (Option.some (Jvm.ClassFile.FieldType.array Jvm.ClassFile.FieldType.int)) [] d 43 [(0, .ref l), (1, .ref wa), (2, .int free), (3, .int (gSum c es))] [] σ1 _
  refine zr_aload_n dX4_grown_43 rfl rfl ?_
  refine zr_cloneI 0 (by omega) hA1 q2507 q2508 q568 q569 q2509 q2510 (Nat.le_of_ble_eq_true rfl) dX4_grown_44 ?_
  have hXn := zX.new S0 hX1.gd 0 (by omega) (aI G es.length g0) es.length
  have hA2 : sF (sNew σ1 0 (aI G es.length g0) es.length) (sZ σ1) = some (aI G es.length g0) := sF_newS _ _ _ _
  have hT2 : sT (sNew σ1 0 (aI G es.length g0) es.length) (sZ σ1) = 0 := sT_newS _ _ _ _
  generalize hσ2 : sNew σ1 0 (aI G es.length g0) es.length = σ2 at hXn hA2 hT2 ⊢
  obtain ⟨wb, hwb9⟩ : ∃ z, z = sZ σ1 := ⟨_, rfl⟩
  have hwb : sZ σ ≤ wb := by have := hX1.sz; omega
  rw [← hwb9] at hA2 hT2 ⊢
  have hX2 : zX G S0 σ σ2 (12 + es.length) := (hX1.trans hXn).le (by omega)
  refine zr_castI (.new hA2) q2511 dX4_grown_47 ?_
  refine zr_astore (ls2 := [(0, .ref l), (1, .ref wa), (2, .int free), (3, .int (gSum c es)), (4, .ref wb)]) dX4_grown_50 (Nat.le_of_ble_eq_true rfl) rfl ?_
  refine zr_iload_n dX4_grown_52 rfl rfl ?_
  refine zr_if_ne (tgt := 59) dX4_grown_53 (by decide) (fun h0 => ?_) (fun h0 => ?_)
  · have hpos : ¬ gSum c es ≤ 0 := by
      obtain ⟨m, e, hm⟩ := hgn
      intro h
      apply h0
      refine Int32.le_antisymm h ?_
      show (0 : Int32) ≤ es.foldl (fun s j => s + kF c j 13) (nI 0)
      rw [e]
      exact nI_pos' (by omega)
    have eg : cGrow1 c es free g0 = (nums es 0).foldl (gr1 c free (gSum c es)) (g0, free) := by unfold cGrow1; rw [if_neg hpos, if_neg h0]
    refine zr_iload_n dX4_grown_59 rfl rfl ?_
    refine zr_istore (ls2 := [(0, .ref l), (1, .ref wa), (2, .int free), (3, .int (gSum c es)), (4, .ref wb), (5, .int free)]) dX4_grown_60 (Nat.le_of_ble_eq_true rfl) rfl ?_
    refine zr_iconst (v := 0) dX4_grown_62 (by decide) ?_
    refine zr_istore (ls2 := [(0, .ref l), (1, .ref wa), (2, .int free), (3, .int (gSum c es)), (4, .ref wb), (5, .int free), (6, .int 0)]) dX4_grown_63 (Nat.le_of_ble_eq_true rfl) rfl ?_
    refine l_X4_grown2 (n := 12 + es.length) (by omega) hG hw hS hL hes hel hA0 h0 hwb es 0 (g0, free) σ2 rfl (Nat.zero_le _) hX2 hA2 hT2 (fun σ3 x3 hX3 hA3 hT3 => ?_)
    rw [← eg] at hA3 ⊢
    refine zr_iconst (v := 0) dX4_grown_127 (by decide) ?_
    refine zr_istore (ls2 := [(0, .ref l), (1, .ref wa), (2, .int free), (3, .int (gSum c es)), (4, .ref wb), (5, .int (cGrow1 c es free g0).2), (6, .int 0)]) dX4_grown_128 (Nat.le_of_ble_eq_true rfl) rfl ?_
    refine l_X4_grown3 (n := 12 + es.length) (by omega) hG hw hS hL hes hel hA0 hwb es 0 (cGrow1 c es free g0) σ3 rfl (Nat.zero_le _) hX3 hA3 hT3 (fun σ4 x4 hX4 hA4 hT4 => ?_)
    refine zr_aload dX4_grown_180 rfl ?_
    exact zr_aret rfl (.inr ⟨_, rfl⟩) (.inr ⟨_, rfl⟩) dX4_grown_182 (⟨wb, rfl, hwb, hA4, hT4, hX4⟩)
  · have h0' : gSum c es = 0 := by first | exact h0 | exact Decidable.not_not.mp h0
    have e9 : cGrow c es free g0 = g0 := by
      unfold cGrow cGrow1
      rw [if_pos (by rw [h0']; exact Int32.le_refl _), if_pos h0', gr2_stop c _ _ (Int32.le_refl _)]
    refine zr_aload dX4_grown_56 rfl ?_
    exact zr_aret rfl (.inr ⟨_, rfl⟩) (.inr ⟨_, rfl⟩) dX4_grown_58 (⟨wb, rfl, hwb, by rw [e9]; exact hA2, hT2, hX2⟩)
