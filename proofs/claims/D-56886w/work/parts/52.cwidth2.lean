/-! ===== the component: widths of blocks, rows, grids (rows printed by tools/p52.py) ===== -/
/-- the tag of a list made at l for a while -/
def dT (l : Nat) : Nat := 10000 + 2 * l
theorem zX.dyn {G : zG} {S : Nat → Prop} {σ σ1 σ2 : zT} {n m t : Nat} (hw : zGd G σ) (h : zX G S σ σ1 n) (h2 : zX G (fun s => s = t ∨ s = t + 1) σ1 σ2 m) (ht : 10000 + 2 * sZ σ ≤ t) : zX G S σ σ2 (n + m) :=
  ⟨⟨Nat.le_trans h.1.1 h2.1.1, fun a ha => by
    have a1 := h.1.2 a ha
    have a2 := h2.1.2 a (Nat.lt_of_lt_of_le ha h.1.1)
    have a3 := hw.2.2.2 a ha
    exact ⟨a2.1.trans a1.1, fun hs => (a2.2 (by rw [a1.1]; omega)).trans (a1.2 hs)⟩⟩, h2.2.1, h.2.2.1.trans h2.2.2.1, by have := h.2.2.2; have := h2.2.2.2; omega⟩
theorem zL.A {G : zG} {σ : zT} {t l : Nat} {mod : Int32} {xs : List Nat} (h : zL G σ t l mod xs) : ∃ fs, zAt G σ l (.inr (20, fs)) := by
  obtain ⟨arr, cap, f, h1, -⟩ := h
  exact ⟨_, .new h1⟩

set_option maxHeartbeats 4000000 in
theorem l_X1_blockWidth {G : zG} {σ : zT} {d f N : Nat} {c : zCS} {i it : Nat} {least : Bool} {Q : zO → zT → Prop} (hd : 6 ≤ d) (hG : zOk G) (hw : zGd G σ) (hS : CSys G σ c) (hi : i < kN c) (hf : kN c ≤ f + 1 + i) (hCW : ∀ (σ : zT) (j : Nat), zGd G σ → CSys G σ c → j < kN c → kN c ≤ f + j → zCall G I_X1_contentWidth (d - 1) [.ref (kA c (rB j)), .int (bI least)] σ (fun o σ' => o = .inl (some (.int (cCW f c j least))) ∧ zX G S0 σ σ' (KW f c j))) (hit : sZ σ ≤ it) : ∀ (ys : List Nat) (k n : Nat) (lr : Int32) (w : Int32) (σ1 : zT), (kCh c i).drop k = ys → k ≤ (kCh c i).length → zX G S0 σ σ1 n → n + (ys.map (fun j => KW f c j)).sum ≤ N → sF σ1 it = some (.inr (21, [.int (nI k), .int lr, .int (kM c (rC i)), .ref (kA c (rC i))])) → (∀ σ2, zX G S0 σ σ2 N → Q (.inl (some (.int (ys.foldl (fun w j => if kLifted c j = true then w else imax w (cCW f c j least + kSides c j)) w)))) σ2) → zR G yX1_blockWidth cX1_blockWidth 5 (Option.some Jvm.ClassFile.FieldType.int) [] d 12 [(0, .ref (kA c (rB i))), (1, .int (bI least)), (2, .int w), (3, .ref it)] [] σ1 Q := by
  intro ys
  induction ys with
  | nil =>
    intro k n lr w σ1 hy hk hX hN hI kQ
    have hS1 := hS.keep0 hw hX
    have hkl := drop_nil hy hk
    refine zr_aload_n dX1_blockWidth_12 rfl rfl ?_
    refine zr_call51 (rest := []) (zs_F (As := []) (by omega) okF_J23_hasNext (by decide +kernel) q916 q927 q929 q84 q931 (.new hI) rfl rfl rfl (Nat.le_of_ble_eq_true rfl) dX1_blockWidth_13) (c_hasNext0 (hS1.chL hi) hI (by rw [List.length_map]; exact hkl)) ?_
    refine zr_if_eq (tgt := 64) dX1_blockWidth_18 (by decide) (fun _ => ?_) (fun h9 => absurd (rfl) h9)
    refine zr_iload_n dX1_blockWidth_64 rfl rfl ?_
    exact zr_iret rfl rfl dX1_blockWidth_65 (kQ σ1 (hX.le (by simpa using hN)))
  | cons j ys ih =>
    intro k n lr w σ1 hy hk hX hN hI kQ
    have hS1 := hS.keep0 hw hX
    obtain ⟨hx, hy2, hkl, hm⟩ := drop_cons hy
    obtain ⟨hij, hj⟩ := hS.ch hi hm
    have hX2 := hX.upN (gs := [.int (nI (k + 1)), .int (nI k), .int (kM c (rC i)), .ref (kA c (rC i))]) hI hit
    have hS2 := hS.keep0 hw hX2
    rw [List.map_cons, List.sum_cons] at hN
    refine zr_aload_n dX1_blockWidth_12 rfl rfl ?_
    refine zr_call51 (rest := []) (zs_F (As := []) (by omega) okF_J23_hasNext (by decide +kernel) q916 q927 q929 q84 q931 (.new hI) rfl rfl rfl (Nat.le_of_ble_eq_true rfl) dX1_blockWidth_13) (c_hasNext1 (hS1.chL hi) hI (by rw [List.length_map]; exact hkl)) ?_
    refine zr_if_eq (tgt := 64) dX1_blockWidth_18 (by decide) (fun h9 => absurd h9 (by decide)) (fun _ => ?_)
    refine zr_aload_n dX1_blockWidth_21 rfl rfl ?_
    refine zr_call51 (rest := []) (zs_F (As := []) (by omega) okF_J23_next (by decide +kernel) q942 q1044 q1046 q84 q1048 (.new hI) rfl rfl rfl (Nat.le_of_ble_eq_true rfl) dX1_blockWidth_22) (c_J23_next (by omega) hG (hS1.chL hi) hI (map_at (fun j => kA c (rB j)) hx)) ?_
    refine zr_castS (hS2.bx hj) rfl q151 dX1_blockWidth_27 ?_
    refine zr_astore (ls2 := [(0, .ref (kA c (rB i))), (1, .int (bI least)), (2, .int w), (3, .ref it), (4, .ref (kA c (rB j)))]) dX1_blockWidth_30 (Nat.le_of_ble_eq_true rfl) rfl ?_
    refine zr_aload dX1_blockWidth_32 rfl ?_
    refine zr_call1 (rest := []) (zs_V (As := []) (by omega) ok_X2_isLifted q1124 q1125 q1126 q57 q1127 rfl (hS2.bx hj) rfl rfl rfl (Nat.le_of_ble_eq_true rfl) dX1_blockWidth_34) (c_X2_isLifted (by omega) hS2 hj) ?_
    refine zr_ifeqB (tgt := 44) dX1_blockWidth_37 (by decide) (fun h => ?_) (fun h => ?_)
    · refine zr_iload_n dX1_blockWidth_44 rfl rfl ?_
      refine zr_aload dX1_blockWidth_45 rfl ?_
      refine zr_iload_n dX1_blockWidth_47 rfl rfl ?_
      obtain ⟨_, σ3, ⟨rfl, hX3⟩, hC⟩ := hCW _ j hX2.gd hS2 hj (by omega)
      have hX4 := hX2.trans hX3
      have hS3 := hS.keep0 hw hX4
      have hI3 := hX3.f hX2.gd (sF_upS _ _ _) (fun h => h)
      refine zr_call1 (rest := [.int w]) (zs_S (As := [.ref (kA c (rB j)), .int (bI least)]) (by omega) ok_X1_contentWidth q1162 q1140 q53 q1141 rfl rfl (Nat.le_of_ble_eq_true rfl) dX1_blockWidth_48) hC ?_
      refine zr_aload dX1_blockWidth_51 rfl ?_
      refine zr_call1 (rest := [.int (cCW f c j least), .int w]) (zs_V (As := []) (by omega) ok_X2_sides q1163 q1164 q1165 q57 q1166 rfl (hS3.bx hj) rfl rfl rfl (Nat.le_of_ble_eq_true rfl) dX1_blockWidth_53) (c_X2_sides (by omega) hS3 hj) ?_
      refine zr_iadd dX1_blockWidth_56 ?_
      refine zr_max (by omega) q1158 q376 q60 q377 (Nat.le_of_ble_eq_true rfl) dX1_blockWidth_57 ?_
      refine zr_istore_n (ls2 := [(0, .ref (kA c (rB i))), (1, .int (bI least)), (2, .int (imax w ((cCW f c j least) + (kSides c j)))), (3, .ref it), (4, .ref (kA c (rB j)))]) dX1_blockWidth_60 rfl (Nat.le_of_ble_eq_true rfl) rfl ?_
      refine zr_goto (tgt := 12) dX1_blockWidth_61 (by decide) ?_
      refine zr_sub (ls2 := [(0, .ref (kA c (rB i))), (1, .int (bI least)), (2, .int (imax w ((cCW f c j least) + (kSides c j)))), (3, .ref it)]) [0, 1, 2, 3] rfl ?_
      exact ih (k + 1) _ _ _ _ hy2 (by omega) hX4 (by omega) hI3 (fun σ4 h4 => by have := kQ σ4 h4; rwa [List.foldl_cons, if_neg (by rw [h]; decide)] at this)
    · refine zr_iload_n dX1_blockWidth_40 rfl rfl ?_
      refine zr_goto (tgt := 60) dX1_blockWidth_41 (by decide) ?_
      refine zr_istore_n (ls2 := [(0, .ref (kA c (rB i))), (1, .int (bI least)), (2, .int w), (3, .ref it), (4, .ref (kA c (rB j)))]) dX1_blockWidth_60 rfl (Nat.le_of_ble_eq_true rfl) rfl ?_
      refine zr_goto (tgt := 12) dX1_blockWidth_61 (by decide) ?_
      refine zr_sub (ls2 := [(0, .ref (kA c (rB i))), (1, .int (bI least)), (2, .int w), (3, .ref it)]) [0, 1, 2, 3] rfl ?_
      exact ih (k + 1) _ _ _ _ hy2 (by omega) hX2 (by omega) (sF_upS _ _ _) (fun σ4 h4 => by have := kQ σ4 h4; rwa [List.foldl_cons, if_pos h] at this)
set_option maxHeartbeats 4000000 in
theorem c_X1_blockWidth {G : zG} {σ : zT} {d : Nat} {c : zCS} {i f : Nat} {least : Bool} (hd : 6 ≤ d) (hG : zOk G) (hw : zGd G σ) (hS : CSys G σ c) (hi : i < kN c) (hf : kN c ≤ f + 1 + i) (hCW : ∀ (σ : zT) (j : Nat), zGd G σ → CSys G σ c → j < kN c → kN c ≤ f + j → zCall G I_X1_contentWidth (d - 1) [.ref (kA c (rB j)), .int (bI least)] σ (fun o σ' => o = .inl (some (.int (cCW f c j least))) ∧ zX G S0 σ σ' (KW f c j))) : zCall G I_X1_blockWidth d [.ref (kA c (rB i)), .int (bI least)] σ ((fun o σ' => o = .inl (some (.int ((kCh c i).foldl (fun w j => if kLifted c j = true then w else imax w (cCW f c j least + kSides c j)) 0))) ∧ zX G S0 σ σ' (8 + ((kCh c i).map (fun j => KW f c j)).sum))) := by
  refine zCall_of (ls := [(0, .ref (kA c (rB i))), (1, .int (bI least))]) (by decide) (Nat.le_of_ble_eq_true rfl) rfl ?_
  obtain ⟨fl, hfl⟩ := (hS.chL hi).A
  refine zr_iconst (v := 0) dX1_blockWidth_0 (by decide) ?_
  refine zr_istore_n (ls2 := [(0, .ref (kA c (rB i))), (1, .int (bI least)), (2, .int 0)]) dX1_blockWidth_1 rfl (Nat.le_of_ble_eq_true rfl) rfl ?_
  refine zr_aload_n dX1_blockWidth_2 rfl rfl ?_
  refine zr_getN (k := 4) (v := .ref (kA c (rC i))) in_X2 (hS.bx hi) rfl (Nat.le_of_ble_eq_true rfl) q238 (.inl rfl) rfl dX1_blockWidth_3 ?_
  refine zr_call51 (rest := []) (zs_F (As := []) (by omega) okF_J2_iterator (by decide +kernel) q829 q832 q834 q56 q836 hfl rfl rfl rfl (Nat.le_of_ble_eq_true rfl) dX1_blockWidth_6) (c_J2_iterator (by omega) hw.1 (hS.chL hi)) ?_
  refine zr_astore_n (ls2 := [(0, .ref (kA c (rB i))), (1, .int (bI least)), (2, .int 0), (3, .ref (sZ σ))]) dX1_blockWidth_11 rfl (Nat.le_of_ble_eq_true rfl) rfl ?_
  exact l_X1_blockWidth (it := sZ σ) (by omega) hG hw hS hi hf hCW (Nat.le_refl _) (kCh c i) 0 _ _ 0 _ rfl (Nat.zero_le _) (zX.new _ hw _ (by omega) _ _) (Nat.le_refl _) (sF_newS _ _ _ _) (fun σ2 h2 => ⟨rfl, h2⟩)
set_option maxHeartbeats 4000000 in
theorem l_X1_items {G : zG} {σ : zT} {d N : Nat} {c : zCS} {i it l : Nat} {Q : zO → zT → Prop} (hd : 7 ≤ d) (hG : zOk G) (hw : zGd G σ) (hS : CSys G σ c) (hi : i < kN c) (hit : sZ σ ≤ it) (hl : sZ σ ≤ l) : ∀ (ys : List Nat) (k n : Nat) (lr : Int32) (zs : List Nat) (mod : Int32) (σ1 : zT), (kCh c i).drop k = ys → k ≤ (kCh c i).length → zs.length ≤ k → (∀ j, j ∈ zs → j < kN c) → zX G S0 σ σ1 n → zL G σ1 (dT l) l mod (zs.map (fun j => kA c (rB j))) → n + 62 * ys.length ≤ N → sF σ1 it = some (.inr (21, [.int (nI k), .int lr, .int (kM c (rC i)), .ref (kA c (rC i))])) → sT σ1 it = 0 → (∀ σ2 mod2, zX G S0 σ σ2 N → zL G σ2 (dT l) l mod2 ((zs ++ ys.filter (fun j => !kLifted c j)).map (fun j => kA c (rB j))) → Q (.inl (some (.ref l))) σ2) → zR G yX1_items cX1_items 4 (Option.some (Jvm.ClassFile.FieldType.object "java/util/List")) [] d 18 [(0, .ref (kA c (rB i))), (1, .ref l), (2, .ref it)] [] σ1 Q := by
  intro ys
  induction ys with
  | nil =>
    intro k n lr zs mod σ1 hy hk hzk hzs hX hL hN hI hT kQ
    have hS1 := hS.keep0 hw hX
    have hkl := drop_nil hy hk
    refine zr_aload_n dX1_items_18 rfl rfl ?_
    refine zr_call51 (rest := []) (zs_F (As := []) (by omega) okF_J23_hasNext (by decide +kernel) q916 q927 q929 q84 q931 (.new hI) rfl rfl rfl (Nat.le_of_ble_eq_true rfl) dX1_items_19) (c_hasNext0 (hS1.chL hi) hI (by rw [List.length_map]; exact hkl)) ?_
    refine zr_if_eq (tgt := 55) dX1_items_24 (by decide) (fun _ => ?_) (fun h9 => absurd (rfl) h9)
    refine zr_aload_n dX1_items_55 rfl rfl ?_
    exact zr_aret rfl (.inl ⟨_, rfl⟩) (.inr ⟨_, rfl⟩) dX1_items_56 (kQ σ1 mod (hX.le (by simpa using hN)) (by simpa using hL))
  | cons j ys ih =>
    intro k n lr zs mod σ1 hy hk hzk hzs hX hL hN hI hT kQ
    have hS1 := hS.keep0 hw hX
    obtain ⟨hx, hy2, hkl, hm⟩ := drop_cons hy
    obtain ⟨hij, hj⟩ := hS.ch hi hm
    have hchl := hS.chl hi
    have hX2 := hX.upN (gs := [.int (nI (k + 1)), .int (nI k), .int (kM c (rC i)), .ref (kA c (rC i))]) hI hit
    have hS2 := hS.keep0 hw hX2
    have hL2 := hL.upO (e := .inr (21, [.int (nI (k + 1)), .int (nI k), .int (kM c (rC i)), .ref (kA c (rC i))])) hI (by decide)
    rw [List.length_cons] at hN
    refine zr_aload_n dX1_items_18 rfl rfl ?_
    refine zr_call51 (rest := []) (zs_F (As := []) (by omega) okF_J23_hasNext (by decide +kernel) q916 q927 q929 q84 q931 (.new hI) rfl rfl rfl (Nat.le_of_ble_eq_true rfl) dX1_items_19) (c_hasNext1 (hS1.chL hi) hI (by rw [List.length_map]; exact hkl)) ?_
    refine zr_if_eq (tgt := 55) dX1_items_24 (by decide) (fun h9 => absurd h9 (by decide)) (fun _ => ?_)
    refine zr_aload_n dX1_items_27 rfl rfl ?_
    refine zr_call51 (rest := []) (zs_F (As := []) (by omega) okF_J23_next (by decide +kernel) q942 q1044 q1046 q84 q1048 (.new hI) rfl rfl rfl (Nat.le_of_ble_eq_true rfl) dX1_items_28) (c_J23_next (by omega) hG (hS1.chL hi) hI (map_at (fun j => kA c (rB j)) hx)) ?_
    refine zr_castS (hS2.bx hj) rfl q151 dX1_items_33 ?_
    refine zr_astore_n (ls2 := [(0, .ref (kA c (rB i))), (1, .ref l), (2, .ref it), (3, .ref (kA c (rB j)))]) dX1_items_36 rfl (Nat.le_of_ble_eq_true rfl) rfl ?_
    refine zr_aload_n dX1_items_37 rfl rfl ?_
    refine zr_call1 (rest := []) (zs_V (As := []) (by omega) ok_X2_isLifted q1124 q1125 q1126 q57 q1127 rfl (hS2.bx hj) rfl rfl rfl (Nat.le_of_ble_eq_true rfl) dX1_items_38) (c_X2_isLifted (by omega) hS2 hj) ?_
    refine zr_ifneB (tgt := 52) dX1_items_41 (by decide) (fun h => ?_) (fun h => ?_)
    · refine zr_goto (tgt := 18) dX1_items_52 (by decide) ?_
      refine zr_sub (ls2 := [(0, .ref (kA c (rB i))), (1, .ref l), (2, .ref it)]) [0, 1, 2] rfl ?_
      exact ih (k + 1) _ _ zs mod _ hy2 (by omega) (by omega) hzs hX2 hL2 (by omega) (sF_upS _ _ _) hT (fun σ4 m4 h4 l4 => kQ σ4 m4 h4 (by simpa [h] using l4))
    · refine zr_aload_n dX1_items_44 rfl rfl ?_
      refine zr_aload_n dX1_items_45 rfl rfl ?_
      obtain ⟨_, σ3, ⟨rfl, hL3, hX3⟩, hC⟩ := c_add (d := d - 1) (by omega) hG hX2.gd hL2 (by rw [List.length_map]; omega) (hS2.el hj) (fun y hy => by
        obtain ⟨z, hz, rfl⟩ := List.mem_map.mp hy
        exact hS2.el (hzs z hz))
      rw [List.length_map] at hX3
      have hX4 := zX.dyn hw hX2 hX3 (by unfold dT; omega)
      have hI3 := hX3.f hX2.gd (sF_upS _ _ _) (by rw [sT_up, hT]; unfold dT; omega)
      have hT3 : sT σ3 it = 0 := (hX3.t hX2.gd (sF_upS _ _ _)).trans hT
      obtain ⟨fl, hfl⟩ := hL2.A
      refine zr_call51 (rest := []) (zs_F (As := [.ref (kA c (rB j))]) (by omega) okF_J2_add (by decide +kernel) q352 q355 q357 q56 q359 hfl rfl rfl rfl (Nat.le_of_ble_eq_true rfl) dX1_items_46) hC ?_
      refine zr_pop dX1_items_51 rfl ?_
      refine zr_goto (tgt := 18) dX1_items_52 (by decide) ?_
      refine zr_sub (ls2 := [(0, .ref (kA c (rB i))), (1, .ref l), (2, .ref it)]) [0, 1, 2] rfl ?_
      refine ih (k + 1) _ _ (zs ++ [j]) _ _ hy2 (by omega) (by simp; omega) (fun z hz => ?_) hX4 (by simpa using hL3) (by omega) hI3 hT3 (fun σ4 m4 h4 l4 => kQ σ4 m4 h4 (by simpa [h] using l4))
      rcases List.mem_append.mp hz with h9 | h9
      · exact hzs z h9
      · rw [List.mem_singleton.mp h9]; exact hj
set_option maxHeartbeats 4000000 in
theorem c_X1_items {G : zG} {σ : zT} {d : Nat} {c : zCS} {i : Nat} (hd : 7 ≤ d) (hG : zOk G) (hw : zGd G σ) (hS : CSys G σ c) (hi : i < kN c) : zCall G I_X1_items d [.ref (kA c (rB i))] σ ((fun o σ' => ∃ l mod, o = .inl (some (.ref l)) ∧ sZ σ ≤ l ∧ zL G σ' (dT l) l mod ((kItemsOf c i).map (fun j => kA c (rB j))) ∧ zX G S0 σ σ' (15 + 62 * (kCh c i).length))) := by
  refine zCall_of (ls := [(0, .ref (kA c (rB i)))]) (by decide) (Nat.le_of_ble_eq_true rfl) rfl ?_
  obtain ⟨fl, hfl⟩ := (hS.chL hi).A
  refine zr_new (ci := 20) (dT (sZ σ)) zt_J2 q114 q115 q56 rfl df_J2 dX1_items_0 ?_
  refine zr_dup dX1_items_3 rfl ?_
  refine zr_callv (rest := [.ref (sZ σ)]) (zs_I (As := []) (by omega) ok_J2_init q116 q117 q56 q118 rfl rfl rfl (Nat.le_of_ble_eq_true rfl) dX1_items_4) (c_J2_init (by omega) hG (sF_newS _ _ _ _)) ?_
  rw [sNew_up]
  have hX1 := zX.new S0 hw (dT (sZ σ)) (by unfold dT; omega) (.inr (20, [.int 0, .ref (zc G 0), .int 0])) 3
  have hS1 := hS.keep0 hw hX1
  have hL1 : zL G (sNew σ (dT (sZ σ)) (.inr (20, [.int 0, .ref (zc G 0), .int 0])) 3) (dT (sZ σ)) (sZ σ) 0 [] := ⟨_, 0, _, sF_newS _ _ _ _, sT_newS _ _ _ _, Nat.le_refl _, by omega, fun j hj => absurd hj (Nat.not_lt_zero _), Or.inl ⟨rfl, rfl, rfl⟩⟩
  have hX2 := hX1.trans (zX.new S0 hX1.gd 0 (by omega) (.inr (21, [.int 0, .int (-1), .int (kM c (rC i)), .ref (kA c (rC i))])) 4)
  refine zr_astore_n (ls2 := [(0, .ref (kA c (rB i))), (1, .ref (sZ σ))]) dX1_items_7 rfl (Nat.le_of_ble_eq_true rfl) rfl ?_
  refine zr_aload_n dX1_items_8 rfl rfl ?_
  refine zr_getN (k := 4) (v := .ref (kA c (rC i))) in_X2 (hS1.bx hi) rfl (Nat.le_of_ble_eq_true rfl) q238 (.inl rfl) rfl dX1_items_9 ?_
  obtain ⟨fl1, hfl1⟩ := (hS1.chL hi).A
  refine zr_call51 (rest := []) (zs_F (As := []) (by omega) okF_J2_iterator (by decide +kernel) q829 q832 q834 q56 q836 hfl1 rfl rfl rfl (Nat.le_of_ble_eq_true rfl) dX1_items_12) (c_J2_iterator (by omega) hX1.gd.1 (hS1.chL hi)) ?_
  refine zr_astore_n (ls2 := [(0, .ref (kA c (rB i))), (1, .ref (sZ σ)), (2, .ref (sZ (sNew σ (dT (sZ σ)) (.inr (20, [.int 0, .ref (zc G 0), .int 0])) 3)))]) dX1_items_17 rfl (Nat.le_of_ble_eq_true rfl) rfl ?_
  exact l_X1_items (N := 15 + 62 * (kCh c i).length) (l := sZ σ) (by omega) hG hw hS hi (Nat.le_succ _) (Nat.le_refl _) (kCh c i) 0 _ _ [] 0 _ rfl (Nat.zero_le _) (Nat.le_refl _) (fun j hj => absurd hj List.not_mem_nil) hX2 (hL1.new hX1.gd.1 _ _ _) (by omega) (sF_newS _ _ _ _) (sT_newS _ _ _ _) (fun σ2 m2 h2 l2 => ⟨_, m2, rfl, Nat.le_refl _, l2, h2.le (by omega)⟩)
set_option maxHeartbeats 4000000 in
theorem l_X1_rowWidth {G : zG} {σ : zT} {d f N : Nat} {c : zCS} {i it l : Nat} {mod : Int32} {es : List Nat} {least : Bool} {Q : zO → zT → Prop} (hd : 6 ≤ d) (hG : zOk G) (hw : zGd G σ) (hS : CSys G σ c) (hL : zL G σ (dT l) l mod (es.map (fun j => kA c (rB j)))) (hes : ∀ j, j ∈ es → j < kN c ∧ kN c ≤ f + j) (hCW : ∀ (σ : zT) (j : Nat), zGd G σ → CSys G σ c → j < kN c → kN c ≤ f + j → zCall G I_X1_contentWidth (d - 1) [.ref (kA c (rB j)), .int (bI least)] σ (fun o σ' => o = .inl (some (.int (cCW f c j least))) ∧ zX G S0 σ σ' (KW f c j))) (hit : sZ σ ≤ it) : ∀ (ys : List Nat) (k n : Nat) (lr : Int32) (w : Int32) (σ1 : zT), es.drop k = ys → k ≤ es.length → zX G S0 σ σ1 n → n + (ys.map (fun j => KW f c j)).sum ≤ N → sF σ1 it = some (.inr (21, [.int (nI k), .int lr, .int mod, .ref l])) → (∀ σ2, zX G S0 σ σ2 N → Q (.inl (some (.int (ys.foldl (fun w j => w + (cCW f c j least + kSides c j)) w)))) σ2) → zR G yX1_rowWidth cX1_rowWidth 5 (Option.some Jvm.ClassFile.FieldType.int) [] d 12 [(0, .ref (kA c (rB i))), (1, .int (bI least)), (2, .int w), (3, .ref it)] [] σ1 Q := by
  intro ys
  induction ys with
  | nil =>
    intro k n lr w σ1 hy hk hX hN hI kQ
    have hL1 := hX.L hw hL (fun h => h) (fun h => h)
    have hkl := drop_nil hy hk
    refine zr_aload_n dX1_rowWidth_12 rfl rfl ?_
    refine zr_call51 (rest := []) (zs_F (As := []) (by omega) okF_J23_hasNext (by decide +kernel) q916 q927 q929 q84 q931 (.new hI) rfl rfl rfl (Nat.le_of_ble_eq_true rfl) dX1_rowWidth_13) (c_hasNext0 hL1 hI (by rw [List.length_map]; exact hkl)) ?_
    refine zr_if_eq (tgt := 50) dX1_rowWidth_18 (by decide) (fun _ => ?_) (fun h9 => absurd (rfl) h9)
    refine zr_iload_n dX1_rowWidth_50 rfl rfl ?_
    exact zr_iret rfl rfl dX1_rowWidth_51 (kQ σ1 (hX.le (by simpa using hN)))
  | cons j ys ih =>
    intro k n lr w σ1 hy hk hX hN hI kQ
    have hL1 := hX.L hw hL (fun h => h) (fun h => h)
    obtain ⟨hx, hy2, hkl, hm⟩ := drop_cons hy
    obtain ⟨hj, hjf⟩ := hes j hm
    have hX2 := hX.upN (gs := [.int (nI (k + 1)), .int (nI k), .int mod, .ref l]) hI hit
    have hS2 := hS.keep0 hw hX2
    rw [List.map_cons, List.sum_cons] at hN
    refine zr_aload_n dX1_rowWidth_12 rfl rfl ?_
    refine zr_call51 (rest := []) (zs_F (As := []) (by omega) okF_J23_hasNext (by decide +kernel) q916 q927 q929 q84 q931 (.new hI) rfl rfl rfl (Nat.le_of_ble_eq_true rfl) dX1_rowWidth_13) (c_hasNext1 hL1 hI (by rw [List.length_map]; exact hkl)) ?_
    refine zr_if_eq (tgt := 50) dX1_rowWidth_18 (by decide) (fun h9 => absurd h9 (by decide)) (fun _ => ?_)
    refine zr_aload_n dX1_rowWidth_21 rfl rfl ?_
    refine zr_call51 (rest := []) (zs_F (As := []) (by omega) okF_J23_next (by decide +kernel) q942 q1044 q1046 q84 q1048 (.new hI) rfl rfl rfl (Nat.le_of_ble_eq_true rfl) dX1_rowWidth_22) (c_J23_next (by omega) hG hL1 hI (map_at (fun j => kA c (rB j)) hx)) ?_
    refine zr_castS (hS2.bx hj) rfl q151 dX1_rowWidth_27 ?_
    refine zr_astore (ls2 := [(0, .ref (kA c (rB i))), (1, .int (bI least)), (2, .int w), (3, .ref it), (4, .ref (kA c (rB j)))]) dX1_rowWidth_30 (Nat.le_of_ble_eq_true rfl) rfl ?_
    refine zr_iload_n dX1_rowWidth_32 rfl rfl ?_
    refine zr_aload dX1_rowWidth_33 rfl ?_
    refine zr_iload_n dX1_rowWidth_35 rfl rfl ?_
    obtain ⟨_, σ3, ⟨rfl, hX3⟩, hC⟩ := hCW _ j hX2.gd hS2 hj hjf
    have hX4 := hX2.trans hX3
    have hS3 := hS.keep0 hw hX4
    have hI3 := hX3.f hX2.gd (sF_upS _ _ _) (fun h => h)
    refine zr_call1 (rest := [.int w]) (zs_S (As := [.ref (kA c (rB j)), .int (bI least)]) (by omega) ok_X1_contentWidth q1162 q1140 q53 q1141 rfl rfl (Nat.le_of_ble_eq_true rfl) dX1_rowWidth_36) hC ?_
    refine zr_aload dX1_rowWidth_39 rfl ?_
    refine zr_call1 (rest := [.int (cCW f c j least), .int w]) (zs_V (As := []) (by omega) ok_X2_sides q1163 q1164 q1165 q57 q1166 rfl (hS3.bx hj) rfl rfl rfl (Nat.le_of_ble_eq_true rfl) dX1_rowWidth_41) (c_X2_sides (by omega) hS3 hj) ?_
    refine zr_iadd dX1_rowWidth_44 ?_
    refine zr_iadd dX1_rowWidth_45 ?_
    refine zr_istore_n (ls2 := [(0, .ref (kA c (rB i))), (1, .int (bI least)), (2, .int (w + ((cCW f c j least) + (kSides c j)))), (3, .ref it), (4, .ref (kA c (rB j)))]) dX1_rowWidth_46 rfl (Nat.le_of_ble_eq_true rfl) rfl ?_
    refine zr_goto (tgt := 12) dX1_rowWidth_47 (by decide) ?_
    refine zr_sub (ls2 := [(0, .ref (kA c (rB i))), (1, .int (bI least)), (2, .int (w + ((cCW f c j least) + (kSides c j)))), (3, .ref it)]) [0, 1, 2, 3] rfl ?_
    exact ih (k + 1) _ _ _ _ hy2 (by omega) hX4 (by omega) hI3 kQ
set_option maxHeartbeats 4000000 in
theorem c_X1_rowWidth {G : zG} {σ : zT} {d : Nat} {c : zCS} {i f : Nat} {least : Bool} (hd : 8 ≤ d) (hG : zOk G) (hw : zGd G σ) (hS : CSys G σ c) (hi : i < kN c) (hf : kN c ≤ f + 1 + i) (hCW : ∀ (σ : zT) (j : Nat), zGd G σ → CSys G σ c → j < kN c → kN c ≤ f + j → zCall G I_X1_contentWidth (d - 1) [.ref (kA c (rB j)), .int (bI least)] σ (fun o σ' => o = .inl (some (.int (cCW f c j least))) ∧ zX G S0 σ σ' (KW f c j))) : zCall G I_X1_rowWidth d [.ref (kA c (rB i)), .int (bI least)] σ ((fun o σ' => o = .inl (some (.int ((kItemsOf c i).foldl (fun w j => w + (cCW f c j least + kSides c j)) 0))) ∧ zX G S0 σ σ' (23 + 62 * (kCh c i).length + ((kItemsOf c i).map (fun j => KW f c j)).sum))) := by
  refine zCall_of (ls := [(0, .ref (kA c (rB i))), (1, .int (bI least))]) (by decide) (Nat.le_of_ble_eq_true rfl) rfl ?_
  obtain ⟨_, σ1, ⟨l, mod, rfl, hl, hL1, hX1⟩, hC⟩ := c_X1_items (d := d - 1) (by omega) hG hw hS hi
  have hS1 := hS.keep0 hw hX1
  obtain ⟨fl, hfl⟩ := hL1.A
  refine zr_iconst (v := 0) dX1_rowWidth_0 (by decide) ?_
  refine zr_istore_n (ls2 := [(0, .ref (kA c (rB i))), (1, .int (bI least)), (2, .int 0)]) dX1_rowWidth_1 rfl (Nat.le_of_ble_eq_true rfl) rfl ?_
  refine zr_aload_n dX1_rowWidth_2 rfl rfl ?_
  refine zr_call1 (rest := []) (zs_S (As := [.ref (kA c (rB i))]) (by omega) ok_X1_items q1170 q1122 q53 q1123 rfl rfl (Nat.le_of_ble_eq_true rfl) dX1_rowWidth_3) hC ?_
  refine zr_call51 (rest := []) (zs_F (As := []) (by omega) okF_J2_iterator (by decide +kernel) q829 q832 q834 q56 q836 hfl rfl rfl rfl (Nat.le_of_ble_eq_true rfl) dX1_rowWidth_6) (c_J2_iterator (by omega) hX1.gd.1 hL1) ?_
  refine zr_astore_n (ls2 := [(0, .ref (kA c (rB i))), (1, .int (bI least)), (2, .int 0), (3, .ref (sZ σ1))]) dX1_rowWidth_11 rfl (Nat.le_of_ble_eq_true rfl) rfl ?_
  refine l_X1_rowWidth (it := sZ σ1) (N := 8 + ((kItemsOf c i).map (fun j => KW f c j)).sum) (by omega) hG hX1.gd hS1 hL1 (fun j hj => ?_) hCW (Nat.le_refl _) (kItemsOf c i) 0 _ _ 0 _ rfl (Nat.zero_le _) (zX.new _ hX1.gd _ (by omega) _ _) (Nat.le_refl _) (sF_newS _ _ _ _) (fun σ2 h2 => ⟨rfl, (hX1.trans h2).le (by omega)⟩)
  have h9 := hS.ch hi (List.mem_filter.mp hj).1
  exact ⟨h9.2, by omega⟩
