/-! ===== the reference: addWord (rows printed by tools/p123.py) ===== -/
def nWord (c : zCS) (n v : Int32) : (Nat × Value) × zCS :=
  if btw n 0 (nI (kN c) - 1) = true then
    (if btw v 1 60 = true then
      (if kF c n.toNatClampNeg 2 = 116 then
        (if (kWd c n.toNatClampNeg).length < 20 then ((0, .int (nI ((kWd c n.toNatClampNeg).length + 1))), mMark (kAddW c n.toNatClampNeg v) n.toNatClampNeg) else ((4, .null), c))
      else ((3, .null), c))
    else ((2, .null), c))
  else ((1, .null), c)
theorem MSys.addW {G : zG} {σ σ1 : zT} {c : zCS} {th ct : Int32} {i n0 : Nat} {v : Int32} (hS : MSys G σ c th ct) (hw : zGd G σ) (hi : i < kN c) (hl : (kWd c i).length < 20) (hv : ∃ n, 1 ≤ n ∧ n ≤ 60 ∧ v = nI n)
    (hX : zX G (fun s => s = 1000 + rW i ∨ s = 1000 + rW i + 1) σ σ1 n0) (hL : zL G σ1 (1000 + rW i) (kA c (rW i)) (kM c (rW i) + 1) ((kWd c i).map (zbx G) ++ [zbx G v])) : MSys G σ1 (kAddW c i v) th ct := by
  have hN := hS.le
  obtain ⟨⟨a1, a2⟩, a3, a4, a5⟩ := hS
  have hWd : ∀ j, kWd (kAddW c i v) j = if j = i then kWd c i ++ [v] else kWd c j := fun j => rfl
  have hM : ∀ t, kM (kAddW c i v) t = if t = rW i then kM c (rW i) + 1 else kM c t := fun j => rfl
  refine ⟨⟨hX.f hw a1 (by show ¬ (sT σ (kA c 1) = _ ∨ sT σ (kA c 1) = _); rw [a2]; unfold rW; omega), (hX.t hw a1).trans a2⟩, ?_, fun j hj => ?_, ⟨⟨a5.1.1, fun j hj => ?_⟩, a5.2⟩⟩
  · rw [hM, if_neg (by unfold rW; omega)]
    exact hX.L hw a3 (by unfold rW; omega) (by unfold rW; omega)
  · have hjn : j < kN c := hj
    obtain ⟨⟨b1, b2⟩, b3, b4, b7⟩ := a4 j hjn
    refine ⟨⟨hX.f hw b1 (by show ¬ (sT σ (kA c (rB j)) = _ ∨ sT σ (kA c (rB j)) = _); rw [b2]; unfold rB rW; omega), (hX.t hw b1).trans b2⟩, ?_, ?_, mLn.keep hX hw b7 (by unfold rL rW; omega) (by unfold rL rW; omega) (by unfold rO rW; omega)⟩
    · rw [hM, if_neg (by unfold rC rW; omega)]
      exact hX.L hw b3 (by unfold rC rW; omega) (by unfold rC rW; omega)
    · rw [hM, hWd]
      by_cases e : j = i
      · subst e
        rw [if_pos rfl, if_pos rfl, List.map_append]
        exact hL
      · rw [if_neg (by unfold rW; omega), if_neg e]
        exact hX.L hw b4 (by unfold rW; omega) (by unfold rW; omega)
  · obtain ⟨h1, h2, h3, ⟨h4, h4'⟩, h5⟩ := a5.1.2 j hj
    refine ⟨h1, h2, h3, ?_, h5⟩
    rw [hWd]
    by_cases e : j = i
    · subst e
      rw [if_pos rfl]
      refine ⟨by rw [List.length_append, List.length_singleton]; omega, fun u hu => ?_⟩
      rcases List.mem_append.mp hu with hu | hu
      · exact h4' u hu
      · rw [List.mem_singleton.mp hu]; exact hv
    · rw [if_neg e]; exact ⟨h4, h4'⟩
theorem mMark_W (c : zCS) (i j : Nat) : kWd (mMark c i) j = kWd c j := by rw [(mrk_NA c i).2.2]
theorem TWm_SM {N i s : Nat} (h : N ≤ 24) (hi : i < N) (hs : s = 1000 + rW i ∨ s = 1000 + rW i + 1) : SM s := by
  unfold rW at hs
  exact ⟨by omega, by omega⟩
set_option maxHeartbeats 4000000 in
theorem c_X4_addWord {G : zG} {σ : zT} {d : Nat} {c : zCS} {th ct : Int32} {n v : Int32} (hd : 20 ≤ d) (hG : zOk G) (hw : zGd G σ) (hS : MSys G σ c th ct) : zCall G I_X4_addWord d [.ref (kA c 1), .int n, .int v] σ ((fun o σ' => oM o (nWord c n v).1 ∧ MSys G σ' (nWord c n v).2 (nI (nWord c n v).1.1) ct ∧ zX G SM σ σ' 300)) := by
  refine zCall_of (ls := [(0, .ref (kA c 1)), (1, .int n), (2, .int v)]) (by decide) (Nat.le_of_ble_eq_true rfl) rfl ?_
  have hle := hS.le
  refine zr_aload_n dX4_addWord_0 rfl rfl ?_
  refine zr_iload_n dX4_addWord_1 rfl rfl ?_
  refine zr_iload_n dX4_addWord_2 rfl rfl ?_
  refine zr_iconst (v := 1) dX4_addWord_3 (by decide) ?_
  refine zr_bipush (v := 60) dX4_addWord_4 (by decide) ?_
  refine zr_call1 (rest := [.int n, .ref (kA c 1)]) (zs_S (As := [.int v, .int 1, .int 60]) (by omega) ok_X4_in q2247 q2248 q77 q2249 rfl rfl (Nat.le_of_ble_eq_true rfl) dX4_addWord_6) c_X4_in ?_
  refine zr_call1 (rest := []) (zs_V (As := [.int n, .int (bI (btw v 1 60))]) (by omega) ok_X4_wrong q2259 q2261 qs38 q77 q2262 rfl hS.one rfl rfl rfl (Nat.le_of_ble_eq_true rfl) dX4_addWord_9) (c_X4_wrong (n := n) (b := btw v 1 60) (by omega) hS) ?_
  have hX1 := hS.XO hw (mO c (nI (mWr c n (btw v 1 60))) ct)
  have hS1 := hS.setT (nI (mWr c n (btw v 1 60)))
  generalize hσ1 : sUp σ (kA c 1) (.inr (4, mO c (nI (mWr c n (btw v 1 60))) ct)) = σ1 at hX1 hS1 ⊢
  by_cases hb : btw n 0 (nI (kN c) - 1) = true
  · by_cases hk : btw v 1 60 = true
    · rw [show mWr c n (btw v 1 60) = 0 from by unfold mWr; rw [if_pos hb, if_pos hk]] at hS1 ⊢
      obtain ⟨i, hi, rfl⟩ := btw_idx (by omega) hb
      obtain ⟨m, hm1, hm2, rfl⟩ := btw_word hk
      have hcl : (nI i).toNatClampNeg = i := nI_clamp (by omega)
      have hone1 := hS1.one
      obtain ⟨flw, hflw⟩ := (hS1.wdL hi).A
      have hwl := (hS1.wd hi).1
      refine zr_if_le (tgt := 17) dX4_addWord_12 (by decide) (fun _ => ?_) (fun h9 => absurd (by decide) h9)
      obtain ⟨fl_hfl, hfl⟩ := hS1.bxL.A
      refine zr_aload_n dX4_addWord_17 rfl rfl ?_
      refine zr_get (k := 0) (v := .ref (kA c 2)) in_X4 hone1 rfl (Nat.le_of_ble_eq_true rfl) q2218 (.inl rfl) rfl dX4_addWord_18 ?_
      refine zr_iload_n dX4_addWord_21 rfl rfl ?_
      refine zr_call1 (rest := []) (zs_V (As := [.int (nI i)]) (by omega) ok_J2_get q2250 q959 q2840 q56 q960 rfl hfl rfl rfl rfl (Nat.le_of_ble_eq_true rfl) dX4_addWord_22) (c_J2_get (by omega) hG hS1.bxL (MSys.bxa hi)) ?_
      refine zr_castS (hS1.bx hi) rfl q2084 dX4_addWord_25 ?_
      refine zr_astore_n (ls2 := [(0, .ref (kA c 1)), (1, .int (nI i)), (2, .int (nI m)), (3, .ref (kA c (rB i)))]) dX4_addWord_28 rfl (Nat.le_of_ble_eq_true rfl) rfl ?_
      refine zr_aload_n dX4_addWord_29 rfl rfl ?_
      refine zr_aload_n dX4_addWord_30 rfl rfl ?_
      refine zr_get (k := 1) (v := .int (kF c i 2)) in_X5 (hS1.bx hi) rfl (Nat.le_of_ble_eq_true rfl) q2095 (.inl rfl) rfl dX4_addWord_31 ?_
      refine zr_bipush (v := 116) dX4_addWord_34 (by decide) ?_
      refine zr_icmp_eq (tgt := 43) dX4_addWord_36 (by decide) (fun h2 => ?_) (fun h2 => ?_)
      · have h2 : kF c i 2 = 116 := by first | exact h2 | exact Decidable.not_not.mp h2
        refine zr_aload_n dX4_addWord_43 rfl rfl ?_
        refine zr_get (k := 5) (v := .ref (kA c (rW i))) in_X5 (hS1.bx hi) rfl (Nat.le_of_ble_eq_true rfl) q2103 (.inl rfl) rfl dX4_addWord_44 ?_
        refine zr_call1 (rest := [.ref (kA c 1)]) (zs_V (As := []) (by omega) ok_J2_size q2246 q164 q2839 q56 q166 rfl hflw rfl rfl rfl (Nat.le_of_ble_eq_true rfl) dX4_addWord_47) (c_size (m := (kWd c i).length) (by omega) (hS1.wdL hi) (List.length_map _)) ?_
        refine zr_bipush (v := 20) dX4_addWord_50 (by decide) ?_
        refine zr_icmp_ne (tgt := 59) dX4_addWord_52 (by decide) (fun h3 => ?_) (fun h3 => ?_)
        · have h3n : (kWd c i).length < 20 := Nat.lt_of_le_of_ne hwl (fun h => h3 (by rw [h]; rfl))
          rw [show nWord c (nI i) (nI m) = ((0, .int (nI ((kWd c i).length + 1))), mMark (kAddW c i (nI m)) i) from by unfold nWord; rw [if_pos hb, if_pos hk, hcl, if_pos h2, if_pos h3n]]
          refine zr_iconst (v := 0) dX4_addWord_59 (by decide) ?_
          refine zr_put (k := 1) (fs' := (mO c 0 ct)) zt_X4 hS1.1.1 rfl (Nat.le_of_ble_eq_true rfl) q2219 (.inl rfl) rfl rfl rfl (Nat.le_of_ble_eq_true rfl) rfl dX4_addWord_60 ?_
          have hSa := hS1.setT 0
          have hXa := hX1.trans (hS1.XO hX1.gd (mO c 0 ct))
          generalize hσa : sUp σ1 (kA c 1) (.inr (4, mO c 0 ct)) = σa at hSa hXa ⊢
          have honea := hSa.one
          obtain ⟨flwa, hflwa⟩ := (hSa.wdL hi).A
          refine zr_aload_n dX4_addWord_63 rfl rfl ?_
          refine zr_get (k := 1) (v := .int 0) in_X4 honea rfl (Nat.le_of_ble_eq_true rfl) q2219 (.inl rfl) rfl dX4_addWord_64 ?_
          refine zr_if_le (tgt := 72) dX4_addWord_67 (by decide) (fun _ => ?_) (fun h9 => absurd (by decide) h9)
          refine zr_aload_n dX4_addWord_72 rfl rfl ?_
          refine zr_get (k := 5) (v := .ref (kA c (rW i))) in_X5 (hSa.bx hi) rfl (Nat.le_of_ble_eq_true rfl) q2103 (.inl rfl) rfl dX4_addWord_73 ?_
          refine zr_iload_n dX4_addWord_76 rfl rfl ?_
          refine zr_call1 (rest := [.ref (kA c (rW i))]) (zs_S (As := [.int (nI m)]) (by omega) ok_J18_valueOf q2263 q1700 q75 q1701 rfl rfl (Nat.le_of_ble_eq_true rfl) dX4_addWord_77) (c_J18_valueOf hG (by omega)) ?_
          rw [← zbx_nI G (show m < 128 by omega)]
          have hel : ∀ u : Int32, (∃ n, 1 ≤ n ∧ n ≤ 60 ∧ u = nI n) → zEl G σa (zbx G u) := fun u ⟨n, _, hn, e⟩ => by
            rw [e]
            exact ⟨_, _, _, _, _, zbx_at hG _ (by omega), rfl, q2856⟩
          obtain ⟨_, σ2, ⟨rfl, hL2, hX2⟩, hC2⟩ := c_add (d := d - 1) (x := zbx G (nI m)) (by omega) hG hXa.gd (hSa.wdL hi) (by rw [List.length_map]; omega) (hel _ ⟨m, hm1, hm2, rfl⟩) (fun y hy => by
            obtain ⟨u, hu, rfl⟩ := List.mem_map.mp hy
            exact hel _ ((hSa.wd hi).2 u hu))
          rw [List.length_map] at hX2
          refine zr_call1 (rest := []) (zs_V (As := [.ref (zbx G (nI m))]) (by omega) ok_J2_add q2217 q357 q2838 q56 q359 rfl hflwa rfl rfl rfl (Nat.le_of_ble_eq_true rfl) dX4_addWord_80) hC2 ?_
          have hS2 := hSa.addW hXa.gd hi h3n ⟨m, hm1, hm2, rfl⟩ hX2 hL2
          obtain ⟨c1, hc1⟩ : ∃ c1, c1 = kAddW c i (nI m) := ⟨_, rfl⟩
          have hN1 : kN c1 = kN c := by rw [hc1]; rfl
          have hA1 : kA c1 = kA c := by rw [hc1]; rfl
          have hW1 : (kWd c1 i).length = (kWd c i).length + 1 := by
            rw [hc1]
            show (if i = i then kWd c i ++ [nI m] else kWd c i).length = _
            rw [if_pos rfl, List.length_append, List.length_singleton]
          rw [← hc1] at hS2 ⊢
          rw [← hA1]
          have hi1 : i < kN c1 := by omega
          obtain ⟨_, σ4, ⟨rfl, hS4, hX4⟩, hC4⟩ := c_X4_mark (d := d - 1) hX2.gd hS2 (i := i) hi1
          have hN4 : kN (mMark c1 i) = kN c1 := (mrk_NA c1 i).1
          have hA4 : kA (mMark c1 i) = kA c1 := (mrk_NA c1 i).2.1
          have hi4 : i < kN (mMark c1 i) := by omega
          have hb4 : zAt G σ4 (kA c1 (rB i)) (.inr (5, mBx (mMark c1 i) i)) := hA4 ▸ hS4.bx hi4
          have hW4 := hS4.wdL hi4
          obtain ⟨fl_4, hfl4⟩ := hW4.A
          have hone2 := hS2.one
          refine zr_pop dX4_addWord_83 rfl ?_
          refine zr_aload_n dX4_addWord_84 rfl rfl ?_
          refine zr_aload_n dX4_addWord_85 rfl rfl ?_
          refine zr_callv (rest := []) (zs_V (As := [.ref (kA c1 (rB i))]) (by omega) ok_X4_mark q2251 q2253 qs37 q77 q2254 rfl hone2 rfl rfl rfl (Nat.le_of_ble_eq_true rfl) dX4_addWord_86) hC4 ?_
          refine zr_aload_n dX4_addWord_89 rfl rfl ?_
          refine zr_get (k := 5) (v := .ref (kA (mMark c1 i) (rW i))) in_X5 hb4 rfl (Nat.le_of_ble_eq_true rfl) q2103 (.inl rfl) rfl dX4_addWord_90 ?_
          refine zr_call1 (rest := []) (zs_V (As := []) (by omega) ok_J2_size q2246 q164 q2839 q56 q166 rfl hfl4 rfl rfl rfl (Nat.le_of_ble_eq_true rfl) dX4_addWord_93) (c_size (m := (kWd c i).length + 1) (by omega) hW4 (by rw [List.length_map, mMark_W, hW1])) ?_
          exact zr_iret rfl rfl dX4_addWord_96 (⟨⟨_, rfl, fun _ => rfl⟩, hS4, ((hXa.trans (hX2.mono (fun s h => TWm_SM hle hi h))).trans hX4).le (by omega)⟩)
        · have h3 : nI (kWd c i).length = nI 20 := by first | exact h3 | exact Decidable.not_not.mp h3
          have h3n : ¬ (kWd c i).length < 20 := fun h => by have h9 := (nI_ltI (a := (kWd c i).length) (b := 20) (by omega) (by omega)).mpr h; rw [h3] at h9; exact absurd h9 (by decide)
          rw [show nWord c (nI i) (nI m) = ((4, .null), c) from by unfold nWord; rw [if_pos hb, if_pos hk, hcl, if_pos h2, if_neg h3n]]
          refine zr_iconst (v := 4) dX4_addWord_55 (by decide) ?_
          refine zr_goto (tgt := 60) dX4_addWord_56 (by decide) ?_
          refine zr_put (k := 1) (fs' := (mO c 4 ct)) zt_X4 hS1.1.1 rfl (Nat.le_of_ble_eq_true rfl) q2219 (.inl rfl) rfl rfl rfl (Nat.le_of_ble_eq_true rfl) rfl dX4_addWord_60 ?_
          refine zr_aload_n dX4_addWord_63 rfl rfl ?_
          refine zr_get (k := 1) (v := .int 4) in_X4 (.new (sF_upS _ _ _)) rfl (Nat.le_of_ble_eq_true rfl) q2219 (.inl rfl) rfl dX4_addWord_64 ?_
          refine zr_if_le (tgt := 72) dX4_addWord_67 (by decide) (fun h9 => absurd h9 (by decide)) (fun _ => ?_)
          refine zr_iconst (v := 0) dX4_addWord_70 (by decide) ?_
          exact zr_iret rfl rfl dX4_addWord_71 (⟨⟨_, rfl, fun h => by cases h⟩, hS1.setT 4, (hX1.trans (hS1.XO hX1.gd _)).le (by omega)⟩)
      · rw [show nWord c (nI i) (nI m) = ((3, .null), c) from by unfold nWord; rw [if_pos hb, if_pos hk, hcl, if_neg (by first | exact h2 | exact fun h => h2 h)]]
        refine zr_iconst (v := 3) dX4_addWord_39 (by decide) ?_
        refine zr_goto (tgt := 60) dX4_addWord_40 (by decide) ?_
        refine zr_put (k := 1) (fs' := (mO c 3 ct)) zt_X4 hS1.1.1 rfl (Nat.le_of_ble_eq_true rfl) q2219 (.inl rfl) rfl rfl rfl (Nat.le_of_ble_eq_true rfl) rfl dX4_addWord_60 ?_
        refine zr_aload_n dX4_addWord_63 rfl rfl ?_
        refine zr_get (k := 1) (v := .int 3) in_X4 (.new (sF_upS _ _ _)) rfl (Nat.le_of_ble_eq_true rfl) q2219 (.inl rfl) rfl dX4_addWord_64 ?_
        refine zr_if_le (tgt := 72) dX4_addWord_67 (by decide) (fun h9 => absurd h9 (by decide)) (fun _ => ?_)
        refine zr_iconst (v := 0) dX4_addWord_70 (by decide) ?_
        exact zr_iret rfl rfl dX4_addWord_71 (⟨⟨_, rfl, fun h => by cases h⟩, hS1.setT 3, (hX1.trans (hS1.XO hX1.gd _)).le (by omega)⟩)
    · rw [show mWr c n (btw v 1 60) = 2 from by unfold mWr; rw [if_pos hb, if_neg hk]] at hS1 ⊢
      rw [show nWord c n v = ((2, .null), c) from by unfold nWord; rw [if_pos hb, if_neg hk]]
      refine zr_if_le (tgt := 17) dX4_addWord_12 (by decide) (fun h9 => absurd h9 (by decide)) (fun _ => ?_)
      refine zr_iconst (v := 0) dX4_addWord_15 (by decide) ?_
      exact zr_iret rfl rfl dX4_addWord_16 (⟨⟨_, rfl, fun h => by cases h⟩, hS1, hX1.le (by omega)⟩)
  · rw [show mWr c n (btw v 1 60) = 1 from by unfold mWr; rw [if_neg hb]] at hS1 ⊢
    rw [show nWord c n v = ((1, .null), c) from by unfold nWord; rw [if_neg hb]]
    refine zr_if_le (tgt := 17) dX4_addWord_12 (by decide) (fun h9 => absurd h9 (by decide)) (fun _ => ?_)
    refine zr_iconst (v := 0) dX4_addWord_15 (by decide) ?_
    exact zr_iret rfl rfl dX4_addWord_16 (⟨⟨_, rfl, fun h => by cases h⟩, hS1, hX1.le (by omega)⟩)
