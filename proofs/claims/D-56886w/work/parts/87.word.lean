/-! ===== the component: addWord, its constructor (rows printed by tools/p87.py) ===== -/
def kUWd (c : zCS) (x : Nat → List Int32) : zCS := (c.1, c.2.1, c.2.2.1, c.2.2.2.1, c.2.2.2.2.1, c.2.2.2.2.2.1, x, c.2.2.2.2.2.2.2)
def kAddW (c : zCS) (i : Nat) (v : Int32) : zCS := kUWd (kUM c (fun t => if t = rW i then kM c (rW i) + 1 else kM c t)) (fun j => if j = i then kWd c i ++ [v] else kWd c j)
def pWord (c : zCS) (n v : Int32) : (Nat × Value) × zCS :=
  if btw n 0 (nI (kN c) - 1) = true then
    (if btw v 1 60 = true then
      (if kText c n.toNatClampNeg = true then
        (if (kWd c n.toNatClampNeg).length < 20 then ((0, .int (nI ((kWd c n.toNatClampNeg).length + 1))), kTouch (kAddW c n.toNatClampNeg v) n.toNatClampNeg) else ((3, .null), c))
      else ((4, .null), c))
    else ((2, .null), c))
  else ((1, .null), c)
theorem pWord_0 {c : zCS} {n v : Int32} (h : btw n 0 (nI (kN c) - 1) = false) : pWord c n v = ((1, .null), c) := by unfold pWord; rw [if_neg (by rw [h]; decide)]
theorem pWord_2 {c : zCS} {i : Nat} {v : Int32} (hN : kN c ≤ 24) (hi : i < kN c) (h : btw v 1 60 = false) : pWord c (nI i) v = ((2, .null), c) := by unfold pWord; rw [if_pos (btw_nI (by omega) hi), if_neg (by rw [h]; decide)]
theorem pWord_4 {c : zCS} {i : Nat} {v : Int32} (hN : kN c ≤ 24) (hi : i < kN c) (h : btw v 1 60 = true) (h2 : kText c i = false) : pWord c (nI i) v = ((4, .null), c) := by unfold pWord; rw [if_pos (btw_nI (by omega) hi), if_pos h, nI_clamp (by omega), if_neg (by rw [h2]; decide)]
theorem pWord_3 {c : zCS} {i : Nat} {v : Int32} (hN : kN c ≤ 24) (hi : i < kN c) (h : btw v 1 60 = true) (h2 : kText c i = true) (h3 : ¬ (kWd c i).length < 20) : pWord c (nI i) v = ((3, .null), c) := by unfold pWord; rw [if_pos (btw_nI (by omega) hi), if_pos h, nI_clamp (by omega), if_pos h2, if_neg h3]
theorem pWord_1 {c : zCS} {i : Nat} {v : Int32} (hN : kN c ≤ 24) (hi : i < kN c) (h : btw v 1 60 = true) (h2 : kText c i = true) (h3 : (kWd c i).length < 20) : pWord c (nI i) v = ((0, .int (nI ((kWd c i).length + 1))), kTouch (kAddW c i v) i) := by unfold pWord; rw [if_pos (btw_nI (by omega) hi), if_pos h, nI_clamp (by omega), if_pos h2, if_pos h3]
theorem btw_word {v : Int32} (h : btw v 1 60 = true) : ∃ n, 1 ≤ n ∧ n ≤ 60 ∧ v = nI n := by
  unfold btw at h
  obtain ⟨h1, h2⟩ := (Bool.and_eq_true _ _).mp h
  have h1' : (1 : Int32) ≤ v := of_decide_eq_true h1
  have h2' : v ≤ nI 60 := of_decide_eq_true h2
  obtain ⟨j, hj, e⟩ := nI_of2 (nI_toInt (by omega)) (Int32.not_lt.mpr (Int32.le_trans (by decide) h1')) h2'
  subst e
  have h3 : nI 1 ≤ nI j := h1'
  have := (nI_leI (by omega) (by omega)).mp h3
  exact ⟨j, this, hj, rfl⟩
theorem CSys.addW {G : zG} {σ σ1 : zT} {c : zCS} {i n0 : Nat} {v : Int32} (hS : CSys G σ c) (hw : zGd G σ) (hi : i < kN c) (hl : (kWd c i).length < 20) (hv : ∃ n, 1 ≤ n ∧ n ≤ 60 ∧ v = nI n)
    (hX : zX G (fun s => s = rW i ∨ s = rW i + 1) σ σ1 n0) (hL : zL G σ1 (rW i) (kA c (rW i)) (kM c (rW i) + 1) ((kWd c i).map (zbx G) ++ [zbx G v])) : CSys G σ1 (kAddW c i v) := by
  obtain ⟨⟨a1, a2⟩, a3, a4, a5⟩ := hS
  have hWd : ∀ j, kWd (kAddW c i v) j = if j = i then kWd c i ++ [v] else kWd c j := fun j => rfl
  have hM : ∀ t, kM (kAddW c i v) t = if t = rW i then kM c (rW i) + 1 else kM c t := fun j => rfl
  refine ⟨⟨hX.f hw a1 (by show ¬ (sT σ (kA c 1) = _ ∨ sT σ (kA c 1) = _); rw [a2]; unfold rW; omega), (hX.t hw a1).trans a2⟩, ?_, fun j hj => ?_, a5.1, fun j hj => ?_⟩
  · rw [hM, if_neg (by unfold rW; omega)]
    exact hX.L hw a3 (by unfold rW; omega) (by unfold rW; omega)
  · have hjn : j < kN c := hj
    obtain ⟨⟨b1, b2⟩, b3, b4, ⟨b5, b6⟩, b7⟩ := a4 j hjn
    refine ⟨⟨hX.f hw b1 (by show ¬ (sT σ (kA c (rB j)) = _ ∨ sT σ (kA c (rB j)) = _); rw [b2]; unfold rB rW; omega), (hX.t hw b1).trans b2⟩, ?_, ?_, ⟨hX.f hw b5 (by show ¬ (sT σ (kA c (rP j)) = _ ∨ sT σ (kA c (rP j)) = _); rw [b6]; unfold rP rW; omega), (hX.t hw b5).trans b6⟩, zLn.keep hX hw b7 (by unfold rL rW; omega) (by unfold rL rW; omega) (by unfold rO rW; omega)⟩
    · rw [hM, if_neg (by unfold rC rW; omega)]
      exact hX.L hw b3 (by unfold rC rW; omega) (by unfold rC rW; omega)
    · rw [hM, hWd]
      by_cases e : j = i
      · subst e
        rw [if_pos rfl, if_pos rfl, List.map_append]
        exact hL
      · rw [if_neg (by unfold rW; omega), if_neg e]
        exact hX.L hw b4 (by unfold rW; omega) (by unfold rW; omega)
  · obtain ⟨h1, h2, h3, ⟨h4, h4'⟩, h5⟩ := a5.2 j hj
    refine ⟨h1, h2, h3, ?_, h5⟩
    rw [hWd]
    by_cases e : j = i
    · subst e
      rw [if_pos rfl]
      refine ⟨by rw [List.length_append, List.length_singleton]; omega, fun u hu => ?_⟩
      rcases List.mem_append.mp hu with hu | hu
      · exact h4' u hu
      · rw [List.mem_singleton.mp hu]; exact hv
    · rw [if_neg e]; exact ⟨h4, h4'⟩
theorem TW_SC {N i s : Nat} (h : N ≤ 24) (hi : i < N) (hs : s = rW i ∨ s = rW i + 1) : SC s := by
  unfold rW at hs
  exact ⟨by omega, by omega⟩
theorem kTouch_W (c : zCS) (i j : Nat) : kWd (kTouch c i) j = kWd c j := by
  have h : ∀ f c i, kWd (tchF f c i) j = kWd c j := by
    intro f
    induction f with
    | zero => intro c i; rfl
    | succ f ih =>
      intro c i
      show kWd (match kPar c i with | none => kSetF c i 25 (-1) | some p => tchF f (kSetF c i 25 (-1)) p) j = _
      cases kPar c i with
      | none => rfl
      | some p => exact ih _ p
  exact h 24 _ i
set_option maxHeartbeats 4000000 in
theorem c_X1_addWord {G : zG} {σ : zT} {d : Nat} {c : zCS} {n v : Int32} (hd : 20 ≤ d) (hG : zOk G) (hw : zGd G σ) (hS : CSys G σ c) : zCall G I_X1_addWord d [.ref (kA c 1), .int n, .int v] σ ((fun o σ' => oR o (pWord c n v).1 ∧ ∃ c', CSys G σ' c' ∧ kZ c' = kZ (pWord c n v).2 ∧ zX G SC σ σ' 300)) := by
  refine zCall_of (ls := [(0, .ref (kA c 1)), (1, .int n), (2, .int v)]) (by decide) (Nat.le_of_ble_eq_true rfl) rfl ?_
  have hle := hS.le
  by_cases hb : btw n 0 (nI (kN c) - 1) = true
  · obtain ⟨i, hi, rfl⟩ := btw_idx (by omega) hb
    have hBi := hS.2.2.1 i hi
    have hwl := (hS.wd hi).1
    obtain ⟨fl_w, hflw⟩ := hBi.2.2.1.A
    obtain ⟨fl_hfl, hfl⟩ := hS.bxL.A
    refine zr_aload_n dX1_addWord_0 rfl rfl ?_
    refine zr_iload_n dX1_addWord_1 rfl rfl ?_
    refine zr_call1 (rest := []) (zs_V (As := [.int (nI i)]) (by omega) ok_X1_box q1629 q1631 qs28 q53 q1632 rfl hS.one rfl rfl rfl (Nat.le_of_ble_eq_true rfl) dX1_addWord_2) (c_box1 (by omega) hG hw hS hi) ?_
    refine zr_astore_n (ls2 := [(0, .ref (kA c 1)), (1, .int (nI i)), (2, .int v), (3, .ref (kA c (rB i)))]) dX1_addWord_5 rfl (Nat.le_of_ble_eq_true rfl) rfl ?_
    refine zr_iload_n dX1_addWord_6 rfl rfl ?_
    refine zr_iconst (v := 1) dX1_addWord_7 (by decide) ?_
    refine zr_bipush (v := 60) dX1_addWord_8 (by decide) ?_
    refine zr_call1 (rest := []) (zs_S (As := [.int v, .int 1, .int 60]) (by omega) ok_X1_isBetween q1633 q1634 q53 q1635 rfl rfl (Nat.le_of_ble_eq_true rfl) dX1_addWord_10) c_X1_isBetween ?_
    by_cases hk : btw v 1 60 = true
    · refine zr_eqi (z := 1) (by rw [hk]; rfl) ?_
      refine zr_callv (rest := []) (zs_S (As := [.int 1]) (by omega) ok_X1_requireArgument q1644 q1645 q53 q1646 rfl rfl (Nat.le_of_ble_eq_true rfl) dX1_addWord_13) c_requireArgument1 ?_
      refine zr_aload_n dX1_addWord_16 rfl rfl ?_
      refine zr_call1 (rest := []) (zs_V (As := []) (by omega) ok_X2_isText q1146 q1147 q1148 q57 q1149 rfl (hS.bx hi) rfl rfl rfl (Nat.le_of_ble_eq_true rfl) dX1_addWord_17) (c_X2_isText (by omega) hS hi) ?_
      by_cases ht : kText c i = true
      · refine zr_eqi (z := 1) (by rw [ht]; rfl) ?_
        refine zr_callv (rest := []) (zs_S (As := [.int 1]) (by omega) ok_X1_requireAllowed q1670 q1671 q53 q1672 rfl rfl (Nat.le_of_ble_eq_true rfl) dX1_addWord_20) c_requireAllowed1 ?_
        refine zr_aload_n dX1_addWord_23 rfl rfl ?_
        refine zr_getN (k := 5) (v := .ref (kA c (rW i))) in_X2 (hS.bx hi) rfl (Nat.le_of_ble_eq_true rfl) q241 (.inl rfl) rfl dX1_addWord_24 ?_
        refine zr_call51 (rest := []) (zs_F (As := []) (by omega) okF_J2_size (by decide +kernel) q1178 q162 q164 q56 q166 hflw rfl rfl rfl (Nat.le_of_ble_eq_true rfl) dX1_addWord_27) (c_size (m := (kWd c i).length) (by omega) hBi.2.2.1 (List.length_map _)) ?_
        refine zr_bipush (v := 20) dX1_addWord_32 (by decide) ?_
        refine zr_icmp_ge (tgt := 41) dX1_addWord_34 (by decide) (fun h20 => ?_) (fun h20 => ?_)
        · have h20n : ¬ (kWd c i).length < 20 := fun h => absurd h20 (Int32.not_le.mpr (show nI (kWd c i).length < nI 20 from (nI_ltI (by omega) (by omega)).mpr h))
          rw [pWord_3 hle hi hk ht h20n]
          obtain ⟨_, σ1, ⟨q, rfl, hX⟩, hC⟩ := c_requireState0 (d := d - 1) (by omega) hG hw
          refine zr_iconst (v := 0) dX1_addWord_41 (by decide) ?_
          refine zr_callX (rest := []) (zs_S (As := [.int 0]) (by omega) ok_X1_requireState q1652 q1653 q53 q1654 rfl rfl (Nat.le_of_ble_eq_true rfl) dX1_addWord_42) hC ?_
          exact zx_out (by decide) ⟨oR_x (by decide), c, hS.keep0 hw hX, rfl, hX.in.le (by omega)⟩
        · have h20n : (kWd c i).length < 20 := Nat.lt_of_not_le (fun h => h20 (show nI 20 ≤ nI (kWd c i).length from (nI_leI (by omega) (by omega)).mpr h))
          rw [pWord_1 hle hi hk ht h20n]
          obtain ⟨m, hm1, hm2, rfl⟩ := btw_word hk
          refine zr_iconst (v := 1) dX1_addWord_37 (by decide) ?_
          refine zr_goto (tgt := 42) dX1_addWord_38 (by decide) ?_
          refine zr_callv (rest := []) (zs_S (As := [.int 1]) (by omega) ok_X1_requireState q1652 q1653 q53 q1654 rfl rfl (Nat.le_of_ble_eq_true rfl) dX1_addWord_42) c_requireState1 ?_
          refine zr_aload_n dX1_addWord_45 rfl rfl ?_
          refine zr_getN (k := 5) (v := .ref (kA c (rW i))) in_X2 (hS.bx hi) rfl (Nat.le_of_ble_eq_true rfl) q241 (.inl rfl) rfl dX1_addWord_46 ?_
          refine zr_iload_n dX1_addWord_49 rfl rfl ?_
          refine zr_call1 (rest := [.ref (kA c (rW i))]) (zs_S (As := [.int (nI m)]) (by omega) ok_J18_valueOf q1699 q1700 q75 q1701 rfl rfl (Nat.le_of_ble_eq_true rfl) dX1_addWord_50) (c_J18_valueOf hG (by omega)) ?_
          rw [← zbx_nI G (show m < 128 by omega)]
          have hel : ∀ u : Int32, (∃ n, 1 ≤ n ∧ n ≤ 60 ∧ u = nI n) → zEl G σ (zbx G u) := fun u ⟨n, _, hn, e⟩ => by
            rw [e]
            exact ⟨_, _, _, _, _, zbx_at hG _ (by omega), rfl, q2856⟩
          obtain ⟨_, σ2, ⟨rfl, hL2, hX2⟩, hC2⟩ := c_add (d := d - 1) (x := zbx G (nI m)) (by omega) hG hw hBi.2.2.1 (by rw [List.length_map]; omega) (hel _ ⟨m, hm1, hm2, rfl⟩) (fun y hy => by
            obtain ⟨u, hu, rfl⟩ := List.mem_map.mp hy
            exact hel _ ((hS.wd hi).2 u hu))
          rw [List.length_map] at hX2
          refine zr_call51 (rest := []) (zs_F (As := [.ref (zbx G (nI m))]) (by omega) okF_J2_add (by decide +kernel) q352 q355 q357 q56 q359 hflw rfl rfl rfl (Nat.le_of_ble_eq_true rfl) dX1_addWord_53) hC2 ?_
          have hS2 := hS.addW hw hi h20n ⟨m, hm1, hm2, rfl⟩ hX2 hL2
          obtain ⟨c1, hc1⟩ : ∃ c1, c1 = kAddW c i (nI m) := ⟨_, rfl⟩
          have hN1 : kN c1 = kN c := by rw [hc1]; rfl
          have hA1 : kA c1 = kA c := by rw [hc1]; rfl
          have hW1 : (kWd c1 i).length = (kWd c i).length + 1 := by
            rw [hc1]
            show (if i = i then kWd c i ++ [nI m] else kWd c i).length = _
            rw [if_pos rfl, List.length_append, List.length_singleton]
          rw [← hc1] at hS2 ⊢
          rw [← hA1]
          have hi1 : i < kN c1 := by omega
          obtain ⟨_, σ4, ⟨rfl, hS4, hX4⟩, hC4⟩ := c_X2_touch (d := d - 1) hX2.gd hS2 (i := i) hi1
          have hN4 : kN (kTouch c1 i) = kN c1 := kTouch_N c1 i
          have hA4 : kA (kTouch c1 i) = kA c1 := kTouch_A c1 i
          have hb4 := hS4.bx (i := i) (by omega)
          rw [hA4] at hb4
          have hW4 := (hS4.2.2.1 i (by omega)).2.2.1
          obtain ⟨fl_4, hfl4⟩ := hW4.A
          refine zr_pop dX1_addWord_58 rfl ?_
          refine zr_aload_n dX1_addWord_59 rfl rfl ?_
          refine zr_callv (rest := []) (zs_V (As := []) (by omega) ok_X2_touch q1688 q1689 q1690 q57 q1691 rfl (hS2.bx hi1) rfl rfl rfl (Nat.le_of_ble_eq_true rfl) dX1_addWord_60) hC4 ?_
          refine zr_aload_n dX1_addWord_63 rfl rfl ?_
          refine zr_getN (k := 5) (v := .ref (kA (kTouch c1 i) (rW i))) in_X2 hb4 rfl (Nat.le_of_ble_eq_true rfl) q241 (.inl rfl) rfl dX1_addWord_64 ?_
          refine zr_call51 (rest := []) (zs_F (As := []) (by omega) okF_J2_size (by decide +kernel) q1178 q162 q164 q56 q166 hfl4 rfl rfl rfl (Nat.le_of_ble_eq_true rfl) dX1_addWord_67) (c_size (m := (kWd c i).length + 1) (by omega) hW4 (by rw [List.length_map, kTouch_W, hW1])) ?_
          exact zr_iret rfl rfl dX1_addWord_72 (⟨oR_ok, _, hS4, rfl, ((hX2.mono (fun s h => TW_SC hle hi h)).trans hX4).le (by omega)⟩)
      · have ht0 : kText c i = false := by simpa using ht
        rw [pWord_4 hle hi hk ht0, ht0]
        obtain ⟨_, σ1, ⟨q, rfl, hX⟩, hC⟩ := c_requireAllowed0 (d := d - 1) (by omega) hG hw
        show zR _ _ _ _ _ _ _ _ _ [.int 0] _ _
        refine zr_callX (rest := []) (zs_S (As := [.int 0]) (by omega) ok_X1_requireAllowed q1670 q1671 q53 q1672 rfl rfl (Nat.le_of_ble_eq_true rfl) dX1_addWord_20) hC ?_
        exact zx_out (by decide) ⟨oR_x (by decide), c, hS.keep0 hw hX, rfl, hX.in.le (by omega)⟩
    · have hk0 : btw v 1 60 = false := by simpa using hk
      rw [pWord_2 hle hi hk0, hk0]
      obtain ⟨_, σ1, ⟨q, rfl, hX⟩, hC⟩ := c_requireArgument0 (d := d - 1) (by omega) hG hw
      show zR _ _ _ _ _ _ _ _ _ [.int 0] _ _
      refine zr_callX (rest := []) (zs_S (As := [.int 0]) (by omega) ok_X1_requireArgument q1644 q1645 q53 q1646 rfl rfl (Nat.le_of_ble_eq_true rfl) dX1_addWord_13) hC ?_
      exact zx_out (by decide) ⟨oR_x (by decide), c, hS.keep0 hw hX, rfl, hX.in.le (by omega)⟩
  · have hb0 : btw n 0 (nI (kN c) - 1) = false := by simpa using hb
    rw [pWord_0 hb0]
    obtain ⟨_, σ1, ⟨q, rfl, hX⟩, hC⟩ := c_box0 (d := d - 1) (by omega) hG hw hS hb0
    obtain ⟨fl_hfl, hfl⟩ := hS.bxL.A
    refine zr_aload_n dX1_addWord_0 rfl rfl ?_
    refine zr_iload_n dX1_addWord_1 rfl rfl ?_
    refine zr_callX (rest := []) (zs_V (As := [.int n]) (by omega) ok_X1_box q1629 q1631 qs28 q53 q1632 rfl hS.one rfl rfl rfl (Nat.le_of_ble_eq_true rfl) dX1_addWord_2) hC ?_
    exact zx_out (by decide) ⟨oR_x (by decide), c, hS.keep0 hw hX, rfl, hX.in.le (by omega)⟩
