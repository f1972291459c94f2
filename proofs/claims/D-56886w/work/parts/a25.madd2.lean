/-! ===== the reference: add (rows printed by tools/p125.py) ===== -/
def nAdd (c : zCS) (n kd : Int32) : Nat := if btw n 0 (nI (kN c) - 1) = true then (if isKd kd = true then (if kN c = 24 then 3 else if kF c n.toNatClampNeg 2 = 116 ∨ kF c n.toNatClampNeg 3 = 7 then 4 else 0) else 2) else 1
theorem ST4m_SM {N i s : Nat} (h : N ≤ 24) (hi : i < N) (hs : ST4m i s) : SM s := by
  unfold ST4m rC at hs
  exact ⟨by omega, by omega⟩
set_option maxHeartbeats 4000000 in
theorem c_X4_add {G : zG} {σ : zT} {d : Nat} {c : zCS} {th ct : Int32} {n kd : Int32} (hd : 20 ≤ d) (hG : zOk G) (hw : zGd G σ) (hS : MSys G σ c th ct) : zCall G I_X4_add d [.ref (kA c 1), .int n, .int kd] σ ((fun o σ' => (nAdd c n kd ≠ 0 ∧ (∃ v, o = .inl (some v)) ∧ MSys G σ' c (nI (nAdd c n kd)) ct ∧ zX G SM σ σ' 300) ∨ (nAdd c n kd = 0 ∧ o = .inl (some (.int (nI (kN c)))) ∧ (∃ A, MSys G σ' (mMark (mAddA c n.toNatClampNeg kd A) (kN c)) 0 ct ∧ (∀ t, t < 16 * kN c + 16 → A t = kA c t)) ∧ zX G SM σ σ' 300))) := by
  refine zCall_of (ls := [(0, .ref (kA c 1)), (1, .int n), (2, .int kd)]) (by decide) (Nat.le_of_ble_eq_true rfl) rfl ?_
  have hle := hS.le
  obtain ⟨fl_hfl, hfl⟩ := hS.bxL.A
  have key : ∀ z : Int32, z = bI (isKd kd) → zR G yX4_add cX4_add 6 (Option.some Jvm.ClassFile.FieldType.int) [] d 29 [(0, .ref (kA c 1)), (1, .int n), (2, .int kd)] [.int z] σ (fun o σ' => (nAdd c n kd ≠ 0 ∧ (∃ v, o = .inl (some v)) ∧ MSys G σ' c (nI (nAdd c n kd)) ct ∧ zX G SM σ σ' 300) ∨ (nAdd c n kd = 0 ∧ o = .inl (some (.int (nI (kN c)))) ∧ (∃ A, MSys G σ' (mMark (mAddA c n.toNatClampNeg kd A) (kN c)) 0 ct ∧ (∀ t, t < 16 * kN c + 16 → A t = kA c t)) ∧ zX G SM σ σ' 300)) := by
    intro z hz
    subst hz
    refine zr_istore_n (ls2 := [(0, .ref (kA c 1)), (1, .int n), (2, .int kd), (3, .int (bI (isKd kd)))]) dX4_add_29 rfl (Nat.le_of_ble_eq_true rfl) rfl ?_
    refine zr_aload_n dX4_add_30 rfl rfl ?_
    refine zr_aload_n dX4_add_31 rfl rfl ?_
    refine zr_iload_n dX4_add_32 rfl rfl ?_
    refine zr_call1 (rest := [.ref (kA c 1)]) (zs_V (As := [.int n]) (by omega) ok_X4_isBox q2242 q2244 qs36 q77 q2245 rfl hS.one rfl rfl rfl (Nat.le_of_ble_eq_true rfl) dX4_add_33) (c_X4_isBox (n := n) (by omega) hS) ?_
    refine zr_ifneB (tgt := 43) dX4_add_36 (by decide) (fun hb => ?_) (fun hb => ?_)
    · refine zr_iload_n dX4_add_43 rfl rfl ?_
      refine zr_ifneB (tgt := 51) dX4_add_44 (by decide) (fun hk => ?_) (fun hk => ?_)
      · refine zr_aload_n dX4_add_51 rfl rfl ?_
        refine zr_get (k := 0) (v := .ref (kA c 2)) in_X4 hS.one rfl (Nat.le_of_ble_eq_true rfl) q2218 (.inl rfl) rfl dX4_add_52 ?_
        refine zr_call1 (rest := [.ref (kA c 1)]) (zs_V (As := []) (by omega) ok_J2_size q2246 q164 q2839 q56 q166 rfl hfl rfl rfl rfl (Nat.le_of_ble_eq_true rfl) dX4_add_55) (c_size (by omega) hS.bxL (MSys.bxl c)) ?_
        refine zr_bipush (v := 24) dX4_add_58 (by decide) ?_
        refine zr_icmp_ne (tgt := 67) dX4_add_60 (by decide) (fun h24 => ?_) (fun h24 => ?_)
        · have h24n : ¬ kN c = 24 := fun h => h24 (by rw [h]; rfl)
          obtain ⟨i, hi, rfl⟩ := btw_idx (by omega) hb
          have hcl : (nI i).toNatClampNeg = i := nI_clamp (by omega)
          have hS1 := hS.setT 0
          have hX1 := hS.XO hw (mO c 0 ct)
          generalize hσ1 : sUp σ (kA c 1) (.inr (4, mO c 0 ct)) = σ1 at hS1 hX1
          have hone1 := hS1.one
          refine zr_iconst (v := 0) dX4_add_67 (by decide) ?_
          refine zr_put (k := 1) (fs' := (mO c 0 ct)) zt_X4 hS.1.1 rfl (Nat.le_of_ble_eq_true rfl) q2219 (.inl rfl) rfl rfl rfl (Nat.le_of_ble_eq_true rfl) rfl dX4_add_68 ?_
          rw [hσ1]
          obtain ⟨fl_hfl9, hfl9⟩ := hS1.bxL.A
          refine zr_aload_n dX4_add_71 rfl rfl ?_
          refine zr_get (k := 1) (v := .int 0) in_X4 hone1 rfl (Nat.le_of_ble_eq_true rfl) q2219 (.inl rfl) rfl dX4_add_72 ?_
          refine zr_if_le (tgt := 80) dX4_add_75 (by decide) (fun _ => ?_) (fun h9 => absurd (by decide) h9)
          refine zr_aload_n dX4_add_80 rfl rfl ?_
          refine zr_get (k := 0) (v := .ref (kA c 2)) in_X4 hone1 rfl (Nat.le_of_ble_eq_true rfl) q2218 (.inl rfl) rfl dX4_add_81 ?_
          refine zr_iload_n dX4_add_84 rfl rfl ?_
          refine zr_call1 (rest := []) (zs_V (As := [.int (nI i)]) (by omega) ok_J2_get q2250 q959 q2840 q56 q960 rfl hfl9 rfl rfl rfl (Nat.le_of_ble_eq_true rfl) dX4_add_85) (c_J2_get (by omega) hG hS1.bxL (MSys.bxa hi)) ?_
          refine zr_castS (hS1.bx hi) rfl q2084 dX4_add_88 ?_
          refine zr_astore (ls2 := [(0, .ref (kA c 1)), (1, .int (nI i)), (2, .int kd), (3, .int (bI (isKd kd))), (4, .ref (kA c (rB i)))]) dX4_add_91 (Nat.le_of_ble_eq_true rfl) rfl ?_
          refine zr_aload_n dX4_add_93 rfl rfl ?_
          refine zr_aload dX4_add_94 rfl ?_
          refine zr_get (k := 1) (v := .int (kF c i 2)) in_X5 (hS1.bx hi) rfl (Nat.le_of_ble_eq_true rfl) q2095 (.inl rfl) rfl dX4_add_96 ?_
          refine zr_bipush (v := 116) dX4_add_99 (by decide) ?_
          refine zr_icmp_eq (tgt := 114) dX4_add_101 (by decide) (fun h2 => ?_) (fun h2 => ?_)
          · have e9 : nAdd c (nI i) kd = 4 := by unfold nAdd; rw [if_pos hb, if_pos hk, if_neg h24n, hcl, if_pos (Or.inl (by first | exact h2 | exact Decidable.not_not.mp h2))]
            rw [e9]
            refine zr_iconst (v := 4) dX4_add_114 (by decide) ?_
            refine zr_goto (tgt := 119) dX4_add_115 (by decide) ?_
            refine zr_put (k := 1) (fs' := (mO c 4 ct)) zt_X4 hS1.1.1 rfl (Nat.le_of_ble_eq_true rfl) q2219 (.inl rfl) rfl rfl rfl (Nat.le_of_ble_eq_true rfl) rfl dX4_add_119 ?_
            refine zr_aload_n dX4_add_122 rfl rfl ?_
            refine zr_get (k := 1) (v := .int 4) in_X4 (.new (sF_upS _ _ _)) rfl (Nat.le_of_ble_eq_true rfl) q2219 (.inl rfl) rfl dX4_add_123 ?_
            refine zr_if_le (tgt := 131) dX4_add_126 (by decide) (fun h9 => absurd h9 (by decide)) (fun _ => ?_)
            refine zr_iconst (v := 0) dX4_add_129 (by decide) ?_
            exact zr_iret rfl rfl dX4_add_130 (Or.inl ⟨by decide, ⟨_, rfl⟩, hS1.setT 4, (hX1.trans (hS1.XO hX1.gd _)).le (by omega)⟩)
          · refine zr_aload dX4_add_104 rfl ?_
            refine zr_get (k := 3) (v := .int (kF c i 3)) in_X5 (hS1.bx hi) rfl (Nat.le_of_ble_eq_true rfl) q2099 (.inl rfl) rfl dX4_add_106 ?_
            refine zr_bipush (v := 7) dX4_add_109 (by decide) ?_
            refine zr_icmp_ne (tgt := 118) dX4_add_111 (by decide) (fun h3 => ?_) (fun h3 => ?_)
            · have h2n : kF c i 2 ≠ 116 := by first | exact h2 | exact fun h => h2 h
              have e9 : nAdd c (nI i) kd = 0 := by unfold nAdd; rw [if_pos hb, if_pos hk, if_neg h24n, hcl, if_neg (fun h => h.elim h2n (by first | exact h3 | exact fun h => h3 h))]
              rw [e9, hcl]
              have hkd := isKd_1 hk
              have hlt : kN c < 24 := by omega
              have hSa := hS1.setT 0
              have hXa := hX1.trans (hS1.XO hX1.gd (mO c 0 ct))
              generalize hσa : sUp σ1 (kA c 1) (.inr (4, mO c 0 ct)) = σa at hSa hXa
              have honea := hSa.one
              have hzz := zX.new S0 hXa.gd (1000 + rB (kN c)) (by unfold rB; omega) (.inr (5, d0_X5)) 31
              have hSn := hSa.keep0 hXa.gd hzz
              obtain ⟨_, σb, ⟨ch, wd, ln, rfl, hXb, _, hb1, hch, hwd, hln⟩, hCb⟩ := c_mbinit (d := d - 1) (G := G) (σ0 := σa) (N := kN c) (n := nI (kN c)) (kd := kd) (q := kA c (rB i)) (dq := kF c i 3) (by omega) hG hzz.gd (by omega) hzz (Nat.le_refl _) (sF_newS _ _ _ _) (sT_newS _ _ _ _) hkd (hSn.bF hi) rfl (by rw [(hSn.2.2.1 i hi).1.2]; unfold rB; omega)
              refine zr_iconst (v := 0) dX4_add_118 (by decide) ?_
              refine zr_put (k := 1) (fs' := (mO c 0 ct)) zt_X4 hS1.1.1 rfl (Nat.le_of_ble_eq_true rfl) q2219 (.inl rfl) rfl rfl rfl (Nat.le_of_ble_eq_true rfl) rfl dX4_add_119 ?_
              rw [hσa]
              refine zr_aload_n dX4_add_122 rfl rfl ?_
              refine zr_get (k := 1) (v := .int 0) in_X4 honea rfl (Nat.le_of_ble_eq_true rfl) q2219 (.inl rfl) rfl dX4_add_123 ?_
              refine zr_if_le (tgt := 131) dX4_add_126 (by decide) (fun _ => ?_) (fun h9 => absurd (by decide) h9)
              refine zr_new (ci := 5) (1000 + rB (kN c)) zt_X5 q2084 q2085 q78 rfl df_X5 dX4_add_131 ?_
              have honen := hSn.one
              obtain ⟨fln, hfln⟩ := hSn.bxL.A
              refine zr_dup dX4_add_134 rfl ?_
              refine zr_aload_n dX4_add_135 rfl rfl ?_
              refine zr_get (k := 0) (v := .ref (kA c 2)) in_X4 honen rfl (Nat.le_of_ble_eq_true rfl) q2218 (.inl rfl) rfl dX4_add_136 ?_
              refine zr_call1 (rest := [.ref (sZ σa), .ref (sZ σa)]) (zs_V (As := []) (by omega) ok_J2_size q2246 q164 q2839 q56 q166 rfl hfln rfl rfl rfl (Nat.le_of_ble_eq_true rfl) dX4_add_139) (c_size (by omega) hSn.bxL (MSys.bxl c)) ?_
              refine zr_iload_n dX4_add_142 rfl rfl ?_
              refine zr_aload dX4_add_143 rfl ?_
              refine zr_callv (rest := [.ref (sZ σa)]) (zs_I (As := [.int (nI (kN c)), .int kd, .ref (kA c (rB i))]) (by omega) ok_X5_init q2086 q2087 q78 q2088 rfl rfl rfl (Nat.le_of_ble_eq_true rfl) dX4_add_145) hCb ?_
              obtain ⟨b, hb9⟩ : ∃ b, b = sZ σa := ⟨_, rfl⟩
              rw [← hb9] at hb1 ⊢
              have hSb := hSa.keep0 hXa.gd hXb
              have hnb : zAt G σb b (.inr (5, _)) := .new hb1.1
              obtain ⟨flb, hflb⟩ := (hSb.chL hi).A
              refine zr_astore (ls2 := [(0, .ref (kA c 1)), (1, .int (nI i)), (2, .int kd), (3, .int (bI (isKd kd))), (4, .ref (kA c (rB i))), (5, .ref b)]) dX4_add_148 (Nat.le_of_ble_eq_true rfl) rfl ?_
              refine zr_aload dX4_add_150 rfl ?_
              refine zr_get (k := 4) (v := .ref (kA c (rC i))) in_X5 (hSb.bx hi) rfl (Nat.le_of_ble_eq_true rfl) q2101 (.inl rfl) rfl dX4_add_152 ?_
              refine zr_aload dX4_add_155 rfl ?_
              have hel : ∀ σ9 : zT, ∀ y : Nat, (∃ fs, zAt G σ9 y (.inr (5, fs))) → zEl G σ9 y := fun σ9 y ⟨fs, h⟩ => ⟨_, _, _, _, _, h, rfl, q2850⟩
              have hlc : ((kCh c i).map (fun j => kA c (rB j))).length ≤ 24 := by rw [List.length_map]; exact hS.chl hi
              obtain ⟨_, σ2, ⟨rfl, hL2, hX2⟩, hC2⟩ := c_add (d := d - 1) (x := b) (by omega) hG hXb.gd (hSb.chL hi) (by omega) (hel _ _ ⟨_, hnb⟩) (fun y hy => by
                obtain ⟨j, hj, rfl⟩ := List.mem_map.mp hy
                exact hel _ _ ⟨_, hSb.bx (hSb.ch hi hj).2⟩)
              refine zr_call1 (rest := []) (zs_V (As := [.ref b]) (by omega) ok_J2_add q2217 q357 q2838 q56 q359 rfl hflb rfl rfl rfl (Nat.le_of_ble_eq_true rfl) dX4_add_157) hC2 ?_
              have hbl2 := hX2.L hXb.gd hSb.bxL (by unfold rC; omega) (by unfold rC; omega)
              obtain ⟨fl2, hfl2⟩ := hbl2.A
              have h1F := hX2.f hXb.gd hSb.1.1 (by rw [hSb.1.2]; unfold rC; omega)
              refine zr_pop dX4_add_160 rfl ?_
              refine zr_aload_n dX4_add_161 rfl rfl ?_
              refine zr_get (k := 0) (v := .ref (kA c 2)) in_X4 (.new h1F) rfl (Nat.le_of_ble_eq_true rfl) q2218 (.inl rfl) rfl dX4_add_162 ?_
              refine zr_aload dX4_add_165 rfl ?_
              obtain ⟨_, σ3, ⟨rfl, hL3, hX3⟩, hC3⟩ := c_add (d := d - 1) (x := b) (by omega) hG hX2.gd hbl2 (by rw [MSys.bxl]; omega) (hX2.2.2.1 _ (hel _ _ ⟨_, hnb⟩)) (fun y hy => by
                obtain ⟨j, hj, rfl⟩ := List.mem_map.mp hy
                exact hX2.2.2.1 _ (hel _ _ ⟨_, hSb.bx (List.mem_range.mp hj)⟩))
              rw [MSys.bxl] at hX3
              rw [List.length_map] at hX2
              refine zr_call1 (rest := []) (zs_V (As := [.ref b]) (by omega) ok_J2_add q2217 q357 q2838 q56 q359 rfl hfl2 rfl rfl rfl (Nat.le_of_ble_eq_true rfl) dX4_add_167) hC3 ?_
              have hX12 : zX G (ST4m i) σb σ3 _ := (hX2.mono (fun s h => Or.inr (Or.inr h))).trans (hX3.mono (fun s h => h.elim Or.inl (fun h => Or.inr (Or.inl h))))
              have hX03 : zX G (ST4m i) σa σ3 _ := hXb.in.trans hX12
              have hS3 := MSys.add hSa hXa.gd hXb.gd hlt hi hkd hX03 hX12 h2n hb1.1 hb1.2 hch hwd hln hL3 (hX3.L hX2.gd hL2 (by unfold rC; omega) (by unfold rC; omega))
              obtain ⟨c1, hc1⟩ : ∃ c1, c1 = mAddA c i kd (addA c b ch wd 0 ln) := ⟨_, rfl⟩
              have hN1 : kN c1 = kN c + 1 := by rw [hc1]; rfl
              have hAb : kA c1 (rB (kN c)) = b := by rw [hc1]; exact addA_b c b ch wd 0 ln
              have hA1 : kA c1 1 = kA c 1 := by rw [hc1]; show addA c b ch wd 0 ln 1 = kA c 1; exact addA_o (by omega)
              have hcl9 := hS.chl hi
              rw [← hc1] at hS3
              rw [← hAb, ← hA1]
              obtain ⟨_, σ4, ⟨rfl, hS4, hX4⟩, hC4⟩ := c_X4_mark (d := d - 1) hX03.gd hS3 (i := kN c) (by omega)
              have hone3 := hS3.one
              have hA4 : kA (mMark c1 (kN c)) = kA c1 := (mrk_NA c1 (kN c)).2.1
              have hN4 : kN (mMark c1 (kN c)) = kN c1 := (mrk_NA c1 (kN c)).1
              have hb4 : zAt G σ4 (kA c1 (rB (kN c))) (.inr (5, mBx (mMark c1 (kN c)) (kN c))) := hA4 ▸ hS4.bx (i := kN c) (by omega)
              refine zr_pop dX4_add_170 rfl ?_
              refine zr_aload_n dX4_add_171 rfl rfl ?_
              refine zr_aload dX4_add_172 rfl ?_
              refine zr_callv (rest := []) (zs_V (As := [.ref (kA c1 (rB (kN c)))]) (by omega) ok_X4_mark q2251 q2253 qs37 q77 q2254 rfl hone3 rfl rfl rfl (Nat.le_of_ble_eq_true rfl) dX4_add_174) hC4 ?_
              refine zr_aload dX4_add_177 rfl ?_
              refine zr_get (k := 0) (v := .int (nI (kN c))) in_X5 hb4 rfl (Nat.le_of_ble_eq_true rfl) q2093 (.inl rfl) rfl dX4_add_179 ?_
              exact zr_iret rfl rfl dX4_add_182 (Or.inr ⟨rfl, rfl, ⟨addA c b ch wd 0 ln, hc1 ▸ hS4, fun t ht => addA_o ht⟩, ((hXa.trans (hX03.mono (fun s h => ST4m_SM hle hi h))).trans hX4).le (by omega)⟩)
            · have e9 : nAdd c (nI i) kd = 4 := by unfold nAdd; rw [if_pos hb, if_pos hk, if_neg h24n, hcl, if_pos (Or.inr (by first | exact h3 | exact Decidable.not_not.mp h3))]
              rw [e9]
              refine zr_iconst (v := 4) dX4_add_114 (by decide) ?_
              refine zr_goto (tgt := 119) dX4_add_115 (by decide) ?_
              refine zr_put (k := 1) (fs' := (mO c 4 ct)) zt_X4 hS1.1.1 rfl (Nat.le_of_ble_eq_true rfl) q2219 (.inl rfl) rfl rfl rfl (Nat.le_of_ble_eq_true rfl) rfl dX4_add_119 ?_
              refine zr_aload_n dX4_add_122 rfl rfl ?_
              refine zr_get (k := 1) (v := .int 4) in_X4 (.new (sF_upS _ _ _)) rfl (Nat.le_of_ble_eq_true rfl) q2219 (.inl rfl) rfl dX4_add_123 ?_
              refine zr_if_le (tgt := 131) dX4_add_126 (by decide) (fun h9 => absurd h9 (by decide)) (fun _ => ?_)
              refine zr_iconst (v := 0) dX4_add_129 (by decide) ?_
              exact zr_iret rfl rfl dX4_add_130 (Or.inl ⟨by decide, ⟨_, rfl⟩, hS1.setT 4, (hX1.trans (hS1.XO hX1.gd _)).le (by omega)⟩)
        · have h24e : nI (kN c) = nI 24 := by first | exact h24 | exact Decidable.not_not.mp h24
          have h24n : kN c = 24 := nI_injN (by omega) (by omega) h24e
          have e9 : nAdd c n kd = 3 := by unfold nAdd; rw [if_pos hb, if_pos hk, if_pos h24n]
          rw [e9]
          refine zr_iconst (v := 3) dX4_add_63 (by decide) ?_
          refine zr_goto (tgt := 68) dX4_add_64 (by decide) ?_
          refine zr_put (k := 1) (fs' := (mO c 3 ct)) zt_X4 hS.1.1 rfl (Nat.le_of_ble_eq_true rfl) q2219 (.inl rfl) rfl rfl rfl (Nat.le_of_ble_eq_true rfl) rfl dX4_add_68 ?_
          refine zr_aload_n dX4_add_71 rfl rfl ?_
          refine zr_get (k := 1) (v := .int 3) in_X4 (.new (sF_upS _ _ _)) rfl (Nat.le_of_ble_eq_true rfl) q2219 (.inl rfl) rfl dX4_add_72 ?_
          refine zr_if_le (tgt := 80) dX4_add_75 (by decide) (fun h9 => absurd h9 (by decide)) (fun _ => ?_)
          refine zr_iconst (v := 0) dX4_add_78 (by decide) ?_
          exact zr_iret rfl rfl dX4_add_79 (Or.inl ⟨by decide, ⟨_, rfl⟩, hS.setT 3, (hS.XO hw _).le (by omega)⟩)
      · have e9 : nAdd c n kd = 2 := by unfold nAdd; rw [if_pos hb, if_neg (by rw [hk]; decide)]
        rw [e9]
        refine zr_iconst (v := 2) dX4_add_47 (by decide) ?_
        refine zr_goto (tgt := 68) dX4_add_48 (by decide) ?_
        refine zr_put (k := 1) (fs' := (mO c 2 ct)) zt_X4 hS.1.1 rfl (Nat.le_of_ble_eq_true rfl) q2219 (.inl rfl) rfl rfl rfl (Nat.le_of_ble_eq_true rfl) rfl dX4_add_68 ?_
        refine zr_aload_n dX4_add_71 rfl rfl ?_
        refine zr_get (k := 1) (v := .int 2) in_X4 (.new (sF_upS _ _ _)) rfl (Nat.le_of_ble_eq_true rfl) q2219 (.inl rfl) rfl dX4_add_72 ?_
        refine zr_if_le (tgt := 80) dX4_add_75 (by decide) (fun h9 => absurd h9 (by decide)) (fun _ => ?_)
        refine zr_iconst (v := 0) dX4_add_78 (by decide) ?_
        exact zr_iret rfl rfl dX4_add_79 (Or.inl ⟨by decide, ⟨_, rfl⟩, hS.setT 2, (hS.XO hw _).le (by omega)⟩)
    · have e9 : nAdd c n kd = 1 := by unfold nAdd; rw [if_neg (by rw [hb]; decide)]
      rw [e9]
      refine zr_iconst (v := 1) dX4_add_39 (by decide) ?_
      refine zr_goto (tgt := 68) dX4_add_40 (by decide) ?_
      refine zr_put (k := 1) (fs' := (mO c 1 ct)) zt_X4 hS.1.1 rfl (Nat.le_of_ble_eq_true rfl) q2219 (.inl rfl) rfl rfl rfl (Nat.le_of_ble_eq_true rfl) rfl dX4_add_68 ?_
      refine zr_aload_n dX4_add_71 rfl rfl ?_
      refine zr_get (k := 1) (v := .int 1) in_X4 (.new (sF_upS _ _ _)) rfl (Nat.le_of_ble_eq_true rfl) q2219 (.inl rfl) rfl dX4_add_72 ?_
      refine zr_if_le (tgt := 80) dX4_add_75 (by decide) (fun h9 => absurd h9 (by decide)) (fun _ => ?_)
      refine zr_iconst (v := 0) dX4_add_78 (by decide) ?_
      exact zr_iret rfl rfl dX4_add_79 (Or.inl ⟨by decide, ⟨_, rfl⟩, hS.setT 1, (hS.XO hw _).le (by omega)⟩)
  refine zr_iload_n dX4_add_0 rfl rfl ?_
  refine zr_bipush (v := 98) dX4_add_1 (by decide) ?_
  refine zr_icmp_eq (tgt := 24) dX4_add_3 (by decide) (fun c_6 => ?_) (fun c_6 => ?_)
  · refine zr_iconst (v := 1) dX4_add_24 (by decide) ?_
    refine zr_goto (tgt := 29) dX4_add_25 (by decide) ?_
    exact key _ (by rw [show isKd kd = true from by simp [isKd, c_6]]; rfl)
  · refine zr_iload_n dX4_add_6 rfl rfl ?_
    refine zr_bipush (v := 116) dX4_add_7 (by decide) ?_
    refine zr_icmp_eq (tgt := 24) dX4_add_9 (by decide) (fun c_7 => ?_) (fun c_7 => ?_)
    · refine zr_iconst (v := 1) dX4_add_24 (by decide) ?_
      refine zr_goto (tgt := 29) dX4_add_25 (by decide) ?_
      exact key _ (by rw [show isKd kd = true from by simp [isKd, c_6, c_7]]; rfl)
    · refine zr_iload_n dX4_add_12 rfl rfl ?_
      refine zr_bipush (v := 102) dX4_add_13 (by decide) ?_
      refine zr_icmp_eq (tgt := 24) dX4_add_15 (by decide) (fun c_8 => ?_) (fun c_8 => ?_)
      · refine zr_iconst (v := 1) dX4_add_24 (by decide) ?_
        refine zr_goto (tgt := 29) dX4_add_25 (by decide) ?_
        exact key _ (by rw [show isKd kd = true from by simp [isKd, c_6, c_7, c_8]]; rfl)
      · refine zr_iload_n dX4_add_18 rfl rfl ?_
        refine zr_bipush (v := 103) dX4_add_19 (by decide) ?_
        refine zr_icmp_ne (tgt := 28) dX4_add_21 (by decide) (fun c_9 => ?_) (fun c_9 => ?_)
        · refine zr_iconst (v := 0) dX4_add_28 (by decide) ?_
          exact key _ (by rw [show isKd kd = false from by simp [isKd, c_6, c_7, c_8, c_9]]; rfl)
        · refine zr_iconst (v := 1) dX4_add_24 (by decide) ?_
          refine zr_goto (tgt := 29) dX4_add_25 (by decide) ?_
          exact key _ (by rw [show isKd kd = true from by simp [isKd, c_6, c_7, c_8, c_9]]; rfl)
