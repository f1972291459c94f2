/-! ===== the reference: block (rows printed by tools/p114.py) ===== -/
theorem PsS.upI {G : zG} {σ : zT} {fa a : Nat} {fs : List P5} {gs hs : List Value} (h : PsS G σ fa fs) (ha : sF σ a = some (.inr (21, gs))) : PsS G (sUp σ a (.inr (21, hs))) fa fs := by
  obtain ⟨mod, xs, l1, l2, l3, l4⟩ := h
  refine ⟨mod, xs, l1.upO ha (by decide), l2, l3, fun j q z hq hz => ?_⟩
  obtain ⟨m1, m2, m3⟩ := l4 j q z hq hz
  exact ⟨(sF_upN _ _ _ (sF_ne m1 ha (zE_ne (by decide)))).trans m1, m2, m3⟩
theorem MSys.upI {G : zG} {σ : zT} {c : zCS} {th ct : Int32} {a : Nat} {gs hs : List Value} (hS : MSys G σ c th ct) (ha : sF σ a = some (.inr (21, gs))) : MSys G (sUp σ a (.inr (21, hs))) c th ct := by
  refine hS.upO ha (by decide) (by decide) rfl rfl rfl rfl rfl rfl hS.2.2.2 ?_ (fun j hj => ?_)
  · rw [sF_upN _ _ _ (sF_ne hS.1.1 ha (zE_ne (by decide)))]; exact hS.1.1
  · rw [sF_upN _ _ _ (sF_ne (hS.bF hj) ha (zE_ne (by decide)))]; exact hS.bF hj
theorem MSys.chQ {G : zG} {σ : zT} {c0 c : zCS} {th ct : Int32} (h : MSys G σ c th ct) (hE : MQe c0 c) {i : Nat} (hi : i < kN c0) : zL G σ (1000 + rC i) (kA c0 (rC i)) (kM c0 (rC i)) ((kCh c0 i).map (fun j => kA c0 (rB j))) := by
  have h1 := h.chL (i := i) (by rw [hE.n]; exact hi)
  rw [hE.2, hE.1.m, hE.1.ch] at h1
  exact h1
theorem mFlows_le {L : LM} {C : CM} {s : MT} {ps : List P5} {j : Nat} {x y w : Int32} {b : Bool} : True := trivial
set_option maxHeartbeats 4000000 in
theorem l_X4_block {G : zG} {σ : zT} {d f F N : Nat} {c0 : zCS} {th : Int32} {i fa it : Nat} {x y edge inner : Int32} {b : Bool} {L : LM} {C : CM} {Q : zO → zT → Prop} (hd : 84 ≤ d) (hG : zOk G) (hw : zGd G σ) (hi : i < kN c0) (hK : KWf c0) (hf : kN c0 ≤ f + 1 + i) (hit : sZ σ ≤ it) (hF24 : F ≤ 24) (hLM : HLM G th L f (d - 2)) (hCM : HCM G th C f (d - 2)) : ∀ (ys : List Nat) (k n : Nat) (lr : Int32) (s : BT) (σ1 : zT), (kCh c0 i).drop k = ys → k ≤ (kCh c0 i).length → MQe c0 s.1.1.1 → zX G (SMF fa) σ σ1 n → n + (ys.map (LX f c0)).sum ≤ N → MSys G σ1 s.1.1.1 th s.1.1.2 → PsS G σ1 fa s.1.2 → s.1.2.length + (ys.map (fun j => 1 + FC f c0 j)).sum ≤ F → sF σ1 it = some (.inr (21, [.int (nI k), .int lr, .int (kM c0 (rC i)), .ref (kA c0 (rC i))])) → sT σ1 it = 0 → (∀ σ2, zX G (SMF fa) σ σ2 N → MSys G σ2 (ys.foldl (mBkS L C edge inner y b) s).1.1.1 th (ys.foldl (mBkS L C edge inner y b) s).1.1.2 → PsS G σ2 fa (ys.foldl (mBkS L C edge inner y b) s).1.2 → (ys.foldl (mBkS L C edge inner y b) s).1.2.length ≤ F → zR G yX4_block cX4_block 15 (Option.some Jvm.ClassFile.FieldType.int) [] d 334 [(0, .ref (kA c0 1)), (1, .ref (kA c0 (rB i))), (8, .int (ys.foldl (mBkS L C edge inner y b) s).2.1), (9, .int (ys.foldl (mBkS L C edge inner y b) s).2.2.1), (10, .int (ys.foldl (mBkS L C edge inner y b) s).2.2.2)] [] σ2 Q) → zR G yX4_block cX4_block 15 (Option.some Jvm.ClassFile.FieldType.int) [] d 35 [(0, .ref (kA c0 1)), (1, .ref (kA c0 (rB i))), (2, .int x), (3, .int y), (4, .ref fa), (5, .int (bI b)), (6, .int edge), (7, .int inner), (8, .int s.2.1), (9, .int s.2.2.1), (10, .int s.2.2.2), (11, .ref it)] [] σ1 Q := by
  intro ys
  induction ys with
  | nil =>
    intro k n lr s σ1 hy hk hE hX hN hS hP hl hI hT kQ
    have hL1 := hS.chQ hE hi
    have hkl := drop_nil hy hk
    rw [List.map_nil, List.sum_nil] at hl hN
    refine zr_aload dX4_block_35 rfl ?_
    refine zr_call51 (rest := []) (zs_F (As := []) (by omega) okF_J23_hasNext (by decide +kernel) q2324 q927 q929 q84 q931 (.new hI) rfl rfl rfl (Nat.le_of_ble_eq_true rfl) dX4_block_37) (c_hasNext0 hL1 hI (by rw [List.length_map]; exact hkl)) ?_
    refine zr_if_eq (tgt := 334) dX4_block_42 (by decide) (fun _ => ?_) (fun h9 => absurd (rfl) h9)
    refine zr_sub (ls2 := [(0, .ref (kA c0 1)), (1, .ref (kA c0 (rB i))), (8, .int s.2.1), (9, .int s.2.2.1), (10, .int s.2.2.2)]) [0, 1, 8, 9, 10] rfl ?_
    exact kQ σ1 (hX.le (by omega)) hS hP (by rw [List.foldl_nil]; omega)
  | cons j ys ih =>
    intro k n lr s σ1 hy hk hE hX hN hS hP hl hI hT kQ
    have hL1 := hS.chQ hE hi
    obtain ⟨hx, hy2, hkl, hm⟩ := drop_cons hy
    have hj := hK.ch hi hm
    rw [List.map_cons, List.sum_cons] at hl hN
    have hX2 := hX.upN (gs := [.int (nI (k + 1)), .int (nI k), .int (kM c0 (rC i)), .ref (kA c0 (rC i))]) hI hit
    have hS2 := hS.upI (hs := [.int (nI (k + 1)), .int (nI k), .int (kM c0 (rC i)), .ref (kA c0 (rC i))]) hI
    have hP2 := hP.upI (hs := [.int (nI (k + 1)), .int (nI k), .int (kM c0 (rC i)), .ref (kA c0 (rC i))]) hI
    have hI2 : sF (sUp σ1 it (.inr (21, [.int (nI (k + 1)), .int (nI k), .int (kM c0 (rC i)), .ref (kA c0 (rC i))]))) it = _ := sF_upS _ _ _
    have hT2 : sT (sUp σ1 it (.inr (21, [.int (nI (k + 1)), .int (nI k), .int (kM c0 (rC i)), .ref (kA c0 (rC i))]))) it = 0 := hT
    generalize hσ2 : sUp σ1 it (.inr (21, [.int (nI (k + 1)), .int (nI k), .int (kM c0 (rC i)), .ref (kA c0 (rC i))])) = σ2 at hX2 hS2 hP2 hI2 hT2
    rw [List.foldl_cons] at kQ
    have hj1 : j < kN s.1.1.1 := by rw [hE.n]; exact hj.2.1
    have hbj : zAt G σ2 (kA c0 (rB j)) (.inr (5, mBx s.1.1.1 j)) := hE.2 ▸ hS2.bx hj1
    have h12 : zAt G σ2 (kA c0 1) (.inr (4, mO s.1.1.1 th s.1.1.2)) := hE.2 ▸ hS2.one
    have hlf : zC G I_X5_isLifted (d - 1) [.ref (kA c0 (rB j))] σ2 (.inl (some (.int (bI (kLifted s.1.1.1 j))))) σ2 := hE.2 ▸ c_X5_isLifted hS2 hj1
    have hfl : zC G I_X5_isFloat (d - 1) [.ref (kA c0 (rB j))] σ2 (.inl (some (.int (bI (mFloat s.1.1.1 j))))) σ2 := hE.2 ▸ c_X5_isFloat (by omega) hS2 hj1
    refine zr_aload dX4_block_35 rfl ?_
    refine zr_call51 (rest := []) (zs_F (As := []) (by omega) okF_J23_hasNext (by decide +kernel) q2324 q927 q929 q84 q931 (.new hI) rfl rfl rfl (Nat.le_of_ble_eq_true rfl) dX4_block_37) (c_hasNext1 hL1 hI (by rw [List.length_map]; exact hkl)) ?_
    refine zr_if_eq (tgt := 334) dX4_block_42 (by decide) (fun h9 => absurd h9 (by decide)) (fun _ => ?_)
    refine zr_aload dX4_block_45 rfl ?_
    refine zr_call51 (rest := []) (zs_F (As := []) (by omega) okF_J23_next (by decide +kernel) q2326 q1044 q1046 q84 q1048 (.new hI) rfl rfl rfl (Nat.le_of_ble_eq_true rfl) dX4_block_47) (c_J23_next (by omega) hG hL1 hI (map_at (fun j => kA c0 (rB j)) hx)) ?_
    rw [hσ2]
    refine zr_castS hbj rfl q2084 dX4_block_52 ?_
    refine zr_astore (ls2 := [(0, .ref (kA c0 1)), (1, .ref (kA c0 (rB i))), (2, .int x), (3, .int y), (4, .ref fa), (5, .int (bI b)), (6, .int edge), (7, .int inner), (8, .int s.2.1), (9, .int s.2.2.1), (10, .int s.2.2.2), (11, .ref it), (12, .ref (kA c0 (rB j)))]) dX4_block_55 (Nat.le_of_ble_eq_true rfl) rfl ?_
    refine zr_aload dX4_block_57 rfl ?_
    refine zr_call1 (rest := []) (zs_V (As := []) (by omega) ok_X5_isLifted q2333 q2334 q2335 q78 q2336 rfl hbj rfl rfl rfl (Nat.le_of_ble_eq_true rfl) dX4_block_59) hlf ?_
    refine zr_ifeqB (tgt := 68) dX4_block_62 (by decide) (fun h1 => ?_) (fun h1 => ?_)
    · refine zr_aload dX4_block_68 rfl ?_
      refine zr_call1 (rest := []) (zs_V (As := []) (by omega) ok_X5_isFloat q2364 q2365 q2366 q78 q2367 rfl hbj rfl rfl rfl (Nat.le_of_ble_eq_true rfl) dX4_block_70) hfl ?_
      refine zr_ifeqB (tgt := 106) dX4_block_73 (by decide) (fun h2 => ?_) (fun h2 => ?_)
      · have h1n : ¬ kLifted s.1.1.1 j = true := by rw [h1]; decide
        have hLX : LX f c0 j = LB f c0 j + 4 * KW 24 c0 j + 2000 := LX_nl (by rw [← kLift_eq hE.1]; exact h1)
        have h2n : ¬ mFloat s.1.1.1 j = true := by rw [h2]; decide
        obtain ⟨mo, hmo⟩ : ∃ v, v = imax s.2.2.1 (kF s.1.1.1 j 8) := ⟨_, rfl⟩
        obtain ⟨le, hle⟩ : ∃ v, v = imin s.2.2.2 (kF s.1.1.1 j 8) := ⟨_, rfl⟩
        have est : mBkS L C edge inner y b s j = mBkI L C edge inner y b s.1 j s.2.1 mo le := by rw [hmo, hle]; exact (if_neg h1n).trans (if_neg h2n)
        rw [est] at kQ
        obtain ⟨tp, htp⟩ : ∃ v, v = mTop s.1.1.1 s.1.2 y j (s.2.1 + mo + le) := ⟨_, rfl⟩
        obtain ⟨mp, xsp, p1, p2, p3, p4⟩ := id hP2
        obtain ⟨flp, hflp⟩ := p1.A
        refine zr_iload dX4_block_106 rfl ?_
        refine zr_aload dX4_block_108 rfl ?_
        refine zr_get (k := 9) (v := .int (kF s.1.1.1 j 8)) in_X5 hbj rfl (Nat.le_of_ble_eq_true rfl) q2111 (.inl rfl) rfl dX4_block_110 ?_
        refine zr_max (by omega) q2329 q376 q60 q377 (Nat.le_of_ble_eq_true rfl) dX4_block_113 ?_
        rw [← hmo]
        refine zr_istore (ls2 := [(0, .ref (kA c0 1)), (1, .ref (kA c0 (rB i))), (2, .int x), (3, .int y), (4, .ref fa), (5, .int (bI b)), (6, .int edge), (7, .int inner), (8, .int s.2.1), (9, .int mo), (10, .int s.2.2.2), (11, .ref it), (12, .ref (kA c0 (rB j)))]) dX4_block_116 (Nat.le_of_ble_eq_true rfl) rfl ?_
        refine zr_iload dX4_block_118 rfl ?_
        refine zr_aload dX4_block_120 rfl ?_
        refine zr_get (k := 9) (v := .int (kF s.1.1.1 j 8)) in_X5 hbj rfl (Nat.le_of_ble_eq_true rfl) q2111 (.inl rfl) rfl dX4_block_122 ?_
        refine zr_min (by omega) q2376 q431 q60 q432 (Nat.le_of_ble_eq_true rfl) dX4_block_125 ?_
        rw [← hle]
        refine zr_istore (ls2 := [(0, .ref (kA c0 1)), (1, .ref (kA c0 (rB i))), (2, .int x), (3, .int y), (4, .ref fa), (5, .int (bI b)), (6, .int edge), (7, .int inner), (8, .int s.2.1), (9, .int mo), (10, .int le), (11, .ref it), (12, .ref (kA c0 (rB j)))]) dX4_block_128 (Nat.le_of_ble_eq_true rfl) rfl ?_
        refine zr_iload dX4_block_130 rfl ?_
        refine zr_iload dX4_block_132 rfl ?_
        refine zr_iadd dX4_block_134 ?_
        refine zr_iload dX4_block_135 rfl ?_
        refine zr_iadd dX4_block_137 ?_
        refine zr_istore (ls2 := [(0, .ref (kA c0 1)), (1, .ref (kA c0 (rB i))), (2, .int x), (3, .int y), (4, .ref fa), (5, .int (bI b)), (6, .int edge), (7, .int inner), (8, .int s.2.1), (9, .int mo), (10, .int le), (11, .ref it), (12, .ref (kA c0 (rB j))), (13, .int ((s.2.1 + mo) + le))]) dX4_block_138 (Nat.le_of_ble_eq_true rfl) rfl ?_
        have key204 : ∀ (z : Int32) (x14 : Int32) (σ3 : zT), z = tp → zX G S0 σ2 σ3 8 → zR G yX4_block cX4_block 15 (Option.some Jvm.ClassFile.FieldType.int) [] d 204 [(0, .ref (kA c0 1)), (1, .ref (kA c0 (rB i))), (2, .int x), (3, .int y), (4, .ref fa), (5, .int (bI b)), (6, .int edge), (7, .int inner), (8, .int s.2.1), (9, .int mo), (10, .int le), (11, .ref it), (12, .ref (kA c0 (rB j))), (13, .int z), (14, .int x14)] [] σ3 Q := by
          intro z x14 σ3 hz hX23
          rw [hz]
          have hS3 := hS2.keep0 hX2.gd hX23
          have hP3 := hP2.keep0 hX2.gd hX23
          have hX3 := hX2.trans hX23.in
          have hI3 := hX23.f hX2.gd hI2 (fun h => h)
          have hT3 := (hX23.t hX2.gd hI2).trans hT2
          have hbj3 := hX23.at hX2.gd hbj (fun h => h)
          have h13 := hX23.at hX2.gd h12 (fun h => h)
          have hsd3 : zC G I_X5_sides (d - 1) [.ref (kA c0 (rB j))] σ3 (.inl (some (.int (kSides s.1.1.1 j)))) σ3 := hE.2 ▸ c_X5_sides hS3 hj1
          obtain ⟨_, σ4, ⟨rfl, hS4, hP4, hl4, hX4⟩, hC4⟩ := c_X4_flows (c := s.1.1.1) (ct := s.1.1.2) (x := edge + kF s.1.1.1 j 10) (y := y + tp) (w := mBW s.1.1.1 inner j) (b := b) (d := d - 1) (f := f) (by omega) hG hX3.gd hS3 hj1 (by rw [hE.n]; omega) hP3 (by rw [FC_eq hE.1]; omega) (L := L) (C := C) hLM hCM
          rw [hE.2] at hC4
          rw [LB_eq hE.1] at hX4
          rw [FC_eq hE.1] at hl4
          obtain ⟨R, hR⟩ : ∃ R, R = mFlows L C s.1.1 s.1.2 j (edge + kF s.1.1.1 j 10) (y + tp) (mBW s.1.1.1 inner j) b := ⟨_, rfl⟩
          have hRe : (mFlows L C (s.1.1.1, s.1.1.2) s.1.2 j (edge + kF s.1.1.1 j 10) (y + tp) (mBW s.1.1.1 inner j) b) = R := hR.symm
          rw [hRe] at hS4 hP4 hl4
          have hE4 : MQe c0 R.1.1 := by rw [hR]; exact hE.trans (MQe.Flows hLM.1 hCM.1 _ _ _ _ _ _ _)
          have ebk : mBkI L C edge inner y b s.1 j s.2.1 mo le = mBkA R j s.2.1 mo le tp := by unfold mBkI; rw [← htp, ← hR]
          rw [ebk] at kQ
          have hj4 : j < kN R.1.1 := by rw [hE4.n]; exact hj.2.1
          have hbj4 : zAt G σ4 (kA c0 (rB j)) (.inr (5, mBx R.1.1 j)) := hE4.2 ▸ hS4.bx hj4
          have hX04 := hX3.trans hX4
          have hI4 := hX4.f hX3.gd hI3 (by rw [hT3]; exact SMF_0)
          have hT4 := (hX4.t hX3.gd hI3).trans hT3
          refine zr_aload_n dX4_block_204 rfl rfl ?_
          refine zr_aload dX4_block_205 rfl ?_
          refine zr_iload dX4_block_207 rfl ?_
          refine zr_aload dX4_block_209 rfl ?_
          refine zr_get (k := 11) (v := .int (kF s.1.1.1 j 10)) in_X5 hbj3 rfl (Nat.le_of_ble_eq_true rfl) q2115 (.inl rfl) rfl dX4_block_211 ?_
          refine zr_iadd dX4_block_214 ?_
          refine zr_iload_n dX4_block_215 rfl rfl ?_
          refine zr_iload dX4_block_216 rfl ?_
          refine zr_iadd dX4_block_218 ?_
          refine zr_aload dX4_block_219 rfl ?_
          refine zr_get (k := 7) (v := .int (kF s.1.1.1 j 6)) in_X5 hbj3 rfl (Nat.le_of_ble_eq_true rfl) q2107 (.inl rfl) rfl dX4_block_221 ?_
          have key253 : ∀ z : Int32, z = mBW s.1.1.1 inner j → zR G yX4_block cX4_block 15 (Option.some Jvm.ClassFile.FieldType.int) [] d 253 [(0, .ref (kA c0 1)), (1, .ref (kA c0 (rB i))), (2, .int x), (3, .int y), (4, .ref fa), (5, .int (bI b)), (6, .int edge), (7, .int inner), (8, .int s.2.1), (9, .int mo), (10, .int le), (11, .ref it), (12, .ref (kA c0 (rB j))), (13, .int tp), (14, .int x14)] [.int z, .int (y + tp), .int (edge + kF s.1.1.1 j 10), .ref (kA c0 (rB j)), .ref (kA c0 1)] σ3 Q := by
            intro z hz
            subst hz
            refine zr_aload dX4_block_253 rfl ?_
            refine zr_iload dX4_block_255 rfl ?_
            refine zr_callv (rest := []) (zs_V (As := [.ref (kA c0 (rB j)), .int (edge + kF s.1.1.1 j 10), .int (y + tp), .int (mBW s.1.1.1 inner j), .ref fa, .int (bI b)]) (by omega) ok_X4_flows q2461 q2463 qs43 q77 q2464 rfl h13 rfl rfl rfl (Nat.le_of_ble_eq_true rfl) dX4_block_257) hC4 ?_
            refine zr_aload dX4_block_260 rfl ?_
            refine zr_get (k := 30) (v := .int (kP R.1.1 j 3)) in_X5 hbj4 rfl (Nat.le_of_ble_eq_true rfl) q2153 (.inl rfl) rfl dX4_block_262 ?_
            have k281 : ∀ z : Int32, z = (if kP R.1.1 j 3 = 0 then s.2.1 else tp + kP R.1.1 j 3) → zR G yX4_block cX4_block 15 (Option.some Jvm.ClassFile.FieldType.int) [] d 281 [(0, .ref (kA c0 1)), (1, .ref (kA c0 (rB i))), (2, .int x), (3, .int y), (4, .ref fa), (5, .int (bI b)), (6, .int edge), (7, .int inner), (8, .int s.2.1), (9, .int mo), (10, .int le), (11, .ref it), (12, .ref (kA c0 (rB j))), (13, .int tp), (14, .int x14)] [.int z] σ4 Q := by
              intro z hz
              subst hz
              refine zr_istore (ls2 := [(0, .ref (kA c0 1)), (1, .ref (kA c0 (rB i))), (2, .int x), (3, .int y), (4, .ref fa), (5, .int (bI b)), (6, .int edge), (7, .int inner), (8, .int (if kP R.1.1 j 3 = 0 then s.2.1 else tp + kP R.1.1 j 3)), (9, .int mo), (10, .int le), (11, .ref it), (12, .ref (kA c0 (rB j))), (13, .int tp), (14, .int x14)]) dX4_block_281 (Nat.le_of_ble_eq_true rfl) rfl ?_
              refine zr_aload dX4_block_283 rfl ?_
              refine zr_get (k := 30) (v := .int (kP R.1.1 j 3)) in_X5 hbj4 rfl (Nat.le_of_ble_eq_true rfl) q2153 (.inl rfl) rfl dX4_block_285 ?_
              have k297 : ∀ z : Int32, z = (if kP R.1.1 j 3 = 0 then mo else 0) → zR G yX4_block cX4_block 15 (Option.some Jvm.ClassFile.FieldType.int) [] d 297 [(0, .ref (kA c0 1)), (1, .ref (kA c0 (rB i))), (2, .int x), (3, .int y), (4, .ref fa), (5, .int (bI b)), (6, .int edge), (7, .int inner), (8, .int (if kP R.1.1 j 3 = 0 then s.2.1 else tp + kP R.1.1 j 3)), (9, .int mo), (10, .int le), (11, .ref it), (12, .ref (kA c0 (rB j))), (13, .int tp), (14, .int x14)] [.int z] σ4 Q := by
                intro z hz
                subst hz
                refine zr_aload dX4_block_297 rfl ?_
                refine zr_get (k := 10) (v := .int (kF R.1.1 j 9)) in_X5 hbj4 rfl (Nat.le_of_ble_eq_true rfl) q2113 (.inl rfl) rfl dX4_block_299 ?_
                refine zr_max (by omega) q2329 q376 q60 q377 (Nat.le_of_ble_eq_true rfl) dX4_block_302 ?_
                refine zr_istore (ls2 := [(0, .ref (kA c0 1)), (1, .ref (kA c0 (rB i))), (2, .int x), (3, .int y), (4, .ref fa), (5, .int (bI b)), (6, .int edge), (7, .int inner), (8, .int (if kP R.1.1 j 3 = 0 then s.2.1 else tp + kP R.1.1 j 3)), (9, .int (imax (if kP R.1.1 j 3 = 0 then mo else 0) (kF R.1.1 j 9))), (10, .int le), (11, .ref it), (12, .ref (kA c0 (rB j))), (13, .int tp), (14, .int x14)]) dX4_block_305 (Nat.le_of_ble_eq_true rfl) rfl ?_
                refine zr_aload dX4_block_307 rfl ?_
                refine zr_get (k := 30) (v := .int (kP R.1.1 j 3)) in_X5 hbj4 rfl (Nat.le_of_ble_eq_true rfl) q2153 (.inl rfl) rfl dX4_block_309 ?_
                have k321 : ∀ z : Int32, z = (if kP R.1.1 j 3 = 0 then le else 0) → zR G yX4_block cX4_block 15 (Option.some Jvm.ClassFile.FieldType.int) [] d 321 [(0, .ref (kA c0 1)), (1, .ref (kA c0 (rB i))), (2, .int x), (3, .int y), (4, .ref fa), (5, .int (bI b)), (6, .int edge), (7, .int inner), (8, .int (if kP R.1.1 j 3 = 0 then s.2.1 else tp + kP R.1.1 j 3)), (9, .int (imax (if kP R.1.1 j 3 = 0 then mo else 0) (kF R.1.1 j 9))), (10, .int le), (11, .ref it), (12, .ref (kA c0 (rB j))), (13, .int tp), (14, .int x14)] [.int z] σ4 Q := by
                  intro z hz
                  subst hz
                  refine zr_aload dX4_block_321 rfl ?_
                  refine zr_get (k := 10) (v := .int (kF R.1.1 j 9)) in_X5 hbj4 rfl (Nat.le_of_ble_eq_true rfl) q2113 (.inl rfl) rfl dX4_block_323 ?_
                  refine zr_min (by omega) q2376 q431 q60 q432 (Nat.le_of_ble_eq_true rfl) dX4_block_326 ?_
                  refine zr_istore (ls2 := [(0, .ref (kA c0 1)), (1, .ref (kA c0 (rB i))), (2, .int x), (3, .int y), (4, .ref fa), (5, .int (bI b)), (6, .int edge), (7, .int inner), (8, .int (if kP R.1.1 j 3 = 0 then s.2.1 else tp + kP R.1.1 j 3)), (9, .int (imax (if kP R.1.1 j 3 = 0 then mo else 0) (kF R.1.1 j 9))), (10, .int (imin (if kP R.1.1 j 3 = 0 then le else 0) (kF R.1.1 j 9))), (11, .ref it), (12, .ref (kA c0 (rB j))), (13, .int tp), (14, .int x14)]) dX4_block_329 (Nat.le_of_ble_eq_true rfl) rfl ?_
                  refine zr_goto (tgt := 35) dX4_block_331 (by decide) ?_
                  refine zr_sub (ls2 := [(0, .ref (kA c0 1)), (1, .ref (kA c0 (rB i))), (2, .int x), (3, .int y), (4, .ref fa), (5, .int (bI b)), (6, .int edge), (7, .int inner), (8, .int (if kP R.1.1 j 3 = 0 then s.2.1 else tp + kP R.1.1 j 3)), (9, .int (imax (if kP R.1.1 j 3 = 0 then mo else 0) (kF R.1.1 j 9))), (10, .int (imin (if kP R.1.1 j 3 = 0 then le else 0) (kF R.1.1 j 9))), (11, .ref it)]) [0, 1, 2, 3, 4, 5, 6, 7, 8, 9, 10, 11] rfl ?_
                  exact ih (k + 1) _ _ (mBkA R j s.2.1 mo le tp) σ4 hy2 (by omega) hE4 hX04 (by omega) hS4 hP4 (by show R.2.length + _ ≤ F; omega) hI4 hT4 kQ
                refine zr_if_ne (tgt := 320) dX4_block_312 (by decide) (fun h7 => ?_) (fun h7 => ?_)
                · refine zr_iconst (v := 0) dX4_block_320 (by decide) ?_
                  exact k321 _ (by rw [if_neg h7])
                · refine zr_iload dX4_block_315 rfl ?_
                  refine zr_goto (tgt := 321) dX4_block_317 (by decide) ?_
                  exact k321 _ (by rw [if_pos (by first | exact h7 | exact Decidable.not_not.mp h7)])
              refine zr_if_ne (tgt := 296) dX4_block_288 (by decide) (fun h6 => ?_) (fun h6 => ?_)
              · refine zr_iconst (v := 0) dX4_block_296 (by decide) ?_
                exact k297 _ (by rw [if_neg h6])
              · refine zr_iload dX4_block_291 rfl ?_
                refine zr_goto (tgt := 297) dX4_block_293 (by decide) ?_
                exact k297 _ (by rw [if_pos (by first | exact h6 | exact Decidable.not_not.mp h6)])
            refine zr_if_ne (tgt := 273) dX4_block_265 (by decide) (fun h5 => ?_) (fun h5 => ?_)
            · refine zr_iload dX4_block_273 rfl ?_
              refine zr_aload dX4_block_275 rfl ?_
              refine zr_get (k := 30) (v := .int (kP R.1.1 j 3)) in_X5 hbj4 rfl (Nat.le_of_ble_eq_true rfl) q2153 (.inl rfl) rfl dX4_block_277 ?_
              refine zr_iadd dX4_block_280 ?_
              exact k281 _ (by rw [if_neg h5])
            · refine zr_iload dX4_block_268 rfl ?_
              refine zr_goto (tgt := 281) dX4_block_270 (by decide) ?_
              exact k281 _ (by rw [if_pos (by first | exact h5 | exact Decidable.not_not.mp h5)])
          refine zr_if_lt (tgt := 235) dX4_block_224 (by decide) (fun h4 => ?_) (fun h4 => ?_)
          · refine zr_iload dX4_block_235 rfl ?_
            refine zr_aload dX4_block_237 rfl ?_
            refine zr_call1 (rest := [.int inner, .int (y + tp), .int (edge + (kF s.1.1.1 j 10)), .ref (kA c0 (rB j)), .ref (kA c0 1)]) (zs_V (As := []) (by omega) ok_X5_sides q2337 q2338 q2339 q78 q2340 rfl hbj3 rfl rfl rfl (Nat.le_of_ble_eq_true rfl) dX4_block_239) hsd3 ?_
            refine zr_isub dX4_block_242 ?_
            refine zr_iconst (v := 2) dX4_block_243 (by decide) ?_
            refine zr_aload dX4_block_244 rfl ?_
            refine zr_get (k := 13) (v := .int (kF s.1.1.1 j 12)) in_X5 hbj3 rfl (Nat.le_of_ble_eq_true rfl) q2119 (.inl rfl) rfl dX4_block_246 ?_
            refine zr_imul dX4_block_249 ?_
            refine zr_max (by omega) q2329 q376 q60 q377 (Nat.le_of_ble_eq_true rfl) dX4_block_250 ?_
            exact key253 _ (by unfold mBW; rw [if_neg (by first | exact Int32.not_le.mpr h4 | exact h4)])
          · refine zr_aload dX4_block_227 rfl ?_
            refine zr_get (k := 7) (v := .int (kF s.1.1.1 j 6)) in_X5 hbj3 rfl (Nat.le_of_ble_eq_true rfl) q2107 (.inl rfl) rfl dX4_block_229 ?_
            refine zr_goto (tgt := 253) dX4_block_232 (by decide) ?_
            exact key253 _ (by unfold mBW; rw [if_pos (by first | exact Int32.not_lt.mp h4 | exact h4)])
        have key173 : ∀ z : Int32, z = bI (decide (kF s.1.1.1 j 21 ≠ 0) || kItems s.1.1.1 j) → zR G yX4_block cX4_block 15 (Option.some Jvm.ClassFile.FieldType.int) [] d 173 [(0, .ref (kA c0 1)), (1, .ref (kA c0 (rB i))), (2, .int x), (3, .int y), (4, .ref fa), (5, .int (bI b)), (6, .int edge), (7, .int inner), (8, .int s.2.1), (9, .int mo), (10, .int le), (11, .ref it), (12, .ref (kA c0 (rB j))), (13, .int (s.2.1 + mo + le))] [.int z] σ2 Q := by
          intro z hz
          subst hz
          refine zr_istore (ls2 := [(0, .ref (kA c0 1)), (1, .ref (kA c0 (rB i))), (2, .int x), (3, .int y), (4, .ref fa), (5, .int (bI b)), (6, .int edge), (7, .int inner), (8, .int s.2.1), (9, .int mo), (10, .int le), (11, .ref it), (12, .ref (kA c0 (rB j))), (13, .int (s.2.1 + mo + le)), (14, .int (bI (decide (kF s.1.1.1 j 21 ≠ 0) || kItems s.1.1.1 j)))]) dX4_block_173 (Nat.le_of_ble_eq_true rfl) rfl ?_
          refine zr_iload dX4_block_175 rfl ?_
          refine zr_ifeqB (tgt := 204) dX4_block_177 (by decide) (fun h3 => ?_) (fun h3 => ?_)
          · exact key204 _ _ σ2 (by rw [htp]; unfold mTop; rw [if_neg (fun h9 => by have h8 := h9.1; simp only [Bool.or_eq_false_iff, decide_eq_false_iff_not] at h3; exact h8.elim h3.1 (fun h7 => by rw [h3.2] at h7; cases h7))]) (zX.rf _ hX2.gd 8)
          · refine zr_aload dX4_block_180 rfl ?_
            refine zr_call51 (rest := []) (zs_F (As := []) (by omega) okF_J2_isEmpty (by decide +kernel) q2386 q1523 q1525 q56 q1527 hflp rfl rfl rfl (Nat.le_of_ble_eq_true rfl) dX4_block_182) (c_J2_isEmpty (by omega) p1) ?_
            refine zr_ifneB (tgt := 204) dX4_block_187 (by decide) (fun h4 => ?_) (fun h4 => ?_)
            · have hps0 : s.1.2 = [] := by
                have h9 : xsp = [] := List.isEmpty_iff.mp (by first | exact h4 | simpa using h4)
                exact List.eq_nil_of_length_eq_zero (by rw [← p2, h9]; rfl)
              exact key204 _ _ σ2 (by rw [htp]; unfold mTop; rw [if_neg (fun h9 => h9.2 hps0)]) (zX.rf _ hX2.gd 8)
            · have hpn : s.1.2 ≠ [] := by
                intro h9
                have : xsp = [] := List.eq_nil_of_length_eq_zero (by rw [p2, h9]; rfl)
                rw [this] at h4
                first | cases h4 | exact h4 rfl
              have hcl : kF s.1.1.1 j 21 ≠ 0 ∨ kItems s.1.1.1 j = true := by
                rcases (Bool.or_eq_true _ _).mp h3 with h | h
                · exact Or.inl (of_decide_eq_true h)
                · exact Or.inr h
              obtain ⟨_, σ3, ⟨rfl, hX3⟩, hC3⟩ := c_X4_lowest (d := d - 1) (by omega) hG hX2.gd hP2
              refine zr_iload dX4_block_190 rfl ?_
              refine zr_aload dX4_block_192 rfl ?_
              refine zr_call1 (rest := [.int (s.2.1 + mo + le)]) (zs_S (As := [.ref fa]) (by omega) ok_X4_lowest q2453 q2454 q77 q2455 rfl rfl (Nat.le_of_ble_eq_true rfl) dX4_block_194) hC3 ?_
              refine zr_iload_n dX4_block_197 rfl rfl ?_
              refine zr_isub dX4_block_198 ?_
              refine zr_max (by omega) q2329 q376 q60 q377 (Nat.le_of_ble_eq_true rfl) dX4_block_199 ?_
              refine zr_istore (ls2 := [(0, .ref (kA c0 1)), (1, .ref (kA c0 (rB i))), (2, .int x), (3, .int y), (4, .ref fa), (5, .int (bI b)), (6, .int edge), (7, .int inner), (8, .int s.2.1), (9, .int mo), (10, .int le), (11, .ref it), (12, .ref (kA c0 (rB j))), (13, .int (imax (s.2.1 + mo + le) ((mLowest s.1.2) - y))), (14, .int (bI (decide (kF s.1.1.1 j 21 ≠ 0) || kItems s.1.1.1 j)))]) dX4_block_202 (Nat.le_of_ble_eq_true rfl) rfl ?_
              exact key204 _ _ σ3 (by rw [htp]; unfold mTop; rw [if_pos ⟨hcl, hpn⟩]) hX3
        refine zr_aload dX4_block_140 rfl ?_
        refine zr_get (k := 24) (v := .int (kF s.1.1.1 j 21)) in_X5 hbj rfl (Nat.le_of_ble_eq_true rfl) q2141 (.inl rfl) rfl dX4_block_142 ?_
        refine zr_if_ne (tgt := 168) dX4_block_145 (by decide) (fun h5 => ?_) (fun h5 => ?_)
        · refine zr_iconst (v := 1) dX4_block_168 (by decide) ?_
          refine zr_goto (tgt := 173) dX4_block_169 (by decide) ?_
          exact key173 _ (by rw [decide_eq_true h5]; rfl)
        · have h5' : kF s.1.1.1 j 21 = 0 := by first | exact h5 | exact Decidable.not_not.mp h5
          refine zr_aload dX4_block_148 rfl ?_
          refine zr_get (k := 1) (v := .int (kF s.1.1.1 j 2)) in_X5 hbj rfl (Nat.le_of_ble_eq_true rfl) q2095 (.inl rfl) rfl dX4_block_150 ?_
          refine zr_bipush (v := 102) dX4_block_153 (by decide) ?_
          refine zr_icmp_eq (tgt := 168) dX4_block_155 (by decide) (fun h6 => ?_) (fun h6 => ?_)
          · refine zr_iconst (v := 1) dX4_block_168 (by decide) ?_
            refine zr_goto (tgt := 173) dX4_block_169 (by decide) ?_
            exact key173 _ (by rw [show (decide (kF s.1.1.1 j 21 ≠ 0) || kItems s.1.1.1 j) = true from by unfold kItems; rw [decide_eq_true h6]; simp]; rfl)
          · refine zr_aload dX4_block_158 rfl ?_
            refine zr_get (k := 1) (v := .int (kF s.1.1.1 j 2)) in_X5 hbj rfl (Nat.le_of_ble_eq_true rfl) q2095 (.inl rfl) rfl dX4_block_160 ?_
            refine zr_bipush (v := 103) dX4_block_163 (by decide) ?_
            refine zr_icmp_ne (tgt := 172) dX4_block_165 (by decide) (fun h7 => ?_) (fun h7 => ?_)
            · refine zr_iconst (v := 0) dX4_block_172 (by decide) ?_
              exact key173 _ (by unfold kItems; rw [h5', decide_eq_false h6, decide_eq_false h7]; rfl)
            · refine zr_iconst (v := 1) dX4_block_168 (by decide) ?_
              refine zr_goto (tgt := 173) dX4_block_169 (by decide) ?_
              exact key173 _ (by rw [show (decide (kF s.1.1.1 j 21 ≠ 0) || kItems s.1.1.1 j) = true from by unfold kItems; rw [decide_eq_true (show kF s.1.1.1 j 2 = 103 by first | exact h7 | exact Decidable.not_not.mp h7)]; simp]; rfl)
      · have h1n : ¬ kLifted s.1.1.1 j = true := by rw [h1]; decide
        have hLX : LX f c0 j = LB f c0 j + 4 * KW 24 c0 j + 2000 := LX_nl (by rw [← kLift_eq hE.1]; exact h1)
        have est : mBkS L C edge inner y b s j = (mFloats L s.1.1 s.1.2 j (y + s.2.1 + s.2.2.1 + s.2.2.2) edge (edge + inner) b, s.2) := (if_neg h1n).trans (if_pos h2)
        rw [est] at kQ
        obtain ⟨_, σ3, ⟨rfl, hS3, hP3, hX3⟩, hC3⟩ := c_X4_floats (c := s.1.1.1) (ct := s.1.1.2) (least := (y + s.2.1 + s.2.2.1 + s.2.2.2)) (left := edge) (right := edge + inner) (b := b) (d := d - 1) (f := f) (by omega) hG hX2.gd hS2 hj1 (by rw [hE.n]; omega) hP2 (by omega) (L := L) hLM
        rw [hE.2] at hC3
        rw [KW_eq hE.1, LB_eq hE.1] at hX3
        have hE3 : MQe c0 (mFloats L s.1.1 s.1.2 j (y + s.2.1 + s.2.2.1 + s.2.2.2) edge (edge + inner) b).1.1 := hE.trans (MQe.Floats hLM.1 _ _ _ _ _ _ _)
        have hln := mFlows_len (L := L) (s := s.1.1) (ps := s.1.2) (j := j) (a := (y + s.2.1 + s.2.2.1 + s.2.2.2)) (l := edge) (r := edge + inner) (b := b)
        refine zr_aload_n dX4_block_76 rfl rfl ?_
        refine zr_aload dX4_block_77 rfl ?_
        refine zr_iload_n dX4_block_79 rfl rfl ?_
        refine zr_iload dX4_block_80 rfl ?_
        refine zr_iadd dX4_block_82 ?_
        refine zr_iload dX4_block_83 rfl ?_
        refine zr_iadd dX4_block_85 ?_
        refine zr_iload dX4_block_86 rfl ?_
        refine zr_iadd dX4_block_88 ?_
        refine zr_iload dX4_block_89 rfl ?_
        refine zr_iload dX4_block_91 rfl ?_
        refine zr_iload dX4_block_93 rfl ?_
        refine zr_iadd dX4_block_95 ?_
        refine zr_aload dX4_block_96 rfl ?_
        refine zr_iload dX4_block_98 rfl ?_
        refine zr_callv (rest := []) (zs_V (As := [.ref (kA c0 (rB j)), .int (((y + s.2.1) + s.2.2.1) + s.2.2.2), .int edge, .int (edge + inner), .ref fa, .int (bI b)]) (by omega) ok_X4_floats q2369 q2371 qs42 q77 q2372 rfl h12 rfl rfl rfl (Nat.le_of_ble_eq_true rfl) dX4_block_100) hC3 ?_
        refine zr_goto (tgt := 35) dX4_block_103 (by decide) ?_
        refine zr_sub (ls2 := [(0, .ref (kA c0 1)), (1, .ref (kA c0 (rB i))), (2, .int x), (3, .int y), (4, .ref fa), (5, .int (bI b)), (6, .int edge), (7, .int inner), (8, .int s.2.1), (9, .int s.2.2.1), (10, .int s.2.2.2), (11, .ref it)]) [0, 1, 2, 3, 4, 5, 6, 7, 8, 9, 10, 11] rfl ?_
        exact ih (k + 1) _ _ (mFloats L s.1.1 s.1.2 j (y + s.2.1 + s.2.2.1 + s.2.2.2) edge (edge + inner) b, s.2) σ3 hy2 (by omega) hE3 (hX2.trans hX3) (by omega) hS3 hP3 (by show (mFloats L s.1.1 s.1.2 j (y + s.2.1 + s.2.2.1 + s.2.2.2) edge (edge + inner) b).2.length + _ ≤ F; omega) (hX3.f hX2.gd hI2 (by rw [hT2]; exact SMF_0)) ((hX3.t hX2.gd hI2).trans hT2) kQ
    · refine zr_goto (tgt := 35) dX4_block_65 (by decide) ?_
      refine zr_sub (ls2 := [(0, .ref (kA c0 1)), (1, .ref (kA c0 (rB i))), (2, .int x), (3, .int y), (4, .ref fa), (5, .int (bI b)), (6, .int edge), (7, .int inner), (8, .int s.2.1), (9, .int s.2.2.1), (10, .int s.2.2.2), (11, .ref it)]) [0, 1, 2, 3, 4, 5, 6, 7, 8, 9, 10, 11] rfl ?_
      rw [show mBkS L C edge inner y b s j = s from if_pos h1] at kQ
      exact ih (k + 1) n _ s σ2 hy2 (by omega) hE hX2 (by omega) hS2 hP2 (by omega) hI2 hT2 kQ
set_option maxHeartbeats 4000000 in
theorem c_X4_block {G : zG} {σ : zT} {d : Nat} {c : zCS} {th ct : Int32} {i fa f : Nat} {x y : Int32} {b : Bool} {ps : List P5} {L : LM} {C : CM} (hd : 86 ≤ d) (hG : zOk G) (hw : zGd G σ) (hS : MSys G σ c th ct) (hi : i < kN c) (hf : kN c ≤ f + 1 + i) (hPs : PsS G σ fa ps) (h24 : ps.length + FC (f + 1) c i ≤ 24) (hLM : HLM G th L f (d - 2)) (hCM : HCM G th C f (d - 2)) : zCall G I_X4_block d [.ref (kA c 1), .ref (kA c (rB i)), .int x, .int y, .ref fa, .int (bI b)] σ ((fun o σ' => o = .inl (some (.int (mBlock L C (c, ct) ps i x y b).2)) ∧ MSys G σ' (mBlock L C (c, ct) ps i x y b).1.1.1 th (mBlock L C (c, ct) ps i x y b).1.1.2 ∧ PsS G σ' fa (mBlock L C (c, ct) ps i x y b).1.2 ∧ (mBlock L C (c, ct) ps i x y b).1.2.length ≤ ps.length + FC (f + 1) c i ∧ zX G (SMF fa) σ σ' (8 + LBS f c i))) := by
  refine zCall_of (ls := [(0, .ref (kA c 1)), (1, .ref (kA c (rB i))), (2, .int x), (3, .int y), (4, .ref fa), (5, .int (bI b))]) (by decide) (Nat.le_of_ble_eq_true rfl) rfl ?_
  obtain ⟨flc, hflc⟩ := (hS.chL hi).A
  refine zr_iload_n dX4_block_0 rfl rfl ?_
  refine zr_aload_n dX4_block_1 rfl rfl ?_
  refine zr_get (k := 13) (v := .int (kF c i 12)) in_X5 (hS.bx hi) rfl (Nat.le_of_ble_eq_true rfl) q2119 (.inl rfl) rfl dX4_block_2 ?_
  refine zr_iadd dX4_block_5 ?_
  refine zr_istore (ls2 := [(0, .ref (kA c 1)), (1, .ref (kA c (rB i))), (2, .int x), (3, .int y), (4, .ref fa), (5, .int (bI b)), (6, .int (x + (kF c i 12)))]) dX4_block_6 (Nat.le_of_ble_eq_true rfl) rfl ?_
  refine zr_aload_n dX4_block_8 rfl rfl ?_
  refine zr_call1 (rest := []) (zs_S (As := [.ref (kA c (rB i))]) (by omega) ok_X4_inner q2361 q2362 q77 q2363 rfl rfl (Nat.le_of_ble_eq_true rfl) dX4_block_9) (c_X4_innerB (by omega) (hS.bx hi)) ?_
  refine zr_istore (ls2 := [(0, .ref (kA c 1)), (1, .ref (kA c (rB i))), (2, .int x), (3, .int y), (4, .ref fa), (5, .int (bI b)), (6, .int (x + (kF c i 12))), (7, .int (kInner c i))]) dX4_block_12 (Nat.le_of_ble_eq_true rfl) rfl ?_
  refine zr_aload_n dX4_block_14 rfl rfl ?_
  refine zr_get (k := 13) (v := .int (kF c i 12)) in_X5 (hS.bx hi) rfl (Nat.le_of_ble_eq_true rfl) q2119 (.inl rfl) rfl dX4_block_15 ?_
  refine zr_istore (ls2 := [(0, .ref (kA c 1)), (1, .ref (kA c (rB i))), (2, .int x), (3, .int y), (4, .ref fa), (5, .int (bI b)), (6, .int (x + (kF c i 12))), (7, .int (kInner c i)), (8, .int (kF c i 12))]) dX4_block_18 (Nat.le_of_ble_eq_true rfl) rfl ?_
  refine zr_iconst (v := 0) dX4_block_20 (by decide) ?_
  refine zr_istore (ls2 := [(0, .ref (kA c 1)), (1, .ref (kA c (rB i))), (2, .int x), (3, .int y), (4, .ref fa), (5, .int (bI b)), (6, .int (x + (kF c i 12))), (7, .int (kInner c i)), (8, .int (kF c i 12)), (9, .int 0)]) dX4_block_21 (Nat.le_of_ble_eq_true rfl) rfl ?_
  refine zr_iconst (v := 0) dX4_block_23 (by decide) ?_
  refine zr_istore (ls2 := [(0, .ref (kA c 1)), (1, .ref (kA c (rB i))), (2, .int x), (3, .int y), (4, .ref fa), (5, .int (bI b)), (6, .int (x + (kF c i 12))), (7, .int (kInner c i)), (8, .int (kF c i 12)), (9, .int 0), (10, .int 0)]) dX4_block_24 (Nat.le_of_ble_eq_true rfl) rfl ?_
  refine zr_aload_n dX4_block_26 rfl rfl ?_
  refine zr_get (k := 4) (v := .ref (kA c (rC i))) in_X5 (hS.bx hi) rfl (Nat.le_of_ble_eq_true rfl) q2101 (.inl rfl) rfl dX4_block_27 ?_
  refine zr_call1 (rest := []) (zs_V (As := []) (by omega) ok_J2_iterator q2322 q834 q2841 q56 q836 rfl hflc rfl rfl rfl (Nat.le_of_ble_eq_true rfl) dX4_block_30) (c_J2_iterator (by omega) hw.1 (hS.chL hi)) ?_
  refine zr_astore (ls2 := [(0, .ref (kA c 1)), (1, .ref (kA c (rB i))), (2, .int x), (3, .int y), (4, .ref fa), (5, .int (bI b)), (6, .int (x + (kF c i 12))), (7, .int (kInner c i)), (8, .int (kF c i 12)), (9, .int 0), (10, .int 0), (11, .ref (sZ σ))]) dX4_block_33 (Nat.le_of_ble_eq_true rfl) rfl ?_
  have hXn := zX.new S0 hw 0 (by omega) (.inr (21, [.int 0, .int (-1), .int (kM c (rC i)), .ref (kA c (rC i))])) 4
  refine l_X4_block (σ := σ) (F := ps.length + FC (f + 1) c i) (N := 8 + LBS f c i) (by omega) hG hw hi hS.k hf (Nat.le_refl _) h24 hLM hCM (kCh c i) 0 8 (-1) ((((c, ct), ps), kF c i 12, 0, 0)) _ rfl (Nat.zero_le _) (MQe.rf c) hXn.in (Nat.le_refl _) (hS.keep0 hw hXn) (hPs.keep0 hw hXn) (Nat.le_refl _) (sF_newS _ _ _ _) (sT_newS _ _ _ _) (fun σ2 hX2 hS2 hP2 hl2 => ?_)
  have hE2 : MQe c (mBlock L C (c, ct) ps i x y b).1.1.1 := MQe.Block hLM.1 hCM.1 (c, ct) ps i x y b
  have hbi2 : zAt G σ2 (kA c (rB i)) (.inr (5, mBx (mBlock L C (c, ct) ps i x y b).1.1.1 i)) := hE2.2 ▸ hS2.bx (by show i < kN (mBlock L C (c, ct) ps i x y b).1.1.1; rw [hE2.n]; exact hi)
  have hpad : kF (mBlock L C (c, ct) ps i x y b).1.1.1 i 12 = kF c i 12 := hE2.1.f i 12 (by decide)
  show zR G yX4_block cX4_block 15 (Option.some Jvm.ClassFile.FieldType.int) [] d 334 [(0, .ref (kA c 1)), (1, .ref (kA c (rB i))), (8, .int (mBlkA L C (c, ct) ps i x y b).2.1), (9, .int (mBlkA L C (c, ct) ps i x y b).2.2.1), (10, .int (mBlkA L C (c, ct) ps i x y b).2.2.2)] [] σ2 _
  refine zr_iload dX4_block_334 rfl ?_
  refine zr_iload dX4_block_336 rfl ?_
  refine zr_iadd dX4_block_338 ?_
  refine zr_iload dX4_block_339 rfl ?_
  refine zr_iadd dX4_block_341 ?_
  refine zr_aload_n dX4_block_342 rfl rfl ?_
  refine zr_get (k := 13) (v := .int (kF (mBlock L C (c, ct) ps i x y b).1.1.1 i 12)) in_X5 hbi2 rfl (Nat.le_of_ble_eq_true rfl) q2119 (.inl rfl) rfl dX4_block_343 ?_
  rw [hpad]
  refine zr_max (by omega) q2329 q376 q60 q377 (Nat.le_of_ble_eq_true rfl) dX4_block_346 ?_
  refine zr_aload_n dX4_block_349 rfl rfl ?_
  refine zr_get (k := 13) (v := .int (kF (mBlock L C (c, ct) ps i x y b).1.1.1 i 12)) in_X5 hbi2 rfl (Nat.le_of_ble_eq_true rfl) q2119 (.inl rfl) rfl dX4_block_350 ?_
  rw [hpad]
  refine zr_iadd dX4_block_353 ?_
  exact zr_iret rfl rfl dX4_block_354 (⟨rfl, hS2, hP2, hl2, hX2⟩)
