/-! ===== the reference: hit, area (rows printed by tools/p119.py) ===== -/
def nIns (c : zCS) (x y : Int32) (j : Nat) : Bool := isIn x (mPt 0 24 c j) (kP c j 2) && isIn y (mPt 1 24 c j) (kP c j 3)
def nHitS (c : zCS) (x y : Int32) (b : Option Nat) (j : Nat) : Option Nat :=
  if nIns c x y j = true then (match b with | none => some j | some q => if kF c j 20 < kF c q 20 then b else some j) else b
def nHv : Option Nat → Int32
  | none => -1
  | some q => nI q
def nHit (c : zCS) (x y : Int32) : Nat × Value := if kLw c = 0 then (1, .null) else match (List.range (kN c)).foldl (nHitS c x y) none with
  | none => (2, .null)
  | some j => (0, .int (nI j))
theorem nHitS_n {c : zCS} {x y : Int32} {b : Option Nat} {j : Nat} (h : nIns c x y j = false) : nHitS c x y b j = b := if_neg (by rw [h]; decide)
theorem nHitS_0 {c : zCS} {x y : Int32} {j : Nat} (h : nIns c x y j = true) : nHitS c x y none j = some j := if_pos h
theorem nHitS_1 {c : zCS} {x y : Int32} {q j : Nat} (h : nIns c x y j = true) (h2 : kF c j 20 < kF c q 20) : nHitS c x y (some q) j = some q := (if_pos h).trans (if_pos h2)
theorem nHitS_2 {c : zCS} {x y : Int32} {q j : Nat} (h : nIns c x y j = true) (h2 : ¬ kF c j 20 < kF c q 20) : nHitS c x y (some q) j = some j := (if_pos h).trans (if_neg h2)
set_option maxHeartbeats 4000000 in
theorem l_X4_hit {G : zG} {σ : zT} {d N : Nat} {c : zCS} {th ct x y : Int32} {it : Nat} {Q : zO → zT → Prop} (hd : 120 ≤ d) (hG : zOk G) (hw : zGd G σ) (hS : MSys G σ c th ct) (hit : sZ σ ≤ it) : ∀ (ys : List Nat) (k n : Nat) (lr : Int32) (b : Option Nat) (σ1 : zT), (List.range (kN c)).drop k = ys → k ≤ kN c → (∀ q, b = some q → q < kN c) → zX G S0 σ σ1 n → n + 150 * ys.length ≤ N → sF σ1 it = some (.inr (21, [.int (nI k), .int lr, .int (kM c 2), .ref (kA c 2)])) → sT σ1 it = 0 → (∀ σ2, zX G S0 σ σ2 N → (∀ q, (ys.foldl (nHitS c x y) b) = some q → q < kN c) → zR G yX4_hit cX4_hit 8 (Option.some Jvm.ClassFile.FieldType.int) [] d 160 [(0, .ref (kA c 1)), (1, .int x), (2, .int y), (3, .int (nHv (ys.foldl (nHitS c x y) b))), (4, .ref it)] [] σ2 Q) → zR G yX4_hit cX4_hit 8 (Option.some Jvm.ClassFile.FieldType.int) [] d 36 [(0, .ref (kA c 1)), (1, .int x), (2, .int y), (3, .int (nHv b)), (4, .ref it)] [] σ1 Q := by
  intro ys
  induction ys with
  | nil =>
    intro k n lr b σ1 hy hk hb hX hN hI hT kQ
    have hS1 := hS.keep0 hw hX
    have hL1 := hS1.bxL
    have hkl := drop_nil hy (by rw [List.length_range]; exact hk)
    rw [List.length_range] at hkl
    refine zr_aload dX4_hit_36 rfl ?_
    refine zr_call51 (rest := []) (zs_F (As := []) (by omega) okF_J23_hasNext (by decide +kernel) q2324 q927 q929 q84 q931 (.new hI) rfl rfl rfl (Nat.le_of_ble_eq_true rfl) dX4_hit_38) (c_hasNext0 hL1 hI (by rw [List.length_map, List.length_range]; exact hkl)) ?_
    refine zr_if_eq (tgt := 160) dX4_hit_43 (by decide) (fun _ => ?_) (fun h9 => absurd (rfl) h9)
    exact kQ σ1 (hX.le (by simpa using hN)) hb
  | cons j ys ih =>
    intro k n lr b σ1 hy hk hb hX hN hI hT kQ
    have hS1 := hS.keep0 hw hX
    have hL1 := hS1.bxL
    have hle := hS.le
    obtain ⟨hx, hy2, hkl, hm⟩ := drop_cons hy
    rw [List.length_range] at hkl
    have hj := List.mem_range.mp hm
    rw [List.length_cons] at hN
    have hX2 := hX.upN (gs := [.int (nI (k + 1)), .int (nI k), .int (kM c 2), .ref (kA c 2)]) hI hit
    have hI2 : sF (sUp σ1 it (.inr (21, [.int (nI (k + 1)), .int (nI k), .int (kM c 2), .ref (kA c 2)]))) it = _ := sF_upS _ _ _
    have hT2 : sT (sUp σ1 it (.inr (21, [.int (nI (k + 1)), .int (nI k), .int (kM c 2), .ref (kA c 2)]))) it = 0 := hT
    generalize hσ2 : sUp σ1 it (.inr (21, [.int (nI (k + 1)), .int (nI k), .int (kM c 2), .ref (kA c 2)])) = σ2 at hX2 hI2 hT2
    have hS2 := hS.keep0 hw hX2
    rw [List.foldl_cons] at kQ
    obtain ⟨_, σ3, ⟨a1, rfl, hA, hX23⟩, hC3⟩ := c_mpoint_all (G := G) 24 (d - 1) (by omega) σ2 c th ct j hX2.gd hS2 hj (by omega)
    have hX3 := hX2.trans hX23
    have hS3 := hS.keep0 hw hX3
    have hI3 := hX23.f hX2.gd hI2 (fun h => h)
    have hT3 := (hX23.t hX2.gd hI2).trans hT2
    have hone3 := hS3.one
    refine zr_aload dX4_hit_36 rfl ?_
    refine zr_call51 (rest := []) (zs_F (As := []) (by omega) okF_J23_hasNext (by decide +kernel) q2324 q927 q929 q84 q931 (.new hI) rfl rfl rfl (Nat.le_of_ble_eq_true rfl) dX4_hit_38) (c_hasNext1 hL1 hI (by rw [List.length_map, List.length_range]; exact hkl)) ?_
    refine zr_if_eq (tgt := 160) dX4_hit_43 (by decide) (fun h9 => absurd h9 (by decide)) (fun _ => ?_)
    refine zr_aload dX4_hit_46 rfl ?_
    refine zr_call51 (rest := []) (zs_F (As := []) (by omega) okF_J23_next (by decide +kernel) q2326 q1044 q1046 q84 q1048 (.new hI) rfl rfl rfl (Nat.le_of_ble_eq_true rfl) dX4_hit_48) (c_J23_next (by omega) hG hL1 hI (map_at (fun j => kA c (rB j)) hx)) ?_
    rw [hσ2]
    refine zr_castS (hS2.bx hj) rfl q2084 dX4_hit_53 ?_
    refine zr_astore (ls2 := [(0, .ref (kA c 1)), (1, .int x), (2, .int y), (3, .int (nHv b)), (4, .ref it), (5, .ref (kA c (rB j)))]) dX4_hit_56 (Nat.le_of_ble_eq_true rfl) rfl ?_
    refine zr_aload dX4_hit_58 rfl ?_
    refine zr_call1 (rest := []) (zs_S (As := [.ref (kA c (rB j))]) (by omega) ok_X4_point q2535 q2536 q77 q2537 rfl rfl (Nat.le_of_ble_eq_true rfl) dX4_hit_60) hC3 ?_
    obtain ⟨fl_hfl, hfl⟩ := hS3.bxL.A
    refine zr_astore (ls2 := [(0, .ref (kA c 1)), (1, .int x), (2, .int y), (3, .int (nHv b)), (4, .ref it), (5, .ref (kA c (rB j))), (6, .ref a1)]) dX4_hit_63 (Nat.le_of_ble_eq_true rfl) rfl ?_
    have key : ∀ z : Int32, z = bI (nIns c x y j) → zR G yX4_hit cX4_hit 8 (Option.some Jvm.ClassFile.FieldType.int) [] d 120 [(0, .ref (kA c 1)), (1, .int x), (2, .int y), (3, .int (nHv b)), (4, .ref it), (5, .ref (kA c (rB j))), (6, .ref a1), (7, .int z)] [] σ3 Q := by
      intro z hz
      subst hz
      refine zr_iload dX4_hit_120 rfl ?_
      refine zr_ifeqB (tgt := 157) dX4_hit_122 (by decide) (fun h1 => ?_) (fun h1 => ?_)
      · refine zr_goto (tgt := 36) dX4_hit_157 (by decide) ?_
        refine zr_sub (ls2 := [(0, .ref (kA c 1)), (1, .int x), (2, .int y), (3, .int (nHv b)), (4, .ref it)]) [0, 1, 2, 3, 4] rfl ?_
        rw [nHitS_n h1] at kQ
        exact ih (k + 1) _ _ b σ3 hy2 (by omega) hb hX3 (by omega) hI3 hT3 kQ
      · cases b with
        | none =>
          rw [nHitS_0 h1] at kQ
          refine zr_iload_n dX4_hit_125 rfl rfl ?_
          refine zr_if_lt (tgt := 151) dX4_hit_126 (by decide) (fun _ => ?_) (fun h9 => absurd (by decide) h9)
          refine zr_aload dX4_hit_151 rfl ?_
          refine zr_get (k := 0) (v := .int (nI j)) in_X5 (hS3.bx hj) rfl (Nat.le_of_ble_eq_true rfl) q2093 (.inl rfl) rfl dX4_hit_153 ?_
          refine zr_istore_n (ls2 := [(0, .ref (kA c 1)), (1, .int x), (2, .int y), (3, .int (nI j)), (4, .ref it), (5, .ref (kA c (rB j))), (6, .ref a1), (7, .int (bI (nIns c x y j)))]) dX4_hit_156 rfl (Nat.le_of_ble_eq_true rfl) rfl ?_
          refine zr_goto (tgt := 36) dX4_hit_157 (by decide) ?_
          refine zr_sub (ls2 := [(0, .ref (kA c 1)), (1, .int x), (2, .int y), (3, .int (nI j)), (4, .ref it)]) [0, 1, 2, 3, 4] rfl ?_
          exact ih (k + 1) _ _ (some j) σ3 hy2 (by omega) (fun q h => by cases h; exact hj) hX3 (by omega) hI3 hT3 kQ
        | some q =>
          have hq := hb q rfl
          show zR G yX4_hit cX4_hit 8 (Option.some Jvm.ClassFile.FieldType.int) [] d 125 [(0, .ref (kA c 1)), (1, .int x), (2, .int y), (3, .int (nI q)), (4, .ref it), (5, .ref (kA c (rB j))), (6, .ref a1), (7, .int (bI (nIns c x y j)))] [] σ3 _
          refine zr_iload_n dX4_hit_125 rfl rfl ?_
          refine zr_if_lt (tgt := 151) dX4_hit_126 (by decide) (fun h9 => absurd h9 (Int32.not_lt.mpr (show nI 0 ≤ nI q from (nI_leI (by omega) (by omega)).mpr (Nat.zero_le _)))) (fun _ => ?_)
          refine zr_aload dX4_hit_129 rfl ?_
          refine zr_get (k := 19) (v := .int (kF c j 20)) in_X5 (hS3.bx hj) rfl (Nat.le_of_ble_eq_true rfl) q2131 (.inl rfl) rfl dX4_hit_131 ?_
          refine zr_aload_n dX4_hit_134 rfl rfl ?_
          refine zr_get (k := 0) (v := .ref (kA c 2)) in_X4 hone3 rfl (Nat.le_of_ble_eq_true rfl) q2218 (.inl rfl) rfl dX4_hit_135 ?_
          refine zr_iload_n dX4_hit_138 rfl rfl ?_
          refine zr_call1 (rest := [.int (kF c j 20)]) (zs_V (As := [.int (nI q)]) (by omega) ok_J2_get q2250 q959 q2840 q56 q960 rfl hfl rfl rfl rfl (Nat.le_of_ble_eq_true rfl) dX4_hit_139) (c_J2_get (by omega) hG hS3.bxL (MSys.bxa hq)) ?_
          refine zr_castS (hS3.bx hq) rfl q2084 dX4_hit_142 ?_
          refine zr_get (k := 19) (v := .int (kF c q 20)) in_X5 (hS3.bx hq) rfl (Nat.le_of_ble_eq_true rfl) q2131 (.inl rfl) rfl dX4_hit_145 ?_
          refine zr_icmp_lt (tgt := 157) dX4_hit_148 (by decide) (fun h2 => ?_) (fun h2 => ?_)
          · rw [nHitS_1 h1 h2] at kQ
            refine zr_goto (tgt := 36) dX4_hit_157 (by decide) ?_
            refine zr_sub (ls2 := [(0, .ref (kA c 1)), (1, .int x), (2, .int y), (3, .int (nI q)), (4, .ref it)]) [0, 1, 2, 3, 4] rfl ?_
            exact ih (k + 1) _ _ (some q) σ3 hy2 (by omega) hb hX3 (by omega) hI3 hT3 kQ
          · rw [nHitS_2 h1 (by first | exact Int32.not_lt.mpr h2 | exact h2)] at kQ
            refine zr_aload dX4_hit_151 rfl ?_
            refine zr_get (k := 0) (v := .int (nI j)) in_X5 (hS3.bx hj) rfl (Nat.le_of_ble_eq_true rfl) q2093 (.inl rfl) rfl dX4_hit_153 ?_
            refine zr_istore_n (ls2 := [(0, .ref (kA c 1)), (1, .int x), (2, .int y), (3, .int (nI j)), (4, .ref it), (5, .ref (kA c (rB j))), (6, .ref a1), (7, .int (bI (nIns c x y j)))]) dX4_hit_156 rfl (Nat.le_of_ble_eq_true rfl) rfl ?_
            refine zr_goto (tgt := 36) dX4_hit_157 (by decide) ?_
            refine zr_sub (ls2 := [(0, .ref (kA c 1)), (1, .int x), (2, .int y), (3, .int (nI j)), (4, .ref it)]) [0, 1, 2, 3, 4] rfl ?_
            exact ih (k + 1) _ _ (some j) σ3 hy2 (by omega) (fun q h => by cases h; exact hj) hX3 (by omega) hI3 hT3 kQ
    refine zr_iload_n dX4_hit_65 rfl rfl ?_
    refine zr_aload dX4_hit_66 rfl ?_
    refine zr_call1 (rest := [.int x]) (zs_V (As := []) (by omega) ok_X15_x q2551 q2552 q2553 q100 q2554 rfl hA rfl rfl rfl (Nat.le_of_ble_eq_true rfl) dX4_hit_68) (c_X15_x hA) ?_
    refine zr_icmp_lt (tgt := 117) dX4_hit_71 (by decide) (fun g1 => ?_) (fun g1 => ?_)
    · refine zr_iconst (v := 0) dX4_hit_117 (by decide) ?_
      refine zr_istore (ls2 := [(0, .ref (kA c 1)), (1, .int x), (2, .int y), (3, .int (nHv b)), (4, .ref it), (5, .ref (kA c (rB j))), (6, .ref a1), (7, .int 0)]) dX4_hit_118 (Nat.le_of_ble_eq_true rfl) rfl ?_
      refine zr_sub (ls2 := [(0, .ref (kA c 1)), (1, .int x), (2, .int y), (3, .int (nHv b)), (4, .ref it), (5, .ref (kA c (rB j))), (6, .ref a1), (7, .int 0)]) [0, 1, 2, 3, 4, 5, 6, 7] rfl ?_
      exact key _ (by rw [show nIns c x y j = false from by unfold nIns isIn; rw [decide_eq_false (Int32.not_le.mpr g1)]; rfl]; rfl)
    · refine zr_iload_n dX4_hit_74 rfl rfl ?_
      refine zr_aload dX4_hit_75 rfl ?_
      refine zr_call1 (rest := [.int x]) (zs_V (As := []) (by omega) ok_X15_x q2551 q2552 q2553 q100 q2554 rfl hA rfl rfl rfl (Nat.le_of_ble_eq_true rfl) dX4_hit_77) (c_X15_x hA) ?_
      refine zr_aload dX4_hit_80 rfl ?_
      refine zr_get (k := 29) (v := .int (kP c j 2)) in_X5 (hS3.bx hj) rfl (Nat.le_of_ble_eq_true rfl) q2151 (.inl rfl) rfl dX4_hit_82 ?_
      refine zr_iadd dX4_hit_85 ?_
      refine zr_icmp_ge (tgt := 117) dX4_hit_86 (by decide) (fun g2 => ?_) (fun g2 => ?_)
      · refine zr_iconst (v := 0) dX4_hit_117 (by decide) ?_
        refine zr_istore (ls2 := [(0, .ref (kA c 1)), (1, .int x), (2, .int y), (3, .int (nHv b)), (4, .ref it), (5, .ref (kA c (rB j))), (6, .ref a1), (7, .int 0)]) dX4_hit_118 (Nat.le_of_ble_eq_true rfl) rfl ?_
        refine zr_sub (ls2 := [(0, .ref (kA c 1)), (1, .int x), (2, .int y), (3, .int (nHv b)), (4, .ref it), (5, .ref (kA c (rB j))), (6, .ref a1), (7, .int 0)]) [0, 1, 2, 3, 4, 5, 6, 7] rfl ?_
        exact key _ (by rw [show nIns c x y j = false from by unfold nIns isIn; rw [decide_eq_false (Int32.not_lt.mpr g2), Bool.and_false]; rfl]; rfl)
      · refine zr_iload_n dX4_hit_89 rfl rfl ?_
        refine zr_aload dX4_hit_90 rfl ?_
        refine zr_call1 (rest := [.int y]) (zs_V (As := []) (by omega) ok_X15_y q2555 q2556 q2557 q100 q2558 rfl hA rfl rfl rfl (Nat.le_of_ble_eq_true rfl) dX4_hit_92) (c_X15_y hA) ?_
        refine zr_icmp_lt (tgt := 117) dX4_hit_95 (by decide) (fun g3 => ?_) (fun g3 => ?_)
        · refine zr_iconst (v := 0) dX4_hit_117 (by decide) ?_
          refine zr_istore (ls2 := [(0, .ref (kA c 1)), (1, .int x), (2, .int y), (3, .int (nHv b)), (4, .ref it), (5, .ref (kA c (rB j))), (6, .ref a1), (7, .int 0)]) dX4_hit_118 (Nat.le_of_ble_eq_true rfl) rfl ?_
          refine zr_sub (ls2 := [(0, .ref (kA c 1)), (1, .int x), (2, .int y), (3, .int (nHv b)), (4, .ref it), (5, .ref (kA c (rB j))), (6, .ref a1), (7, .int 0)]) [0, 1, 2, 3, 4, 5, 6, 7] rfl ?_
          exact key _ (by rw [show nIns c x y j = false from by unfold nIns isIn; rw [decide_eq_false (Int32.not_le.mpr g3), Bool.false_and, Bool.and_false]]; rfl)
        · refine zr_iload_n dX4_hit_98 rfl rfl ?_
          refine zr_aload dX4_hit_99 rfl ?_
          refine zr_call1 (rest := [.int y]) (zs_V (As := []) (by omega) ok_X15_y q2555 q2556 q2557 q100 q2558 rfl hA rfl rfl rfl (Nat.le_of_ble_eq_true rfl) dX4_hit_101) (c_X15_y hA) ?_
          refine zr_aload dX4_hit_104 rfl ?_
          refine zr_get (k := 30) (v := .int (kP c j 3)) in_X5 (hS3.bx hj) rfl (Nat.le_of_ble_eq_true rfl) q2153 (.inl rfl) rfl dX4_hit_106 ?_
          refine zr_iadd dX4_hit_109 ?_
          refine zr_icmp_ge (tgt := 117) dX4_hit_110 (by decide) (fun g4 => ?_) (fun g4 => ?_)
          · refine zr_iconst (v := 0) dX4_hit_117 (by decide) ?_
            refine zr_istore (ls2 := [(0, .ref (kA c 1)), (1, .int x), (2, .int y), (3, .int (nHv b)), (4, .ref it), (5, .ref (kA c (rB j))), (6, .ref a1), (7, .int 0)]) dX4_hit_118 (Nat.le_of_ble_eq_true rfl) rfl ?_
            refine zr_sub (ls2 := [(0, .ref (kA c 1)), (1, .int x), (2, .int y), (3, .int (nHv b)), (4, .ref it), (5, .ref (kA c (rB j))), (6, .ref a1), (7, .int 0)]) [0, 1, 2, 3, 4, 5, 6, 7] rfl ?_
            exact key _ (by rw [show nIns c x y j = false from by unfold nIns isIn; rw [decide_eq_false (Int32.not_lt.mpr g4), Bool.and_false, Bool.and_false]]; rfl)
          · refine zr_iconst (v := 1) dX4_hit_113 (by decide) ?_
            refine zr_goto (tgt := 118) dX4_hit_114 (by decide) ?_
            refine zr_istore (ls2 := [(0, .ref (kA c 1)), (1, .int x), (2, .int y), (3, .int (nHv b)), (4, .ref it), (5, .ref (kA c (rB j))), (6, .ref a1), (7, .int 1)]) dX4_hit_118 (Nat.le_of_ble_eq_true rfl) rfl ?_
            exact key _ (by rw [show nIns c x y j = true from by unfold nIns isIn; rw [decide_eq_true (Int32.not_lt.mp g1), decide_eq_true (by first | exact g2 | exact Int32.not_le.mp g2), decide_eq_true (Int32.not_lt.mp g3), decide_eq_true (by first | exact g4 | exact Int32.not_le.mp g4)]; rfl]; rfl)
set_option maxHeartbeats 4000000 in
theorem c_X4_hit {G : zG} {σ : zT} {d : Nat} {c : zCS} {th ct : Int32} {x y : Int32} (hd : 120 ≤ d) (hG : zOk G) (hw : zGd G σ) (hS : MSys G σ c th ct) : zCall G I_X4_hit d [.ref (kA c 1), .int x, .int y] σ ((fun o σ' => oM o (nHit c x y) ∧ MSys G σ' c (nI (nHit c x y).1) ct ∧ zX G SM σ σ' 4000)) := by
  refine zCall_of (ls := [(0, .ref (kA c 1)), (1, .int x), (2, .int y)]) (by decide) (Nat.le_of_ble_eq_true rfl) rfl ?_
  have hle := hS.le
  refine zr_aload_n dX4_hit_0 rfl rfl ?_
  refine zr_aload_n dX4_hit_1 rfl rfl ?_
  refine zr_get (k := 4) (v := .int (kLw c)) in_X4 hS.one rfl (Nat.le_of_ble_eq_true rfl) q2222 (.inl rfl) rfl dX4_hit_2 ?_
  refine zr_if_eq (tgt := 12) dX4_hit_5 (by decide) (fun h1 => ?_) (fun h1 => ?_)
  · rw [show nHit c x y = (1, .null) from if_pos (by first | exact h1 | exact Decidable.not_not.mp h1)]
    refine zr_iconst (v := 1) dX4_hit_12 (by decide) ?_
    refine zr_put (k := 1) (fs' := (mO c 1 ct)) zt_X4 hS.1.1 rfl (Nat.le_of_ble_eq_true rfl) q2219 (.inl rfl) rfl rfl rfl (Nat.le_of_ble_eq_true rfl) rfl dX4_hit_13 ?_
    refine zr_aload_n dX4_hit_16 rfl rfl ?_
    refine zr_get (k := 1) (v := .int 1) in_X4 (.new (sF_upS _ _ _)) rfl (Nat.le_of_ble_eq_true rfl) q2219 (.inl rfl) rfl dX4_hit_17 ?_
    refine zr_if_le (tgt := 25) dX4_hit_20 (by decide) (fun h9 => absurd h9 (by decide)) (fun _ => ?_)
    refine zr_iconst (v := 0) dX4_hit_23 (by decide) ?_
    exact zr_iret rfl rfl dX4_hit_24 (⟨⟨_, rfl, fun h => by cases h⟩, hS.setT 1, (hS.XO hw _).le (by omega)⟩)
  · have hS1 := hS.setT 0
    have hX1 := hS.XO hw (mO c 0 ct)
    generalize hσ1 : sUp σ (kA c 1) (.inr (4, mO c 0 ct)) = σ1 at hS1 hX1
    have hone1 := hS1.one
    have hXi := zX.new S0 hX1.gd 0 (by omega) (.inr (21, [.int 0, .int (-1), .int (kM c 2), .ref (kA c 2)])) 4
    have hS2 := hS1.keep0 hX1.gd hXi
    refine zr_iconst (v := 0) dX4_hit_8 (by decide) ?_
    refine zr_goto (tgt := 13) dX4_hit_9 (by decide) ?_
    refine zr_put (k := 1) (fs' := (mO c 0 ct)) zt_X4 hS.1.1 rfl (Nat.le_of_ble_eq_true rfl) q2219 (.inl rfl) rfl rfl rfl (Nat.le_of_ble_eq_true rfl) rfl dX4_hit_13 ?_
    rw [hσ1]
    obtain ⟨fl_hfl, hfl⟩ := hS1.bxL.A
    refine zr_aload_n dX4_hit_16 rfl rfl ?_
    refine zr_get (k := 1) (v := .int 0) in_X4 hone1 rfl (Nat.le_of_ble_eq_true rfl) q2219 (.inl rfl) rfl dX4_hit_17 ?_
    refine zr_if_le (tgt := 25) dX4_hit_20 (by decide) (fun _ => ?_) (fun h9 => absurd (by decide) h9)
    refine zr_iconst (v := (-1)) dX4_hit_25 (by decide) ?_
    refine zr_istore_n (ls2 := [(0, .ref (kA c 1)), (1, .int x), (2, .int y), (3, .int (-1))]) dX4_hit_26 rfl (Nat.le_of_ble_eq_true rfl) rfl ?_
    refine zr_aload_n dX4_hit_27 rfl rfl ?_
    refine zr_get (k := 0) (v := .ref (kA c 2)) in_X4 hone1 rfl (Nat.le_of_ble_eq_true rfl) q2218 (.inl rfl) rfl dX4_hit_28 ?_
    refine zr_call1 (rest := []) (zs_V (As := []) (by omega) ok_J2_iterator q2322 q834 q2841 q56 q836 rfl hfl rfl rfl rfl (Nat.le_of_ble_eq_true rfl) dX4_hit_31) (c_J2_iterator (by omega) hX1.gd.1 hS1.bxL) ?_
    refine zr_astore (ls2 := [(0, .ref (kA c 1)), (1, .int x), (2, .int y), (3, .int (-1)), (4, .ref (sZ σ1))]) dX4_hit_34 (Nat.le_of_ble_eq_true rfl) rfl ?_
    refine l_X4_hit (N := 3700) (by omega) hG hX1.gd hS1 (Nat.le_refl _) (List.range (kN c)) 0 _ (-1) none _ rfl (Nat.zero_le _) (fun q h => by cases h) hXi (by rw [List.length_range]; omega) (sF_newS _ _ _ _) (sT_newS _ _ _ _) (fun σ3 hX3 hb3 => ?_)
    have hS3 := hS1.keep0 hX1.gd hX3
    have e9 : nHit c x y = (match ((List.range (kN c)).foldl (nHitS c x y) none) with | none => (2, .null) | some j => (0, .int (nI j))) := if_neg (by first | exact h1 | exact fun h => h1 h)
    rw [e9]
    generalize hf : ((List.range (kN c)).foldl (nHitS c x y) none) = bf at hb3 ⊢
    have h3F := hS3.1.1
    have hone3 := hS3.one
    cases bf with
    | none =>
      show zR G yX4_hit cX4_hit 8 (Option.some Jvm.ClassFile.FieldType.int) [] d 160 [(0, .ref (kA c 1)), (1, .int x), (2, .int y), (3, .int (-1)), (4, .ref (sZ σ1))] [] σ3 _
      refine zr_aload_n dX4_hit_160 rfl rfl ?_
      refine zr_iload_n dX4_hit_161 rfl rfl ?_
      refine zr_if_ge (tgt := 169) dX4_hit_162 (by decide) (fun h9 => absurd h9 (by decide)) (fun _ => ?_)
      refine zr_iconst (v := 2) dX4_hit_165 (by decide) ?_
      refine zr_goto (tgt := 170) dX4_hit_166 (by decide) ?_
      refine zr_put (k := 1) (fs' := (mO c 2 ct)) zt_X4 h3F rfl (Nat.le_of_ble_eq_true rfl) q2219 (.inl rfl) rfl rfl rfl (Nat.le_of_ble_eq_true rfl) rfl dX4_hit_170 ?_
      refine zr_aload_n dX4_hit_173 rfl rfl ?_
      refine zr_get (k := 1) (v := .int 2) in_X4 (.new (sF_upS _ _ _)) rfl (Nat.le_of_ble_eq_true rfl) q2219 (.inl rfl) rfl dX4_hit_174 ?_
      refine zr_if_le (tgt := 184) dX4_hit_177 (by decide) (fun h9 => absurd h9 (by decide)) (fun _ => ?_)
      refine zr_iconst (v := 0) dX4_hit_180 (by decide) ?_
      refine zr_goto (tgt := 185) dX4_hit_181 (by decide) ?_
      exact zr_iret rfl rfl dX4_hit_185 (⟨⟨_, rfl, fun h => by cases h⟩, hS3.setT 2, ((hX1.trans hX3.in).trans (hS3.XO hX3.gd _)).le (by omega)⟩)
    | some j =>
      have hj := hb3 j rfl
      show zR G yX4_hit cX4_hit 8 (Option.some Jvm.ClassFile.FieldType.int) [] d 160 [(0, .ref (kA c 1)), (1, .int x), (2, .int y), (3, .int (nI j)), (4, .ref (sZ σ1))] [] σ3 _
      refine zr_aload_n dX4_hit_160 rfl rfl ?_
      refine zr_iload_n dX4_hit_161 rfl rfl ?_
      refine zr_if_ge (tgt := 169) dX4_hit_162 (by decide) (fun _ => ?_) (fun h9 => absurd ((show nI 0 ≤ nI j from (nI_leI (by omega) (by omega)).mpr (Nat.zero_le _))) h9)
      refine zr_iconst (v := 0) dX4_hit_169 (by decide) ?_
      refine zr_put (k := 1) (fs' := (mO c 0 ct)) zt_X4 h3F rfl (Nat.le_of_ble_eq_true rfl) q2219 (.inl rfl) rfl rfl rfl (Nat.le_of_ble_eq_true rfl) rfl dX4_hit_170 ?_
      refine zr_aload_n dX4_hit_173 rfl rfl ?_
      refine zr_get (k := 1) (v := .int 0) in_X4 (.new (sF_upS _ _ _)) rfl (Nat.le_of_ble_eq_true rfl) q2219 (.inl rfl) rfl dX4_hit_174 ?_
      refine zr_if_le (tgt := 184) dX4_hit_177 (by decide) (fun _ => ?_) (fun h9 => absurd (by decide) h9)
      refine zr_iload_n dX4_hit_184 rfl rfl ?_
      exact zr_iret rfl rfl dX4_hit_185 (⟨⟨_, rfl, fun _ => rfl⟩, hS3.setT 0, ((hX1.trans hX3.in).trans (hS3.XO hX3.gd _)).le (by omega)⟩)
