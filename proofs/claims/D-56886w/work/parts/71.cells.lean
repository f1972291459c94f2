/-! ===== the layout: layCells (rows printed by tools/p71.py) ===== -/
def gcW (c : zCS) (g : Nat → Int32) (q : Nat × Nat) : Int32 := if kTold c q.2 = -1 then imax (2 * kF c q.2 12) (g q.1 - kSides c q.2) else kTold c q.2
def gcB2 (g : Nat → Int32) (top : Int32) (s : zCS × Int32) (x h : Int32) (q : Nat × Nat) : (zCS × Int32) × Int32 × Int32 :=
  ((cPut s.1 q.2 x top, s.2), x + g q.1, imax h (kP (cPut s.1 q.2 x top) q.2 3 + kEnds (cPut s.1 q.2 x top) q.2))
def gcB (L : LayT) (g : Nat → Int32) (top : Int32) (s : (zCS × Int32) × Int32 × Int32) (q : Nat × Nat) : (zCS × Int32) × Int32 × Int32 :=
  gcB2 g top (L s.1 q.2 (gcW s.1.1 g q)) s.2.1 s.2.2 q
def cellE (L : LayT) (s : zCS × Int32) (es : List Nat) (g : Nat → Int32) (left top : Int32) : (zCS × Int32) × Int32 × Int32 := (nums es 0).foldl (gcB L g top) (s, left, 0)
def cCells (L : LayT) (s : zCS × Int32) (es : List Nat) (g : Nat → Int32) (left top : Int32) : (zCS × Int32) × Int32 :=
  ((cStrs (cellE L s es g left top).1.1 es (cellE L s es g left top).2.2, (cellE L s es g left top).1.2), (cellE L s es g left top).2.2)
theorem gcW_Z (c : zCS) (g : Nat → Int32) (q : Nat × Nat) : gcW (kZ c) g q = gcW c g q := rfl
theorem LY.upX {G : zG} {σ : zT} {c : zCS} {ly : Nat} {chk : Bool} {n : Int32} (h : LY G σ c ly chk n) {a ci : Nat} {fs gs : List Value} (ha : sF σ a = some (.inr (ci, fs))) (h20 : ci ≠ 20) (h11 : ci ≠ 11) (h1 : 1 ≠ ci) (h2 : 2 ≠ ci) (h3 : 3 ≠ ci) (h6 : 6 ≠ ci) : LY G (sUp σ a (.inr (ci, gs))) c ly chk n := by
  refine ⟨h.1.upO ha h20 h11 rfl rfl rfl rfl rfl rfl h.1.2.2.2 ?_ (fun j hj => ?_) (fun j hj => ?_), ?_, h.2.2⟩
  · rw [sF_upN _ _ _ (sF_ne h.1.1.1 ha (zE_ne h1))]; exact h.1.1.1
  · rw [sF_upN _ _ _ (sF_ne (h.1.bF hj) ha (zE_ne h2))]; exact h.1.bF hj
  · rw [sF_upN _ _ _ (sF_ne (h.1.pF hj) ha (zE_ne h3))]; exact h.1.pF hj
  · rw [sF_upN _ _ _ (sF_ne h.2.1 ha (zE_ne h6))]; exact h.2.1
set_option maxHeartbeats 4000000 in
theorem l_X6_cellB {G : zG} {σ : zT} {d f off rn : Nat} {c0 : zCS} {l wa ly s : Nat} {mod left top : Int32} {es rs : List Nat} {L : LayT} {chk : Bool} {Q : zO → zT → Prop} (hd : 87 ≤ d) (hG : zOk G) (hw : zGd G σ) (hL : zL G σ (dT l) l mod (es.map (fun j => kA c0 (rB j)))) (hs : zSub G σ s l off rn mod) (hst : sT σ s = 0) (hsn : off + rn ≤ (es.map (fun j => kA c0 (rB j))).length) (hrn : rs.length = rn) (hrs : ∀ (k j : Nat), rs[k]? = some j → es[off + k]? = some j) (hes : ∀ j, j ∈ rs → j < kN c0 ∧ kN c0 ≤ f + j) (hel : es.length ≤ 24) {g : Nat → Int32} {gn : Nat} (hgn : rs.length ≤ gn) (hA0 : sF σ wa = some (aI G gn g)) (hg4 : gn ≤ 4) (hT0 : sT σ wa = dT wa) (hLay : ∀ (σ : zT) (c : zCS) (n : Int32) (j : Nat) (wd : Int32), zGd G σ → LY G σ c ly chk n → j < kN c → kN c ≤ f + j → zCall G I_X6_lay (d - 1) [.ref ly, .ref (kA c (rB j)), .int wd] σ (fun o σ' => ∃ c', o = .inl none ∧ KEq c c' ∧ kZ c' = (L (kZ c, n) j wd).1 ∧ LY G σ' c' ly chk (L (kZ c, n) j wd).2 ∧ zX G SC σ σ' (LB f c j))) {N : Nat} : ∀ (ys : List Nat) (k m : Nat) (c : zCS) (n x hi9 : Int32) (σ1 : zT), rs.drop k = ys → k ≤ rs.length → KEq c0 c → zX G SC σ σ1 m → m + (ys.map (fun j => LB f c0 j)).sum ≤ N → LY G σ1 c ly chk n → (∀ σ2 c2 x2, KEq c0 c2 → zX G SC σ σ2 N → kZ c2 = ((nums ys k).foldl (gcB L g top) ((kZ c, n), x, hi9)).1.1 → LY G σ2 c2 ly chk ((nums ys k).foldl (gcB L g top) ((kZ c, n), x, hi9)).1.2 → zR G yX6_layCells cX6_layCells 10 (Option.some Jvm.ClassFile.FieldType.int) [] d 126 [(0, .ref ly), (1, .ref s), (2, .ref wa), (3, .int left), (4, .int top), (5, .int ((nums ys k).foldl (gcB L g top) ((kZ c, n), x, hi9)).2.2), (6, .int ((nums ys k).foldl (gcB L g top) ((kZ c, n), x, hi9)).2.1), (7, .int x2)] [] σ2 Q) → zR G yX6_layCells cX6_layCells 10 (Option.some Jvm.ClassFile.FieldType.int) [] d 9 [(0, .ref ly), (1, .ref s), (2, .ref wa), (3, .int left), (4, .int top), (5, .int hi9), (6, .int x), (7, .int (nI k))] [] σ1 Q := by
  intro ys
  induction ys with
  | nil =>
    intro k m c n x hi9 σ1 hy hk hE hX hN hY kQ
    have hkl := drop_nil hy hk
    have hs1 : zSub G σ1 s l off rn mod := hX.f hw hs (by rw [hst]; exact SC_0)
    have hL1 := hX.L hw hL (SC_big (by unfold dT; omega)) (SC_big (by unfold dT; omega))
    refine zr_iload dX6_layCells_9 rfl ?_
    refine zr_aload_n dX6_layCells_11 rfl rfl ?_
    refine zr_call51 (rest := [.int (nI k)]) (zs_F (As := []) (by omega) okF_J28_size (by decide +kernel) q1133 q168 q170 q90 q172 (.new hs1) rfl rfl rfl (Nat.le_of_ble_eq_true rfl) dX6_layCells_12) (c_J28_size hL1 hs1 hsn (by omega)) ?_
    refine zr_icmp_ge (tgt := 126) dX6_layCells_17 (by decide) (fun _ => ?_) (fun h9 => absurd (by rw [hkl, hrn]; exact Int32.le_refl _) h9)
    exact kQ σ1 c _ hE (hX.le (by simpa using hN)) rfl hY
  | cons j ys ih =>
    intro k m c n x hi9 σ1 hy hk hE hX hN hY kQ
    obtain ⟨hx, hy2, hkl, hm⟩ := drop_cons hy
    obtain ⟨hj, hjf⟩ := hes j hm
    have hs1 : zSub G σ1 s l off rn mod := hX.f hw hs (by rw [hst]; exact SC_0)
    have hL1 := hX.L hw hL (SC_big (by unfold dT; omega)) (SC_big (by unfold dT; omega))
    have hA := hX.f hw hA0 (by rw [hT0]; exact SC_big (by unfold dT; omega))
    have hle : (es.map (fun j => kA c0 (rB j))).length = es.length := List.length_map _
    rw [List.map_cons, List.sum_cons] at hN
    have hS1 := hY.1
    have hY1 := hY
    have hbj : zAt G σ1 (kA c0 (rB j)) (.inr (2, kBx c j)) := hE.b j ▸ hS1.bx (hE.nn hj)
    refine zr_iload dX6_layCells_9 rfl ?_
    refine zr_aload_n dX6_layCells_11 rfl rfl ?_
    refine zr_call51 (rest := [.int (nI k)]) (zs_F (As := []) (by omega) okF_J28_size (by decide +kernel) q1133 q168 q170 q90 q172 (.new hs1) rfl rfl rfl (Nat.le_of_ble_eq_true rfl) dX6_layCells_12) (c_J28_size hL1 hs1 hsn (by omega)) ?_
    refine zr_icmp_ge (tgt := 126) dX6_layCells_17 (by decide) (fun h9 => absurd h9 (nI_ge (by omega) (by omega))) (fun _ => ?_)
    refine zr_aload_n dX6_layCells_20 rfl rfl ?_
    refine zr_iload dX6_layCells_21 rfl ?_
    refine zr_call51 (rest := []) (zs_F (As := [.int (nI k)]) (by omega) okF_J28_get (by decide +kernel) q1103 q1109 q972 q90 q973 (.new hs1) rfl rfl rfl (Nat.le_of_ble_eq_true rfl) dX6_layCells_23) (c_J28_get hL1 hs1 hsn (by omega) hG (by omega) (map_at (fun j => kA c0 (rB j)) (hrs k j hx))) ?_
    refine zr_castS hbj rfl q1112 dX6_layCells_28 ?_
    refine zr_astore (ls2 := [(0, .ref ly), (1, .ref s), (2, .ref wa), (3, .int left), (4, .int top), (5, .int hi9), (6, .int x), (7, .int (nI k)), (8, .ref (kA c0 (rB j)))]) dX6_layCells_31 (Nat.le_of_ble_eq_true rfl) rfl ?_
    refine zr_aload dX6_layCells_33 rfl ?_
    refine zr_call1 (rest := []) (zs_V (As := []) (by omega) ok_X2_told q1319 q1143 q1144 q57 q1145 rfl hbj rfl rfl rfl (Nat.le_of_ble_eq_true rfl) dX6_layCells_35) (zC.at1 (hE.b j) (c_X2_told (by omega) hS1 (hE.nn hj))) ?_
    refine zr_iconst (v := (-1)) dX6_layCells_38 (by decide) ?_
    have key : ∀ a9, a9 = gcW c g (k, j) → zR G yX6_layCells cX6_layCells 10 (Option.some Jvm.ClassFile.FieldType.int) [] d 70 [(0, .ref ly), (1, .ref s), (2, .ref wa), (3, .int left), (4, .int top), (5, .int hi9), (6, .int x), (7, .int (nI k)), (8, .ref (kA c0 (rB j)))] [.int a9] σ1 Q := by
      intro a9 ha9
      obtain ⟨_, σ3, ⟨c3, rfl, hE3, hz3, hY3, hX3⟩, hC⟩ := hLay σ1 c n j a9 hX.gd hY (hE.nn hj) (by rw [hE.n]; exact hjf)
      have hC' := zC.at2 (hE.b j) hC
      have hE03 := hE.trans hE3
      have hX4 := hX.trans hX3
      have hS3 := hY3.1
      have hA3 := hX4.f hw hA0 (by rw [hT0]; exact SC_big (by unfold dT; omega))
      refine zr_istore (ls2 := [(0, .ref ly), (1, .ref s), (2, .ref wa), (3, .int left), (4, .int top), (5, .int hi9), (6, .int x), (7, .int (nI k)), (8, .ref (kA c0 (rB j))), (9, .int a9)]) dX6_layCells_70 (Nat.le_of_ble_eq_true rfl) rfl ?_
      refine zr_aload_n dX6_layCells_72 rfl rfl ?_
      refine zr_aload dX6_layCells_73 rfl ?_
      refine zr_iload dX6_layCells_75 rfl ?_
      refine zr_callv (rest := []) (zs_V (As := [.ref (kA c0 (rB j)), .int a9]) (by omega) ok_X6_lay q1113 q1115 qs10 q83 q1116 rfl hY.lf rfl rfl rfl (Nat.le_of_ble_eq_true rfl) dX6_layCells_77) hC' ?_
      refine zr_aload_n dX6_layCells_80 rfl rfl ?_
      refine zr_aload dX6_layCells_81 rfl ?_
      refine zr_iload dX6_layCells_83 rfl ?_
      refine zr_iload dX6_layCells_85 rfl ?_
      obtain ⟨_, σ4, ⟨rfl, hY4, hX5⟩, hC4⟩ := c_X6_put (d := d - 1) (x := x) (y := top) (by omega) hX4.gd hY3 (hE03.nn hj)
      have hC4' := zC.at2 (hE03.b j) hC4
      have hE4 := hE03.trans (KEq.Put c3 j x top)
      have hX6 := hX4.trans hX5
      have hS4 := hY4.1
      have hA4 := hX6.f hw hA0 (by rw [hT0]; exact SC_big (by unfold dT; omega))
      generalize hc4 : cPut c3 j x top = c4 at hE4 hY4 hS4
      refine zr_callv (rest := []) (zs_V (As := [.ref (kA c0 (rB j)), .int x, .int top]) (by omega) ok_X6_put q1201 q1203 qs15 q83 q1204 rfl hY3.lf rfl rfl rfl (Nat.le_of_ble_eq_true rfl) dX6_layCells_87) hC4' ?_
      have hbj4 : zAt G σ4 (kA c0 (rB j)) (.inr (2, kBx c4 j)) := hE4.b j ▸ hS4.bx (hE4.nn hj)
      refine zr_iload dX6_layCells_90 rfl ?_
      refine zr_aload_n dX6_layCells_92 rfl rfl ?_
      refine zr_iload dX6_layCells_93 rfl ?_
      refine zr_iald (v := .int (g k)) (.new hA4) (vp_in_nI (by omega) (by omega)) (by rw [nI_clamp (by omega)]) dX6_layCells_95 ?_
      refine zr_iadd dX6_layCells_96 ?_
      refine zr_istore (ls2 := [(0, .ref ly), (1, .ref s), (2, .ref wa), (3, .int left), (4, .int top), (5, .int hi9), (6, .int (x + (g k))), (7, .int (nI k)), (8, .ref (kA c0 (rB j))), (9, .int a9)]) dX6_layCells_97 (Nat.le_of_ble_eq_true rfl) rfl ?_
      refine zr_iload dX6_layCells_99 rfl ?_
      refine zr_aload dX6_layCells_101 rfl ?_
      refine zr_getN (k := 24) (v := .ref (kA c4 (rP j))) in_X2 hbj4 rfl (Nat.le_of_ble_eq_true rfl) q290 (.inl rfl) rfl dX6_layCells_103 ?_
      refine zr_getN (k := 3) (v := .int (kP c4 j 3)) in_X3 (CSys.pl (c := c4) hS4 (hE4.nn hj)) rfl (Nat.le_of_ble_eq_true rfl) q204 (.inl rfl) rfl dX6_layCells_106 ?_
      refine zr_aload dX6_layCells_109 rfl ?_
      refine zr_call1 (rest := [.int (kP c4 j 3), .int hi9]) (zs_V (As := []) (by omega) ok_X2_ends q1230 q1231 q1232 q57 q1233 rfl hbj4 rfl rfl rfl (Nat.le_of_ble_eq_true rfl) dX6_layCells_111) (zC.at1 (hE4.b j) (c_X2_ends (by omega) hS4 (hE4.nn hj))) ?_
      refine zr_iadd dX6_layCells_114 ?_
      refine zr_max (by omega) q1239 q376 q60 q377 (Nat.le_of_ble_eq_true rfl) dX6_layCells_115 ?_
      refine zr_istore (ls2 := [(0, .ref ly), (1, .ref s), (2, .ref wa), (3, .int left), (4, .int top), (5, .int (imax hi9 ((kP c4 j 3) + (kEnds c4 j)))), (6, .int (x + (g k))), (7, .int (nI k)), (8, .ref (kA c0 (rB j))), (9, .int a9)]) dX6_layCells_118 (Nat.le_of_ble_eq_true rfl) rfl ?_
      refine zr_iinc (v := ((nI k) + 1)) (ls2 := [(0, .ref ly), (1, .ref s), (2, .ref wa), (3, .int left), (4, .int top), (5, .int (imax hi9 ((kP c4 j 3) + (kEnds c4 j)))), (6, .int (x + (g k))), (7, .int ((nI k) + 1)), (8, .ref (kA c0 (rB j))), (9, .int a9)]) dX6_layCells_120 rfl rfl (Nat.le_of_ble_eq_true rfl) rfl ?_
      rw [show nI k + 1 = nI (k + 1) from nI_1 k]
      refine zr_goto (tgt := 9) dX6_layCells_123 (by decide) ?_
      refine zr_sub (ls2 := [(0, .ref ly), (1, .ref s), (2, .ref wa), (3, .int left), (4, .int top), (5, .int (imax hi9 ((kP c4 j 3) + (kEnds c4 j)))), (6, .int (x + (g k))), (7, .int (nI (k + 1)))]) [0, 1, 2, 3, 4, 5, 6, 7] rfl ?_
      have e9 : gcB L g top ((kZ c, n), x, hi9) (k, j) = ((kZ c4, (L (kZ c, n) j a9).2), x + g k, imax hi9 (kP c4 j 3 + kEnds c4 j)) := by
        show gcB2 g top (L (kZ c, n) j (gcW (kZ c) g (k, j))) x hi9 (k, j) = _
        rw [gcW_Z, ← ha9, ← hc4]
        unfold gcB2
        rw [← hz3]
        rfl
      refine ih (k + 1) _ c4 _ _ _ σ4 hy2 (by omega) hE4 hX6 (by rw [LB_eq hE]; omega) hY4 ?_
      intro σ5 c5 x5 q1 q2 q3 q4
      have k9 := kQ σ5 c5 x5 q1 q2
      rw [show nums (j :: ys) k = (k, j) :: nums ys (k + 1) from rfl, List.foldl_cons, e9] at k9
      exact k9 q3 q4
    refine zr_icmp_eq (tgt := 50) dX6_layCells_39 (by decide) (fun h1 => ?_) (fun h1 => ?_)
    · refine zr_iconst (v := 2) dX6_layCells_50 (by decide) ?_
      refine zr_aload dX6_layCells_51 rfl ?_
      refine zr_getN (k := 12) (v := .int (kF c j 12)) in_X2 hbj rfl (Nat.le_of_ble_eq_true rfl) q259 (.inl rfl) rfl dX6_layCells_53 ?_
      refine zr_imul dX6_layCells_56 ?_
      refine zr_aload_n dX6_layCells_57 rfl rfl ?_
      refine zr_iload dX6_layCells_58 rfl ?_
      refine zr_iald (v := .int (g k)) (.new hA) (vp_in_nI (by omega) (by omega)) (by rw [nI_clamp (by omega)]) dX6_layCells_60 ?_
      refine zr_aload dX6_layCells_61 rfl ?_
      refine zr_call1 (rest := [.int (g k), .int (2 * (kF c j 12))]) (zs_V (As := []) (by omega) ok_X2_sides q1181 q1164 q1165 q57 q1166 rfl hbj rfl rfl rfl (Nat.le_of_ble_eq_true rfl) dX6_layCells_63) (zC.at1 (hE.b j) (c_X2_sides (by omega) hS1 (hE.nn hj))) ?_
      refine zr_isub dX6_layCells_66 ?_
      refine zr_max (by omega) q1239 q376 q60 q377 (Nat.le_of_ble_eq_true rfl) dX6_layCells_67 ?_
      exact key _ (if_pos h1).symm
    · refine zr_aload dX6_layCells_42 rfl ?_
      refine zr_call1 (rest := []) (zs_V (As := []) (by omega) ok_X2_told q1319 q1143 q1144 q57 q1145 rfl hbj rfl rfl rfl (Nat.le_of_ble_eq_true rfl) dX6_layCells_44) (zC.at1 (hE.b j) (c_X2_told (by omega) hS1 (hE.nn hj))) ?_
      refine zr_goto (tgt := 70) dX6_layCells_47 (by decide) ?_
      exact key _ (if_neg h1).symm
set_option maxHeartbeats 4000000 in
theorem l_X6_cellS {G : zG} {σ : zT} {d off rn : Nat} {c0 : zCS} {l it ly s wa : Nat} {mod n left top x : Int32} {es rs : List Nat} {chk : Bool} {hi9 : Int32} {Q : zO → zT → Prop} (hd : 20 ≤ d) (hG : zOk G) (hw : zGd G σ) (hL : zL G σ (dT l) l mod (es.map (fun j => kA c0 (rB j)))) (hs : zSub G σ s l off rn mod) (hst : sT σ s = 0) (hsn : off + rn ≤ (es.map (fun j => kA c0 (rB j))).length) (hrn : rs.length = rn) (hrs : ∀ (k j : Nat), rs[k]? = some j → es[off + k]? = some j) (hes : ∀ j, j ∈ rs → j < kN c0) (hit : sZ σ ≤ it) : ∀ (ys : List Nat) (k : Nat) (lr : Int32) (c : zCS) (σ1 : zT) (m : Nat), rs.drop k = ys → k ≤ rs.length → KEq c0 c → zX G SC σ σ1 m → LY G σ1 c ly chk n → sF σ1 it = some (.inr (23, [.int (nI k), .int lr, .int mod, .int 0, .ref s])) → sT σ1 it = 0 → (∀ σ2 c2, KEq c0 c2 → zX G SC σ σ2 m → kZ c2 = cStrs (kZ c) ys hi9 → LY G σ2 c2 ly chk n → zR G yX6_layCells cX6_layCells 10 (Option.some Jvm.ClassFile.FieldType.int) [] d 167 [(0, .ref ly), (1, .ref s), (2, .ref wa), (3, .int left), (4, .int top), (5, .int hi9), (6, .int x), (7, .ref it)] [] σ2 Q) → zR G yX6_layCells cX6_layCells 10 (Option.some Jvm.ClassFile.FieldType.int) [] d 134 [(0, .ref ly), (1, .ref s), (2, .ref wa), (3, .int left), (4, .int top), (5, .int hi9), (6, .int x), (7, .ref it)] [] σ1 Q := by
  intro ys
  induction ys with
  | nil =>
    intro k lr c σ1 m hy hk hE hX hY hI hT kQ
    have hs1 : zSub G σ1 s l off rn mod := hX.f hw hs (by rw [hst]; exact SC_0)
    have hL1 := hX.L hw hL (SC_big (by unfold dT; omega)) (SC_big (by unfold dT; omega))
    have hkl := drop_nil hy hk
    refine zr_aload dX6_layCells_134 rfl ?_
    refine zr_call51 (rest := []) (zs_F (As := []) (by omega) okF_J26_hasNext (by decide +kernel) q1189 q936 q938 q88 q940 (.new hI) rfl rfl rfl (Nat.le_of_ble_eq_true rfl) dX6_layCells_136) (c_sNext0 hL1 hs1 hsn hI (by omega)) ?_
    refine zr_if_eq (tgt := 167) dX6_layCells_141 (by decide) (fun _ => ?_) (fun h9 => absurd (rfl) h9)
    exact kQ σ1 c hE hX rfl hY
  | cons j ys ih =>
    intro k lr c σ1 m hy hk hE hX hY hI hT kQ
    have hs1 : zSub G σ1 s l off rn mod := hX.f hw hs (by rw [hst]; exact SC_0)
    have hL1 := hX.L hw hL (SC_big (by unfold dT; omega)) (SC_big (by unfold dT; omega))
    obtain ⟨hx, hy2, hkl, hm⟩ := drop_cons hy
    have hj := hes j hm
    have hX2 := hX.upN (gs := [.int (nI (k + 1)), .int (nI k), .int mod, .int 0, .ref s]) hI hit
    have hY2 : LY G (sUp σ1 it (.inr (23, [.int (nI (k + 1)), .int (nI k), .int mod, .int 0, .ref s]))) c ly chk n := hY.upX hI (by decide) (by decide) (by decide) (by decide) (by decide) (by decide)
    have hS2 := hY2.1
    have hbj : zAt G (sUp σ1 it (.inr (23, [.int (nI (k + 1)), .int (nI k), .int mod, .int 0, .ref s]))) (kA c0 (rB j)) (.inr (2, kBx c j)) := hE.b j ▸ hS2.bx (hE.nn hj)
    obtain ⟨_, σ3, ⟨rfl, hY3, hX3⟩, hC⟩ := c_X6_stretch (d := d - 1) (v := hi9) (by omega) hX2.gd hY2 (hE.nn hj)
    have hC' := zC.at2 (hE.b j) hC
    have hE3 := hE.trans (KEq.Str c j hi9)
    have hI3 := hX3.f hX2.gd (sF_upS _ _ _) (by rw [show sT (sUp σ1 it (.inr (23, [.int (nI (k + 1)), .int (nI k), .int mod, .int 0, .ref s]))) it = 0 from hT]; exact SC_0)
    have hT3 := (hX3.t hX2.gd (sF_upS _ _ _)).trans hT
    refine zr_aload dX6_layCells_134 rfl ?_
    refine zr_call51 (rest := []) (zs_F (As := []) (by omega) okF_J26_hasNext (by decide +kernel) q1189 q936 q938 q88 q940 (.new hI) rfl rfl rfl (Nat.le_of_ble_eq_true rfl) dX6_layCells_136) (c_sNext1 hL1 hs1 hsn hI (by omega)) ?_
    refine zr_if_eq (tgt := 167) dX6_layCells_141 (by decide) (fun h9 => absurd h9 (by decide)) (fun _ => ?_)
    refine zr_aload dX6_layCells_144 rfl ?_
    refine zr_call51 (rest := []) (zs_F (As := []) (by omega) okF_J26_next (by decide +kernel) q1191 q1068 q1070 q88 q1072 (.new hI) rfl rfl rfl (Nat.le_of_ble_eq_true rfl) dX6_layCells_146) (c_J26_next hL1 hs1 hsn hI (by omega) hG (by omega) (map_at (fun j => kA c0 (rB j)) (hrs k j hx))) ?_
    refine zr_castS hbj rfl q1112 dX6_layCells_151 ?_
    refine zr_astore (ls2 := [(0, .ref ly), (1, .ref s), (2, .ref wa), (3, .int left), (4, .int top), (5, .int hi9), (6, .int x), (7, .ref it), (8, .ref (kA c0 (rB j)))]) dX6_layCells_154 (Nat.le_of_ble_eq_true rfl) rfl ?_
    refine zr_aload_n dX6_layCells_156 rfl rfl ?_
    refine zr_aload dX6_layCells_157 rfl ?_
    refine zr_iload dX6_layCells_159 rfl ?_
    refine zr_callv (rest := []) (zs_V (As := [.ref (kA c0 (rB j)), .int hi9]) (by omega) ok_X6_stretch q1240 q1242 qs17 q83 q1243 rfl hY2.lf rfl rfl rfl (Nat.le_of_ble_eq_true rfl) dX6_layCells_161) hC' ?_
    refine zr_goto (tgt := 134) dX6_layCells_164 (by decide) ?_
    refine zr_sub (ls2 := [(0, .ref ly), (1, .ref s), (2, .ref wa), (3, .int left), (4, .int top), (5, .int hi9), (6, .int x), (7, .ref it)]) [0, 1, 2, 3, 4, 5, 6, 7] rfl ?_
    refine ih (k + 1) _ (cStr c j hi9) σ3 m hy2 (by omega) hE3 ((hX2.trans hX3).le (by omega)) hY3 hI3 hT3 (fun σ4 c4 q1 q2 q3 q4 => kQ σ4 c4 q1 q2 ?_ q4)
    rw [q3, kZ_Str]
    rfl
set_option maxHeartbeats 4000000 in
theorem c_X6_layCells {G : zG} {σ : zT} {d f off rn : Nat} {c : zCS} {l wa ly s : Nat} {mod left top : Int32} {es rs : List Nat} {L : LayT} {chk : Bool} (hd : 88 ≤ d) (hG : zOk G) (hw : zGd G σ) (hL : zL G σ (dT l) l mod (es.map (fun j => kA c (rB j)))) (hs : zSub G σ s l off rn mod) (hst : sT σ s = 0) (hsn : off + rn ≤ (es.map (fun j => kA c (rB j))).length) (hrn : rs.length = rn) (hrs : ∀ (k j : Nat), rs[k]? = some j → es[off + k]? = some j) (hes : ∀ j, j ∈ rs → j < kN c ∧ kN c ≤ f + j) (hel : es.length ≤ 24) {n : Int32} {g : Nat → Int32} {gn : Nat} (hgn : rs.length ≤ gn) (hA0 : sF σ wa = some (aI G gn g)) (hg4 : gn ≤ 4) (hT0 : sT σ wa = dT wa) (hY : LY G σ c ly chk n) (hLay : ∀ (σ : zT) (c : zCS) (n : Int32) (j : Nat) (wd : Int32), zGd G σ → LY G σ c ly chk n → j < kN c → kN c ≤ f + j → zCall G I_X6_lay (d - 1) [.ref ly, .ref (kA c (rB j)), .int wd] σ (fun o σ' => ∃ c', o = .inl none ∧ KEq c c' ∧ kZ c' = (L (kZ c, n) j wd).1 ∧ LY G σ' c' ly chk (L (kZ c, n) j wd).2 ∧ zX G SC σ σ' (LB f c j))) : zCall G I_X6_layCells d [.ref ly, .ref s, .ref wa, .int left, .int top] σ ((fun o σ' => ∃ c', o = .inl (some (.int (cCells L (kZ c, n) rs g left top).2)) ∧ KEq c c' ∧ kZ c' = (cCells L (kZ c, n) rs g left top).1.1 ∧ LY G σ' c' ly chk (cCells L (kZ c, n) rs g left top).1.2 ∧ zX G SC σ σ' (20 + (rs.map (fun j => LB f c j)).sum))) := by
  refine zCall_of (ls := [(0, .ref ly), (1, .ref s), (2, .ref wa), (3, .int left), (4, .int top)]) (by decide) (Nat.le_of_ble_eq_true rfl) rfl ?_
  refine zr_iconst (v := 0) dX6_layCells_0 (by decide) ?_
  refine zr_istore (ls2 := [(0, .ref ly), (1, .ref s), (2, .ref wa), (3, .int left), (4, .int top), (5, .int 0)]) dX6_layCells_1 (Nat.le_of_ble_eq_true rfl) rfl ?_
  refine zr_iload_n dX6_layCells_3 rfl rfl ?_
  refine zr_istore (ls2 := [(0, .ref ly), (1, .ref s), (2, .ref wa), (3, .int left), (4, .int top), (5, .int 0), (6, .int left)]) dX6_layCells_4 (Nat.le_of_ble_eq_true rfl) rfl ?_
  refine zr_iconst (v := 0) dX6_layCells_6 (by decide) ?_
  refine zr_istore (ls2 := [(0, .ref ly), (1, .ref s), (2, .ref wa), (3, .int left), (4, .int top), (5, .int 0), (6, .int left), (7, .int 0)]) dX6_layCells_7 (Nat.le_of_ble_eq_true rfl) rfl ?_
  refine l_X6_cellB (by omega) hG hw hL hs hst hsn hrn hrs hes hel hgn hA0 hg4 hT0 hLay (N := (rs.map (fun j => LB f c j)).sum) rs 0 0 c n left 0 σ rfl (Nat.zero_le _) (KEq.rf c) (zX.rf _ hw _) (by omega) hY (fun σ4 c4 x4 hE4 hX4 hz4 hY4 => ?_)
  have hE9 : ((nums rs 0).foldl (gcB L g top) ((kZ c, n), left, 0)) = (cellE L (kZ c, n) rs g left top) := rfl
  rw [hE9] at hz4 hY4 ⊢
  have hs4 : zSub G σ4 s l off rn mod := hX4.f hw hs (by rw [hst]; exact SC_0)
  have hL4 := hX4.L hw hL (SC_big (by unfold dT; omega)) (SC_big (by unfold dT; omega))
  have hXi := zX.new S0 hX4.gd 0 (by omega) (.inr (23, [.int 0, .int (-1), .int mod, .int 0, .ref s])) 5
  have hY5 := hY4.keep0 hX4.gd hXi
  have hL5 := hXi.L hX4.gd hL4 (fun h => h) (fun h => h)
  have hst4 := (hX4.t hw hs).trans hst
  refine zr_aload_n dX6_layCells_126 rfl rfl ?_
  refine zr_call51 (rest := []) (zs_F (As := []) (by omega) okF_J28_iterator (by decide +kernel) q1187 q858 q860 q90 q862 (.new hs4) rfl rfl rfl (Nat.le_of_ble_eq_true rfl) dX6_layCells_127) (c_J28_iterator hL4 hs4 hsn (by omega) hX4.gd.1) ?_
  refine zr_astore (ls2 := [(0, .ref ly), (1, .ref s), (2, .ref wa), (3, .int left), (4, .int top), (5, .int (cellE L (kZ c, n) rs g left top).2.2), (6, .int (cellE L (kZ c, n) rs g left top).2.1), (7, .ref (sZ σ4))]) dX6_layCells_132 (Nat.le_of_ble_eq_true rfl) rfl ?_
  refine l_X6_cellS (by omega) hG hX4.gd hL4 hs4 hst4 hsn hrn hrs (fun j hj => (hes j hj).1) (Nat.le_refl _) rs 0 _ c4 _ 9 rfl (Nat.zero_le _) hE4 (hXi.mono (fun _ h => absurd h (fun h => h))) hY5 (sF_newS _ _ _ _) (sT_newS _ _ _ _) (fun σ5 c5 hE5 hX5 hz5 hY5' => ?_)
  have hzz : kZ c5 = (cCells L (kZ c, n) rs g left top).1.1 := by rw [hz5, hz4]; rfl
  have hXt := hX4.trans hX5
  refine zr_iload dX6_layCells_167 rfl ?_
  exact zr_iret rfl rfl dX6_layCells_169 (⟨c5, rfl, hE5, hzz, hY5', hXt.le (by omega)⟩)
