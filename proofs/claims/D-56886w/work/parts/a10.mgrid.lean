/-! ===== the reference: grid (rows printed by tools/p110.py) ===== -/
def mGw (c : zCS) (m : Nat) (g : Nat → Int32) (f : Nat → Int32) (q : Nat × Nat) : Nat → Int32 := upd f q.1 (if 0 ≤ kF c q.2 6 then kF c q.2 6 else imax (g (q.1 % m) - kSides c q.2) (2 * kF c q.2 12))
def mGx (g : Nat → Int32) (fr : Nat) (y : Int32) (p : zCS × Int32) (q : Nat × Nat) : zCS × Int32 := (kSetP (kSetP p.1 q.2 0 (p.2 + kF p.1 q.2 10)) q.2 1 (y + mOver p.1 q.2 8), p.2 + g (q.1 - fr))
def mGWs (c : zCS) (i m : Nat) : Nat → Int32 := (nums (kItemsOf c i) 0).foldl (mGw c m (gWs c i m)) (fun _ => 0)
def mGLoop (L : LM) (b : Bool) (g gw : Nat → Int32) (es : List Nat) (m : Nat) (pd : Int32) : Nat → Nat → MT → Int32 → MT × Int32
  | 0, _, s, y => (s, y)
  | f + 1, fr, s, y =>
    if fr < es.length then
      mGLoop L b g gw es m pd f (fr + m) (((nums ((es.drop fr).take (min es.length (fr + m) - fr)) fr).foldl (mGx g fr y) ((mRn L b gw s ((es.drop fr).take (min es.length (fr + m) - fr)) fr).1.1, pd)).1, (mRn L b gw s ((es.drop fr).take (min es.length (fr + m) - fr)) fr).1.2) (y + (mRn L b gw s ((es.drop fr).take (min es.length (fr + m) - fr)) fr).2)
    else (s, y)
def mGrid (L : LM) (s : MT) (i : Nat) (b : Bool) : MT × Int32 :=
  ((mGLoop L b (gWs s.1 i (kF s.1 i 15).toNatClampNeg) (mGWs s.1 i (kF s.1 i 15).toNatClampNeg) (kItemsOf s.1 i) (kF s.1 i 15).toNatClampNeg (kF s.1 i 12) 25 0 s (kF s.1 i 12)).1,
   (mGLoop L b (gWs s.1 i (kF s.1 i 15).toNatClampNeg) (mGWs s.1 i (kF s.1 i 15).toNatClampNeg) (kItemsOf s.1 i) (kF s.1 i 15).toNatClampNeg (kF s.1 i 12) 25 0 s (kF s.1 i 12)).2 + kF s.1 i 12)
theorem MQe.Gx (g : Nat → Int32) (fr : Nat) (y : Int32) (p : zCS × Int32) (q : Nat × Nat) : MQe p.1 (mGx g fr y p q).1 := (MQe.setP _ _ _ _).trans (MQe.setP _ _ _ _)
theorem MQe.GLoop {L : LM} (hL : ∀ s j w b, MQe s.1 (L s j w b).1) (b : Bool) (g gw : Nat → Int32) (es : List Nat) (m : Nat) (pd : Int32) : ∀ (f fr : Nat) (s : MT) (y : Int32), MQe s.1 (mGLoop L b g gw es m pd f fr s y).1.1 := by
  intro f
  induction f with
  | zero => intro fr s y; exact MQe.rf _
  | succ f ih =>
    intro fr s y
    show MQe s.1 (if fr < es.length then _ else (s, y)).1.1
    split
    · exact ((MQe.Rn hL b gw s _ fr).trans (MQe.fold (fun p : zCS × Int32 => p.1) (mGx g fr y) (fun p q => MQe.Gx g fr y p q) _ (_, pd))).trans (ih _ _ _)
    · exact MQe.rf _
theorem MQe.Grid {L : LM} (hL : ∀ s j w b, MQe s.1 (L s j w b).1) (s : MT) (i : Nat) (b : Bool) : MQe s.1 (mGrid L s i b).1.1 := MQe.GLoop hL b _ _ _ _ _ _ _ _ _
set_option maxHeartbeats 4000000 in
theorem l_X4_grid1 {G : zG} {σ : zT} {d m : Nat} {c : zCS} {th ct : Int32} {i l wa : Nat} {mod : Int32} {es : List Nat} {b : Bool} {Q : zO → zT → Prop} (hd : 70 ≤ d) (hG : zOk G) (hw : zGd G σ) (hL : zL G σ (dT l) l mod (es.map (fun j => kA c (rB j)))) (hes : ∀ j, j ∈ es → j < kN c) (hel : es.length ≤ 24) (hS : MSys G σ c th ct) (hi : i < kN c) (hm1 : 1 ≤ m) (hm4 : m ≤ 4) (hcol : kF c i 15 = nI m) {N : Nat} (hwa : sZ σ ≤ wa) : ∀ (ys : List Nat) (k n : Nat) (p : Nat → Int32) (σ1 : zT), es.drop k = ys → k ≤ es.length → zX G S0 σ σ1 n → n + (ys.map (fun j => KW 24 c j)).sum ≤ N → sF σ1 wa = some (aI G m p) → sT σ1 wa = 0 → (∀ σ2, zX G S0 σ σ2 N → sF σ2 wa = some (aI G m ((nums ys k).foldl (colf c (fun j => cW c j true) (kF c i 15)) p)) → sT σ2 wa = 0 → zR G yX4_grid cX4_grid 13 (Option.some Jvm.ClassFile.FieldType.int) [] d 80 [(0, .ref (kA c 1)), (1, .ref (kA c (rB i))), (2, .int (bI b)), (3, .ref l), (4, .ref wa)] [] σ2 Q) → zR G yX4_grid cX4_grid 13 (Option.some Jvm.ClassFile.FieldType.int) [] d 16 [(0, .ref (kA c 1)), (1, .ref (kA c (rB i))), (2, .int (bI b)), (3, .ref l), (4, .ref wa), (5, .int (nI k))] [] σ1 Q := by
  intro ys
  induction ys with
  | nil =>
    intro k n p σ1 hy hk hX hN hA hT kQ
    have hL1 := hX.L hw hL (fun h => h) (fun h => h)
    obtain ⟨fl, hfl⟩ := hL1.A
    have hkl := drop_nil hy hk
    refine zr_iload dX4_grid_16 rfl ?_
    refine zr_aload_n dX4_grid_18 rfl rfl ?_
    refine zr_call1 (rest := [.int (nI k)]) (zs_V (As := []) (by omega) ok_J2_size q2246 q164 q2839 q56 q166 rfl hfl rfl rfl rfl (Nat.le_of_ble_eq_true rfl) dX4_grid_19) (c_size (m := es.length) (by omega) hL1 (List.length_map _)) ?_
    refine zr_icmp_ge (tgt := 80) dX4_grid_22 (by decide) (fun _ => ?_) (fun h9 => absurd (by rw [hkl]; exact Int32.le_refl _) h9)
    refine zr_sub (ls2 := [(0, .ref (kA c 1)), (1, .ref (kA c (rB i))), (2, .int (bI b)), (3, .ref l), (4, .ref wa)]) [0, 1, 2, 3, 4] rfl ?_
    exact kQ σ1 (hX.le (by simpa using hN)) hA hT
  | cons j ys ih =>
    intro k n p σ1 hy hk hX hN hA hT kQ
    obtain ⟨hx, hy2, hkl, hm⟩ := drop_cons hy
    have hj := hes j hm
    have hS1 := hS.keep0 hw hX
    have hL1 := hX.L hw hL (fun h => h) (fun h => h)
    obtain ⟨fl, hfl⟩ := hL1.A
    rw [List.map_cons, List.sum_cons] at hN
    have hmod : k % m < m := Nat.mod_lt _ (by omega)
    have hrem : nI k - nI k / nI m * nI m = nI (k % m) := pk_rem (by omega) (by omega) (by omega)
    obtain ⟨_, σ2, ⟨rfl, hX2⟩, hC2⟩ := c_mW (d := d - 1) true (by omega) hG hX.gd hS1 hj
    have hX12 := hX.trans hX2
    have hS2 := hS.keep0 hw hX12
    have hL2 := hX12.L hw hL (fun h => h) (fun h => h)
    obtain ⟨fl2, hfl2⟩ := hL2.A
    have hA2 := hX2.f hX.gd hA (fun h => h)
    have hT2 := (hX2.t hX.gd hA).trans hT
    have hfold : ∀ p, List.foldl (colf c (fun j => cW c j true) (kF c i 15)) p (nums (j :: ys) k) = (nums ys (k + 1)).foldl (colf c (fun j => cW c j true) (kF c i 15)) (colf c (fun j => cW c j true) (kF c i 15) p (k, j)) := fun _ => rfl
    simp only [hfold] at kQ
    refine zr_iload dX4_grid_16 rfl ?_
    refine zr_aload_n dX4_grid_18 rfl rfl ?_
    refine zr_call1 (rest := [.int (nI k)]) (zs_V (As := []) (by omega) ok_J2_size q2246 q164 q2839 q56 q166 rfl hfl rfl rfl rfl (Nat.le_of_ble_eq_true rfl) dX4_grid_19) (c_size (m := es.length) (by omega) hL1 (List.length_map _)) ?_
    refine zr_icmp_ge (tgt := 80) dX4_grid_22 (by decide) (fun h9 => absurd h9 (Int32.not_le.mpr ((nI_ltI (by omega) (by omega)).mpr hkl))) (fun _ => ?_)
    refine zr_aload dX4_grid_25 rfl ?_
    refine zr_iload dX4_grid_27 rfl ?_
    refine zr_aload_n dX4_grid_29 rfl rfl ?_
    refine zr_get (k := 16) (v := .int (kF c i 15)) in_X5 (hS1.bx hi) rfl (Nat.le_of_ble_eq_true rfl) q2125 (.inl rfl) rfl dX4_grid_30 ?_
    refine zr_eqi (z := (nI m)) (hcol) ?_
    refine zr_irem dX4_grid_33 (nI_ne0 (by omega) (by omega)) ?_
    refine zr_eqi (z := (nI (k % m))) (hrem) ?_
    refine zr_aload dX4_grid_34 rfl ?_
    refine zr_iload dX4_grid_36 rfl ?_
    refine zr_aload_n dX4_grid_38 rfl rfl ?_
    refine zr_get (k := 16) (v := .int (kF c i 15)) in_X5 (hS1.bx hi) rfl (Nat.le_of_ble_eq_true rfl) q2125 (.inl rfl) rfl dX4_grid_39 ?_
    refine zr_eqi (z := (nI m)) (hcol) ?_
    refine zr_irem dX4_grid_42 (nI_ne0 (by omega) (by omega)) ?_
    refine zr_eqi (z := (nI (k % m))) (hrem) ?_
    refine zr_iald (v := .int (p (k % m))) (.new hA) (vp_in_nI hmod (by omega)) (by rw [nI_clamp (by omega)]) dX4_grid_43 ?_
    refine zr_aload_n dX4_grid_44 rfl rfl ?_
    refine zr_iload dX4_grid_45 rfl ?_
    refine zr_call1 (rest := [.int (p (k % m)), .int (nI (k % m)), .ref wa]) (zs_V (As := [.int (nI k)]) (by omega) ok_J2_get q2250 q959 q2840 q56 q960 rfl hfl rfl rfl rfl (Nat.le_of_ble_eq_true rfl) dX4_grid_47) (c_J2_get (by omega) hG hL1 (map_at (fun j => kA c (rB j)) hx)) ?_
    refine zr_castS (hS1.bx hj) rfl q2084 dX4_grid_50 ?_
    refine zr_iconst (v := 1) dX4_grid_53 (by decide) ?_
    show zR G yX4_grid cX4_grid 13 (Option.some Jvm.ClassFile.FieldType.int) [] d 54 [(0, .ref (kA c 1)), (1, .ref (kA c (rB i))), (2, .int (bI b)), (3, .ref l), (4, .ref wa), (5, .int (nI k))] [.int (bI true), .ref (kA c (rB j)), .int (p (k % m)), .int (nI (k % m)), .ref wa] σ1 _
    refine zr_call1 (rest := [.int (p (k % m)), .int (nI (k % m)), .ref wa]) (zs_S (As := [.ref (kA c (rB j)), .int (bI true)]) (by omega) ok_X4_bound q2312 q2313 q77 q2314 rfl rfl (Nat.le_of_ble_eq_true rfl) dX4_grid_54) hC2 ?_
    refine zr_aload_n dX4_grid_57 rfl rfl ?_
    refine zr_iload dX4_grid_58 rfl ?_
    refine zr_call1 (rest := [.int (cW c j true), .int (p (k % m)), .int (nI (k % m)), .ref wa]) (zs_V (As := [.int (nI k)]) (by omega) ok_J2_get q2250 q959 q2840 q56 q960 rfl hfl2 rfl rfl rfl (Nat.le_of_ble_eq_true rfl) dX4_grid_60) (c_J2_get (by omega) hG hL2 (map_at (fun j => kA c (rB j)) hx)) ?_
    refine zr_castS (hS2.bx hj) rfl q2084 dX4_grid_63 ?_
    refine zr_call1 (rest := [.int (cW c j true), .int (p (k % m)), .int (nI (k % m)), .ref wa]) (zs_V (As := []) (by omega) ok_X5_sides q2337 q2338 q2339 q78 q2340 rfl (hS2.bx hj) rfl rfl rfl (Nat.le_of_ble_eq_true rfl) dX4_grid_66) (c_X5_sides hS2 hj) ?_
    refine zr_iadd dX4_grid_69 ?_
    refine zr_max (by omega) q2329 q376 q60 q377 (Nat.le_of_ble_eq_true rfl) dX4_grid_70 ?_
    refine zr_iast (f2 := colf c (fun j => cW c j true) (kF c i 15) p (k, j)) hA2 (vp_in_nI hmod (by omega)) (by unfold colf; rw [hcol, hrem, nI_clamp (by omega)]) dX4_grid_73 ?_
    refine zr_iinc (v := (nI k + 1)) (ls2 := [(0, .ref (kA c 1)), (1, .ref (kA c (rB i))), (2, .int (bI b)), (3, .ref l), (4, .ref wa), (5, .int (nI k + 1))]) dX4_grid_74 rfl rfl (Nat.le_of_ble_eq_true rfl) rfl ?_
    rw [show nI k + 1 = nI (k + 1) from nI_1 k]
    refine zr_goto (tgt := 16) dX4_grid_77 (by decide) ?_
    refine zr_sub (ls2 := [(0, .ref (kA c 1)), (1, .ref (kA c (rB i))), (2, .int (bI b)), (3, .ref l), (4, .ref wa), (5, .int (nI (k + 1)))]) [0, 1, 2, 3, 4, 5] rfl ?_
    exact ih (k + 1) _ _ _ hy2 (by omega) (hX12.upNA hA2 hwa) (by omega) (sF_upS _ _ _) hT2 kQ
set_option maxHeartbeats 4000000 in
theorem l_X4_grid2 {G : zG} {σ : zT} {d m l wa i : Nat} {c : zCS} {b : Bool} {g : Nat → Int32} {Q : zO → zT → Prop} (hm4 : m ≤ 4) (hA : sF σ wa = some (aI G m g)) : ∀ (n k : Nat) (a : Int32), k + n = m → zR G yX4_grid cX4_grid 13 (Option.some Jvm.ClassFile.FieldType.int) [] d 125 [(0, .ref (kA c 1)), (1, .ref (kA c (rB i))), (2, .int (bI b)), (3, .ref l), (4, .ref wa), (5, .int (subA g n k a))] [] σ Q → zR G yX4_grid cX4_grid 13 (Option.some Jvm.ClassFile.FieldType.int) [] d 98 [(0, .ref (kA c 1)), (1, .ref (kA c (rB i))), (2, .int (bI b)), (3, .ref l), (4, .ref wa), (5, .int a), (6, .ref wa), (7, .int (nI m)), (8, .int (nI k))] [] σ Q := by
  intro n
  induction n with
  | zero =>
    intro k a hk kQ
    refine zr_iload dX4_grid_98 rfl ?_
    refine zr_iload dX4_grid_100 rfl ?_
    refine zr_icmp_ge (tgt := 125) dX4_grid_102 (by decide) (fun _ => ?_) (fun h9 => absurd (by rw [show k = m by omega]; exact Int32.le_refl _) h9)
    refine zr_sub (ls2 := [(0, .ref (kA c 1)), (1, .ref (kA c (rB i))), (2, .int (bI b)), (3, .ref l), (4, .ref wa), (5, .int a)]) [0, 1, 2, 3, 4, 5] rfl ?_
    exact kQ
  | succ n ih =>
    intro k a hk kQ
    refine zr_iload dX4_grid_98 rfl ?_
    refine zr_iload dX4_grid_100 rfl ?_
    refine zr_icmp_ge (tgt := 125) dX4_grid_102 (by decide) (fun h9 => absurd h9 (Int32.not_le.mpr ((nI_ltI (by omega) (by omega)).mpr (show k < m by omega)))) (fun _ => ?_)
    refine zr_aload dX4_grid_105 rfl ?_
    refine zr_iload dX4_grid_107 rfl ?_
    refine zr_iald (v := .int (g k)) (.new hA) (vp_in_nI (by omega) (by omega)) (by rw [nI_clamp (by omega)]) dX4_grid_109 ?_
    refine zr_istore (ls2 := [(0, .ref (kA c 1)), (1, .ref (kA c (rB i))), (2, .int (bI b)), (3, .ref l), (4, .ref wa), (5, .int a), (6, .ref wa), (7, .int (nI m)), (8, .int (nI k)), (9, .int (g k))]) dX4_grid_110 (Nat.le_of_ble_eq_true rfl) rfl ?_
    refine zr_iload dX4_grid_112 rfl ?_
    refine zr_iload dX4_grid_114 rfl ?_
    refine zr_isub dX4_grid_116 ?_
    refine zr_istore (ls2 := [(0, .ref (kA c 1)), (1, .ref (kA c (rB i))), (2, .int (bI b)), (3, .ref l), (4, .ref wa), (5, .int (a - (g k))), (6, .ref wa), (7, .int (nI m)), (8, .int (nI k)), (9, .int (g k))]) dX4_grid_117 (Nat.le_of_ble_eq_true rfl) rfl ?_
    refine zr_iinc (v := (nI k + 1)) (ls2 := [(0, .ref (kA c 1)), (1, .ref (kA c (rB i))), (2, .int (bI b)), (3, .ref l), (4, .ref wa), (5, .int (a - (g k))), (6, .ref wa), (7, .int (nI m)), (8, .int (nI k + 1)), (9, .int (g k))]) dX4_grid_119 rfl rfl (Nat.le_of_ble_eq_true rfl) rfl ?_
    rw [show nI k + 1 = nI (k + 1) from nI_1 k]
    refine zr_goto (tgt := 98) dX4_grid_122 (by decide) ?_
    refine zr_sub (ls2 := [(0, .ref (kA c 1)), (1, .ref (kA c (rB i))), (2, .int (bI b)), (3, .ref l), (4, .ref wa), (5, .int (a - (g k))), (6, .ref wa), (7, .int (nI m)), (8, .int (nI (k + 1)))]) [0, 1, 2, 3, 4, 5, 6, 7, 8] rfl ?_
    exact ih (k + 1) (a - g k) (by omega) kQ
set_option maxHeartbeats 4000000 in
theorem l_X4_grid3 {G : zG} {σ : zT} {d m : Nat} {c : zCS} {th ct : Int32} {i l wa : Nat} {mod : Int32} {es : List Nat} {b : Bool} {Q : zO → zT → Prop} (hd : 70 ≤ d) (hG : zOk G) (hw : zGd G σ) (hL : zL G σ (dT l) l mod (es.map (fun j => kA c (rB j)))) (hes : ∀ j, j ∈ es → j < kN c) (hel : es.length ≤ 24) (hS : MSys G σ c th ct) (hi : i < kN c) (hm1 : 1 ≤ m) (hm4 : m ≤ 4) (hcol : kF c i 15 = nI m) {n0 : Nat} {fe : Int32} (hfe : ¬ fe ≤ 0) (hwa : sZ σ ≤ wa) : ∀ (n k : Nat) (g : Nat → Int32) (σ1 : zT), k + n = m → zX G S0 σ σ1 n0 → sF σ1 wa = some (aI G m g) → sT σ1 wa = 0 → (∀ σ2 x, zX G S0 σ σ2 n0 → sF σ2 wa = some (aI G m (gdA fe m n k g)) → sT σ2 wa = 0 → zR G yX4_grid cX4_grid 13 (Option.some Jvm.ClassFile.FieldType.int) [] d 181 [(0, .ref (kA c 1)), (1, .ref (kA c (rB i))), (2, .int (bI b)), (3, .ref l), (4, .ref wa), (5, .int fe), (6, .int x)] [] σ2 Q) → zR G yX4_grid cX4_grid 13 (Option.some Jvm.ClassFile.FieldType.int) [] d 128 [(0, .ref (kA c 1)), (1, .ref (kA c (rB i))), (2, .int (bI b)), (3, .ref l), (4, .ref wa), (5, .int fe), (6, .int (nI k))] [] σ1 Q := by
  intro n
  induction n with
  | zero =>
    intro k g σ1 hk hX hA hT kQ
    have hS1 := hS.keep0 hw hX
    refine zr_iload dX4_grid_128 rfl ?_
    refine zr_aload_n dX4_grid_130 rfl rfl ?_
    refine zr_get (k := 16) (v := .int (kF c i 15)) in_X5 (hS1.bx hi) rfl (Nat.le_of_ble_eq_true rfl) q2125 (.inl rfl) rfl dX4_grid_131 ?_
    refine zr_eqi (z := (nI m)) (hcol) ?_
    refine zr_icmp_ge (tgt := 181) dX4_grid_134 (by decide) (fun _ => ?_) (fun h9 => absurd (by rw [show k = m by omega]; exact Int32.le_refl _) h9)
    exact kQ σ1 _ hX hA hT
  | succ n ih =>
    intro k g σ1 hk hX hA hT kQ
    have hS1 := hS.keep0 hw hX
    have hne : ¬ nI m = 0 := nI_ne0 (by omega) (by omega)
    refine zr_iload dX4_grid_128 rfl ?_
    refine zr_aload_n dX4_grid_130 rfl rfl ?_
    refine zr_get (k := 16) (v := .int (kF c i 15)) in_X5 (hS1.bx hi) rfl (Nat.le_of_ble_eq_true rfl) q2125 (.inl rfl) rfl dX4_grid_131 ?_
    refine zr_eqi (z := (nI m)) (hcol) ?_
    refine zr_icmp_ge (tgt := 181) dX4_grid_134 (by decide) (fun h9 => absurd h9 (Int32.not_le.mpr ((nI_ltI (by omega) (by omega)).mpr (show k < m by omega)))) (fun _ => ?_)
    refine zr_iload dX4_grid_137 rfl ?_
    refine zr_if_le (tgt := 181) dX4_grid_139 (by decide) (fun h9 => absurd h9 hfe) (fun _ => ?_)
    refine zr_aload dX4_grid_142 rfl ?_
    refine zr_iload dX4_grid_144 rfl ?_
    refine zr_dup2 dX4_grid_146 rfl rfl ?_
    refine zr_iald (v := .int (g k)) (.new hA) (vp_in_nI (by omega) (by omega)) (by rw [nI_clamp (by omega)]) dX4_grid_147 ?_
    refine zr_iload dX4_grid_148 rfl ?_
    refine zr_aload_n dX4_grid_150 rfl rfl ?_
    refine zr_get (k := 16) (v := .int (kF c i 15)) in_X5 (hS1.bx hi) rfl (Nat.le_of_ble_eq_true rfl) q2125 (.inl rfl) rfl dX4_grid_151 ?_
    refine zr_eqi (z := (nI m)) (hcol) ?_
    refine zr_idiv dX4_grid_154 hne ?_
    refine zr_iload dX4_grid_155 rfl ?_
    refine zr_iload dX4_grid_157 rfl ?_
    refine zr_aload_n dX4_grid_159 rfl rfl ?_
    refine zr_get (k := 16) (v := .int (kF c i 15)) in_X5 (hS1.bx hi) rfl (Nat.le_of_ble_eq_true rfl) q2125 (.inl rfl) rfl dX4_grid_160 ?_
    refine zr_eqi (z := (nI m)) (hcol) ?_
    refine zr_irem dX4_grid_163 hne ?_
    have key : ∀ z : Int32, z = (if nI k < fe - fe / nI m * nI m then (1 : Int32) else 0) → zR G yX4_grid cX4_grid 13 (Option.some Jvm.ClassFile.FieldType.int) [] d 172 [(0, .ref (kA c 1)), (1, .ref (kA c (rB i))), (2, .int (bI b)), (3, .ref l), (4, .ref wa), (5, .int fe), (6, .int (nI k))] [.int z, .int (fe / nI m), .int (g k), .int (nI k), .ref wa] σ1 Q := by
      intro z hz
      subst hz
      refine zr_iadd dX4_grid_172 ?_
      refine zr_iadd dX4_grid_173 ?_
      refine zr_iast (f2 := upd g k (g k + gdP fe m k)) hA (vp_in_nI (by omega) (by omega)) (by rw [nI_clamp (by omega)]; rfl) dX4_grid_174 ?_
      refine zr_iinc (v := (nI k + 1)) (ls2 := [(0, .ref (kA c 1)), (1, .ref (kA c (rB i))), (2, .int (bI b)), (3, .ref l), (4, .ref wa), (5, .int fe), (6, .int (nI k + 1))]) dX4_grid_175 rfl rfl (Nat.le_of_ble_eq_true rfl) rfl ?_
      rw [show nI k + 1 = nI (k + 1) from nI_1 k]
      refine zr_goto (tgt := 128) dX4_grid_178 (by decide) ?_
      refine zr_sub (ls2 := [(0, .ref (kA c 1)), (1, .ref (kA c (rB i))), (2, .int (bI b)), (3, .ref l), (4, .ref wa), (5, .int fe), (6, .int (nI (k + 1)))]) [0, 1, 2, 3, 4, 5, 6] rfl ?_
      exact ih (k + 1) _ _ (by omega) (hX.upNA hA hwa) (sF_upS _ _ _) hT kQ
    refine zr_icmp_ge (tgt := 171) dX4_grid_164 (by decide) (fun h1 => ?_) (fun h1 => ?_)
    · refine zr_iconst (v := 0) dX4_grid_171 (by decide) ?_
      exact key _ (by rw [if_neg (by first | exact Int32.not_lt.mpr h1 | exact h1)])
    · refine zr_iconst (v := 1) dX4_grid_167 (by decide) ?_
      refine zr_goto (tgt := 172) dX4_grid_168 (by decide) ?_
      exact key _ (by rw [if_pos (by first | exact Int32.not_le.mp h1 | exact h1)])
set_option maxHeartbeats 4000000 in
theorem l_X4_grid4 {G : zG} {σ : zT} {d m : Nat} {c : zCS} {th ct : Int32} {i l wa : Nat} {mod : Int32} {es : List Nat} {b : Bool} {Q : zO → zT → Prop} (hd : 70 ≤ d) (hG : zOk G) (hw : zGd G σ) (hL : zL G σ (dT l) l mod (es.map (fun j => kA c (rB j)))) (hes : ∀ j, j ∈ es → j < kN c) (hel : es.length ≤ 24) (hS : MSys G σ c th ct) (hi : i < kN c) (hm1 : 1 ≤ m) (hm4 : m ≤ 4) (hcol : kF c i 15 = nI m) {n0 wb : Nat} {fe : Int32} {g : Nat → Int32} (hwb : sZ σ ≤ wb) (hA0 : sF σ wa = some (aI G m g)) : ∀ (ys : List Nat) (k : Nat) (p : Nat → Int32) (σ1 : zT), es.drop k = ys → k ≤ es.length → zX G S0 σ σ1 n0 → sF σ1 wb = some (aI G es.length p) → sT σ1 wb = 0 → (∀ σ2 x, zX G S0 σ σ2 n0 → sF σ2 wb = some (aI G es.length ((nums ys k).foldl (mGw c m g) p)) → sT σ2 wb = 0 → zR G yX4_grid cX4_grid 13 (Option.some Jvm.ClassFile.FieldType.int) [] d 281 [(0, .ref (kA c 1)), (1, .ref (kA c (rB i))), (2, .int (bI b)), (3, .ref l), (4, .ref wa), (5, .int fe), (6, .ref wb), (7, .int x)] [] σ2 Q) → zR G yX4_grid cX4_grid 13 (Option.some Jvm.ClassFile.FieldType.int) [] d 192 [(0, .ref (kA c 1)), (1, .ref (kA c (rB i))), (2, .int (bI b)), (3, .ref l), (4, .ref wa), (5, .int fe), (6, .ref wb), (7, .int (nI k))] [] σ1 Q := by
  intro ys
  induction ys with
  | nil =>
    intro k p σ1 hy hk hX hA hT kQ
    have hkl := drop_nil hy hk
    refine zr_iload dX4_grid_192 rfl ?_
    refine zr_aload dX4_grid_194 rfl ?_
    refine zr_alenI (v := nI es.length) (.new hA) rfl dX4_grid_196 ?_
    refine zr_icmp_ge (tgt := 281) dX4_grid_197 (by decide) (fun _ => ?_) (fun h9 => absurd (by rw [hkl]; exact Int32.le_refl _) h9)
    exact kQ σ1 _ hX hA hT
  | cons j ys ih =>
    intro k p σ1 hy hk hX hA hT kQ
    obtain ⟨hx, hy2, hkl, hm⟩ := drop_cons hy
    have hj := hes j hm
    have hS1 := hS.keep0 hw hX
    have hL1 := hX.L hw hL (fun h => h) (fun h => h)
    obtain ⟨fl, hfl⟩ := hL1.A
    have hA1 := hX.f hw hA0 (fun h => h)
    have hmod : k % m < m := Nat.mod_lt _ (by omega)
    have hrem : nI k - nI k / nI m * nI m = nI (k % m) := pk_rem (by omega) (by omega) (by omega)
    have hfold : ∀ p, List.foldl (mGw c m g) p (nums (j :: ys) k) = (nums ys (k + 1)).foldl (mGw c m g) (mGw c m g p (k, j)) := fun _ => rfl
    simp only [hfold] at kQ
    refine zr_iload dX4_grid_192 rfl ?_
    refine zr_aload dX4_grid_194 rfl ?_
    refine zr_alenI (v := nI es.length) (.new hA) rfl dX4_grid_196 ?_
    refine zr_icmp_ge (tgt := 281) dX4_grid_197 (by decide) (fun h9 => absurd h9 (Int32.not_le.mpr ((nI_ltI (by omega) (by omega)).mpr hkl))) (fun _ => ?_)
    refine zr_aload dX4_grid_200 rfl ?_
    refine zr_iload dX4_grid_202 rfl ?_
    refine zr_aload_n dX4_grid_204 rfl rfl ?_
    refine zr_iload dX4_grid_205 rfl ?_
    refine zr_call1 (rest := [.int (nI k), .ref wb]) (zs_V (As := [.int (nI k)]) (by omega) ok_J2_get q2250 q959 q2840 q56 q960 rfl hfl rfl rfl rfl (Nat.le_of_ble_eq_true rfl) dX4_grid_207) (c_J2_get (by omega) hG hL1 (map_at (fun j => kA c (rB j)) hx)) ?_
    refine zr_castS (hS1.bx hj) rfl q2084 dX4_grid_210 ?_
    refine zr_get (k := 7) (v := .int (kF c j 6)) in_X5 (hS1.bx hj) rfl (Nat.le_of_ble_eq_true rfl) q2107 (.inl rfl) rfl dX4_grid_213 ?_
    have key : ∀ z : Int32, z = (if 0 ≤ kF c j 6 then kF c j 6 else imax (g (k % m) - kSides c j) (2 * kF c j 12)) → zR G yX4_grid cX4_grid 13 (Option.some Jvm.ClassFile.FieldType.int) [] d 274 [(0, .ref (kA c 1)), (1, .ref (kA c (rB i))), (2, .int (bI b)), (3, .ref l), (4, .ref wa), (5, .int fe), (6, .ref wb), (7, .int (nI k))] [.int z, .int (nI k), .ref wb] σ1 Q := by
      intro z hz
      refine zr_iast (f2 := mGw c m g p (k, j)) hA (vp_in_nI (by omega) (by omega)) (by rw [nI_clamp (by omega), hz]; rfl) dX4_grid_274 ?_
      refine zr_iinc (v := (nI k + 1)) (ls2 := [(0, .ref (kA c 1)), (1, .ref (kA c (rB i))), (2, .int (bI b)), (3, .ref l), (4, .ref wa), (5, .int fe), (6, .ref wb), (7, .int (nI k + 1))]) dX4_grid_275 rfl rfl (Nat.le_of_ble_eq_true rfl) rfl ?_
      rw [show nI k + 1 = nI (k + 1) from nI_1 k]
      refine zr_goto (tgt := 192) dX4_grid_278 (by decide) ?_
      refine zr_sub (ls2 := [(0, .ref (kA c 1)), (1, .ref (kA c (rB i))), (2, .int (bI b)), (3, .ref l), (4, .ref wa), (5, .int fe), (6, .ref wb), (7, .int (nI (k + 1)))]) [0, 1, 2, 3, 4, 5, 6, 7] rfl ?_
      exact ih (k + 1) _ _ hy2 (by omega) (hX.upNA hA hwb) (sF_upS _ _ _) hT kQ
    refine zr_if_lt (tgt := 234) dX4_grid_216 (by decide) (fun h1 => ?_) (fun h1 => ?_)
    · refine zr_aload dX4_grid_234 rfl ?_
      refine zr_iload dX4_grid_236 rfl ?_
      refine zr_aload_n dX4_grid_238 rfl rfl ?_
      refine zr_get (k := 16) (v := .int (kF c i 15)) in_X5 (hS1.bx hi) rfl (Nat.le_of_ble_eq_true rfl) q2125 (.inl rfl) rfl dX4_grid_239 ?_
      refine zr_eqi (z := (nI m)) (hcol) ?_
      refine zr_irem dX4_grid_242 (nI_ne0 (by omega) (by omega)) ?_
      refine zr_eqi (z := (nI (k % m))) (hrem) ?_
      refine zr_iald (v := .int (g (k % m))) (.new hA1) (vp_in_nI hmod (by omega)) (by rw [nI_clamp (by omega)]) dX4_grid_243 ?_
      refine zr_aload_n dX4_grid_244 rfl rfl ?_
      refine zr_iload dX4_grid_245 rfl ?_
      refine zr_call1 (rest := [.int (g (k % m)), .int (nI k), .ref wb]) (zs_V (As := [.int (nI k)]) (by omega) ok_J2_get q2250 q959 q2840 q56 q960 rfl hfl rfl rfl rfl (Nat.le_of_ble_eq_true rfl) dX4_grid_247) (c_J2_get (by omega) hG hL1 (map_at (fun j => kA c (rB j)) hx)) ?_
      refine zr_castS (hS1.bx hj) rfl q2084 dX4_grid_250 ?_
      refine zr_call1 (rest := [.int (g (k % m)), .int (nI k), .ref wb]) (zs_V (As := []) (by omega) ok_X5_sides q2337 q2338 q2339 q78 q2340 rfl (hS1.bx hj) rfl rfl rfl (Nat.le_of_ble_eq_true rfl) dX4_grid_253) (c_X5_sides hS1 hj) ?_
      refine zr_isub dX4_grid_256 ?_
      refine zr_iconst (v := 2) dX4_grid_257 (by decide) ?_
      refine zr_aload_n dX4_grid_258 rfl rfl ?_
      refine zr_iload dX4_grid_259 rfl ?_
      refine zr_call1 (rest := [.int 2, .int ((g (k % m)) - (kSides c j)), .int (nI k), .ref wb]) (zs_V (As := [.int (nI k)]) (by omega) ok_J2_get q2250 q959 q2840 q56 q960 rfl hfl rfl rfl rfl (Nat.le_of_ble_eq_true rfl) dX4_grid_261) (c_J2_get (by omega) hG hL1 (map_at (fun j => kA c (rB j)) hx)) ?_
      refine zr_castS (hS1.bx hj) rfl q2084 dX4_grid_264 ?_
      refine zr_get (k := 13) (v := .int (kF c j 12)) in_X5 (hS1.bx hj) rfl (Nat.le_of_ble_eq_true rfl) q2119 (.inl rfl) rfl dX4_grid_267 ?_
      refine zr_imul dX4_grid_270 ?_
      refine zr_max (by omega) q2329 q376 q60 q377 (Nat.le_of_ble_eq_true rfl) dX4_grid_271 ?_
      exact key _ (by rw [if_neg (by first | exact Int32.not_le.mpr h1 | exact h1)])
    · refine zr_aload_n dX4_grid_219 rfl rfl ?_
      refine zr_iload dX4_grid_220 rfl ?_
      refine zr_call1 (rest := [.int (nI k), .ref wb]) (zs_V (As := [.int (nI k)]) (by omega) ok_J2_get q2250 q959 q2840 q56 q960 rfl hfl rfl rfl rfl (Nat.le_of_ble_eq_true rfl) dX4_grid_222) (c_J2_get (by omega) hG hL1 (map_at (fun j => kA c (rB j)) hx)) ?_
      refine zr_castS (hS1.bx hj) rfl q2084 dX4_grid_225 ?_
      refine zr_get (k := 7) (v := .int (kF c j 6)) in_X5 (hS1.bx hj) rfl (Nat.le_of_ble_eq_true rfl) q2107 (.inl rfl) rfl dX4_grid_228 ?_
      refine zr_goto (tgt := 274) dX4_grid_231 (by decide) ?_
      exact key _ (by rw [if_pos (by first | exact Int32.not_lt.mp h1 | exact h1)])
