/-! ===== the layout: its constructor, layAll; layOut (rows printed by tools/p81.py) ===== -/
def cAllS (L : LayT) (s : zCS × Int32) (i : Nat) : zCS × Int32 :=
  if kLifted s.1 i = true then L (kSetP (kSetP s.1 i 0 0) i 1 0, s.2) i (cFit s.1 i (imax 0 (kP s.1 (kHold s.1 i) 2 - kF s.1 i 18))) else s
def cAll (L : LayT) (s : zCS × Int32) (w : Int32) : zCS × Int32 := (List.range (kN s.1)).foldl (cAllS L) (L s 0 w)
abbrev L24 (chk : Bool) : LayT := (cLF chk 24).1
theorem kHold_Z (c : zCS) (i : Nat) : kHold (kZ c) i = kHold c i := by
  have h : ∀ f p, hldF f (kZ c) p = hldF f c p := by
    intro f
    induction f with
    | zero => intro p; rfl
    | succ f ih =>
      intro p
      show (match kPar c p with | none => p | some q => if kF c p 17 = 115 then hldF f (kZ c) q else p) = (match kPar c p with | none => p | some q => if kF c p 17 = 115 then hldF f c q else p)
      cases kPar c p with
      | none => rfl
      | some q => show (if kF c p 17 = 115 then hldF f (kZ c) q else p) = _; rw [ih]
  unfold kHold
  show (match kPar c i with | none => 0 | some p => hldF 24 (kZ c) p) = _
  cases kPar c i with
  | none => rfl
  | some p => exact h 24 p
theorem KEq.hold {c c' : zCS} (h : KEq c c') (i : Nat) : kHold c' i = kHold c i := by
  have h2 : ∀ f p, hldF f c' p = hldF f c p := by
    intro f
    induction f with
    | zero => intro p; rfl
    | succ f ih =>
      intro p
      unfold hldF
      rw [h.par p, h.f p 17 (by decide)]
      cases kPar c p with
      | none => rfl
      | some q => show (if kF c p 17 = 115 then hldF f c' q else p) = _; rw [ih]
  unfold kHold
  rw [h.par i]
  cases kPar c i with
  | none => rfl
  | some p => exact h2 24 p
theorem cAllS_1 {L : LayT} {c c3 : zCS} {n n3 : Int32} {i : Nat} (h : kLifted c i = true) (h1 : kZ c3 = (L (kSetP (kSetP (kZ c) i 0 0) i 1 0, n) i (cFit c i (imax 0 (kP c (kHold c i) 2 - kF c i 18)))).1) (h2 : n3 = (L (kSetP (kSetP (kZ c) i 0 0) i 1 0, n) i (cFit c i (imax 0 (kP c (kHold c i) 2 - kF c i 18)))).2) : cAllS L (kZ c, n) i = (kZ c3, n3) := by
  have e : cAllS L (kZ c, n) i = L (kSetP (kSetP (kZ c) i 0 0) i 1 0, n) i (cFit (kZ c) i (imax 0 (kP c (kHold (kZ c) i) 2 - kF c i 18))) := if_pos h
  rw [e, kHold_Z, cFit_Z, h1, h2]
theorem cAllS_2 {L : LayT} {c : zCS} {n : Int32} {i : Nat} (h : kLifted c i = false) : cAllS L (kZ c, n) i = (kZ c, n) := by
  have h' : ¬ kLifted (kZ c) i = true := by rw [show kLifted (kZ c) i = kLifted c i from rfl, h]; decide
  exact if_neg h'
theorem CSys.bxK {G : zG} {σ : zT} {c0 c : zCS} (h : CSys G σ c) (hE : KEq c0 c) : zL G σ 2 (kA c0 2) (kM c0 2) ((List.range (kN c0)).map (fun j => kA c0 (rB j))) := by
  have h1 := h.bxL
  rw [hE.two, hE.m, hE.n] at h1
  simp only [hE.b] at h1
  exact h1
theorem cFit_P (c : zCS) (j : Nat) : cFit (kSetP (kSetP c j 0 0) j 1 0) j = cFit c j := by
  funext w
  have h : ∀ (f i : Nat) (l : Bool), cCW f (kSetP (kSetP c j 0 0) j 1 0) i l = cCW f c i l := by
    intro f
    induction f with
    | zero => intro i l; rfl
    | succ f ih => intro i l; unfold cCW; simp only [ih]; rfl
  unfold cFit cW
  rw [h, h]
  rfl
def LXA (c : zCS) (j : Nat) : Nat := if kLifted c j = true then LB 24 c j + 4 * KW 24 c j + 2000 else 0
theorem LXA_eq {c c' : zCS} (h : KEq c c') (j : Nat) : LXA c' j = LXA c j := by unfold LXA; rw [kLift_eq h, LB_eq h, KW_eq h]
theorem LXA_l {c : zCS} {j : Nat} (h : kLifted c j = true) : LXA c j = LB 24 c j + 4 * KW 24 c j + 2000 := if_pos h
def LA (c : zCS) : Nat := ((List.range (kN c)).map (LXA c)).sum + LB 24 c 0
set_option maxHeartbeats 4000000 in
theorem c_X6_init {G : zG} {σ : zT} {d ly p : Nat} {b : Bool} (hd : 1 ≤ d) (h0 : sF σ ly = some (.inr (6, d0_X6))) : zC G I_X6_init d [.ref ly, .ref p, .int (bI b)] σ (.inl none) (sUp σ ly (.inr (6, [.int (bI b), .int 0, .ref p]))) := by
  refine zCall.exact (zCall_of (ls := [(0, .ref ly), (1, .ref p), (2, .int (bI b))]) (by decide) (Nat.le_of_ble_eq_true rfl) rfl ?_)
  refine zr_aload_n dX6_init_0 rfl rfl ?_
  refine zr_aload_n dX6_init_1 rfl rfl ?_
  refine zr_putF rfl rfl (k := 2) (fs' := [.int 0, .int 0, .ref p]) zt_X6 h0 rfl (Nat.le_of_ble_eq_true rfl) q1090 (.inl rfl) rfl rfl rfl (Nat.le_of_ble_eq_true rfl) rfl dX6_init_2 ?_
  refine zr_aload_n dX6_init_5 rfl rfl ?_
  refine zr_objInit (by omega) q1086 q112 q113 (Nat.le_of_ble_eq_true rfl) dX6_init_6 ?_
  refine zr_aload_n dX6_init_9 rfl rfl ?_
  refine zr_iload_n dX6_init_10 rfl rfl ?_
  refine zr_putF rfl rfl (k := 0) (fs' := [.int (bI b), .int 0, .ref p]) zt_X6 (sF_upS _ _ _) rfl (Nat.le_of_ble_eq_true rfl) q1087 (.inl rfl) rfl (nar_z _) (fit_z _) (Nat.le_of_ble_eq_true rfl) rfl dX6_init_11 ?_
  rw [sUp_sUp]
  exact zr_vret rfl dX6_init_14 (⟨rfl, rfl⟩)
set_option maxHeartbeats 4000000 in
theorem l_X6_layAll {G : zG} {σ : zT} {d N : Nat} {c0 : zCS} {ly it : Nat} {wd : Int32} {chk : Bool} {Q : zO → zT → Prop} (hd : 222 ≤ d) (hG : zOk G) (hw : zGd G σ) (hit : sZ σ ≤ it) (hN24 : kN c0 ≤ 24) : ∀ (ys : List Nat) (k m : Nat) (lr : Int32) (c : zCS) (n : Int32) (σ1 : zT), (List.range (kN c0)).drop k = ys → k ≤ kN c0 → KEq c0 c → zX G SC σ σ1 m → m + (ys.map (LXA c0)).sum ≤ N → LY G σ1 c ly chk n → sF σ1 it = some (.inr (21, [.int (nI k), .int lr, .int (kM c0 2), .ref (kA c0 2)])) → sT σ1 it = 0 → (∀ σ2 c2, KEq c0 c2 → zX G SC σ σ2 N → kZ c2 = (ys.foldl (cAllS (L24 chk)) (kZ c, n)).1 → LY G σ2 c2 ly chk (ys.foldl (cAllS (L24 chk)) (kZ c, n)).2 → Q (.inl none) σ2) → zR G yX6_layAll cX6_layAll 5 (Option.none : Option Jvm.ClassFile.FieldType) [] d 34 [(0, .ref ly), (1, .int wd), (2, .ref it)] [] σ1 Q := by
  intro ys
  induction ys with
  | nil =>
    intro k m lr c n σ1 hy hk hE hX hN hY hI hT kQ
    have hL1 : zL G σ1 2 (kA c0 2) (kM c0 2) ((List.range (kN c0)).map (fun j => kA c0 (rB j))) := hY.1.bxK hE
    have hkl := drop_nil hy (by rw [List.length_range]; exact hk)
    rw [List.length_range] at hkl
    refine zr_aload_n dX6_layAll_34 rfl rfl ?_
    refine zr_call51 (rest := []) (zs_F (As := []) (by omega) okF_J23_hasNext (by decide +kernel) q1189 q927 q929 q84 q931 (.new hI) rfl rfl rfl (Nat.le_of_ble_eq_true rfl) dX6_layAll_35) (c_hasNext0 hL1 hI (by rw [CSys.bxl]; exact hkl)) ?_
    refine zr_if_eq (tgt := 111) dX6_layAll_40 (by decide) (fun _ => ?_) (fun h9 => absurd (rfl) h9)
    exact zr_vret rfl dX6_layAll_111 (kQ σ1 c hE (hX.le (by simpa using hN)) rfl hY)
  | cons j ys ih =>
    intro k m lr c n σ1 hy hk hE hX hN hY hI hT kQ
    have hL1 : zL G σ1 2 (kA c0 2) (kM c0 2) ((List.range (kN c0)).map (fun j => kA c0 (rB j))) := hY.1.bxK hE
    obtain ⟨hx, hy2, hkl, hm⟩ := drop_cons hy
    rw [List.length_range] at hkl
    have hj := List.mem_range.mp hm
    rw [List.map_cons, List.sum_cons] at hN
    have hX2 := hX.upN (gs := [.int (nI (k + 1)), .int (nI k), .int (kM c0 2), .ref (kA c0 2)]) hI hit
    have hY2 : LY G (sUp σ1 it (.inr (21, [.int (nI (k + 1)), .int (nI k), .int (kM c0 2), .ref (kA c0 2)]))) c ly chk n := hY.upI hI
    have hI2 : sF (sUp σ1 it (.inr (21, [.int (nI (k + 1)), .int (nI k), .int (kM c0 2), .ref (kA c0 2)]))) it = _ := sF_upS _ _ _
    have hT2 : sT (sUp σ1 it (.inr (21, [.int (nI (k + 1)), .int (nI k), .int (kM c0 2), .ref (kA c0 2)]))) it = 0 := hT
    generalize hσ2 : sUp σ1 it (.inr (21, [.int (nI (k + 1)), .int (nI k), .int (kM c0 2), .ref (kA c0 2)])) = σ2 at hX2 hY2 hI2 hT2
    have hS2 := hY2.1
    have hbj : zAt G σ2 (kA c0 (rB j)) (.inr (2, kBx c j)) := hE.b j ▸ hS2.bx (hE.nn hj)
    have hfold : ∀ s, List.foldl (cAllS (L24 chk)) s (j :: ys) = ys.foldl (cAllS (L24 chk)) (cAllS (L24 chk) s j) := fun _ => rfl
    simp only [hfold] at kQ
    refine zr_aload_n dX6_layAll_34 rfl rfl ?_
    refine zr_call51 (rest := []) (zs_F (As := []) (by omega) okF_J23_hasNext (by decide +kernel) q1189 q927 q929 q84 q931 (.new hI) rfl rfl rfl (Nat.le_of_ble_eq_true rfl) dX6_layAll_35) (c_hasNext1 hL1 hI (by rw [CSys.bxl]; exact hkl)) ?_
    refine zr_if_eq (tgt := 111) dX6_layAll_40 (by decide) (fun h9 => absurd h9 (by decide)) (fun _ => ?_)
    refine zr_aload_n dX6_layAll_43 rfl rfl ?_
    refine zr_call51 (rest := []) (zs_F (As := []) (by omega) okF_J23_next (by decide +kernel) q1191 q1044 q1046 q84 q1048 (.new hI) rfl rfl rfl (Nat.le_of_ble_eq_true rfl) dX6_layAll_44) (c_J23_next (by omega) hG hL1 hI (map_at (fun j => kA c0 (rB j)) hx)) ?_
    rw [hσ2]
    refine zr_castS hbj rfl q1112 dX6_layAll_49 ?_
    refine zr_astore_n (ls2 := [(0, .ref ly), (1, .int wd), (2, .ref it), (3, .ref (kA c0 (rB j)))]) dX6_layAll_52 rfl (Nat.le_of_ble_eq_true rfl) rfl ?_
    refine zr_aload_n dX6_layAll_53 rfl rfl ?_
    refine zr_call1 (rest := []) (zs_V (As := []) (by omega) ok_X2_isLifted q1582 q1125 q1126 q57 q1127 rfl hbj rfl rfl rfl (Nat.le_of_ble_eq_true rfl) dX6_layAll_54) (zC.at1 (hE.b j) (c_X2_isLifted (by omega) hS2 (hE.nn hj))) ?_
    refine zr_ifeqB (tgt := 108) dX6_layAll_57 (by decide) (fun h1 => ?_) (fun h1 => ?_)
    · refine zr_goto (tgt := 34) dX6_layAll_108 (by decide) ?_
      refine zr_sub (ls2 := [(0, .ref ly), (1, .int wd), (2, .ref it)]) [0, 1, 2] rfl ?_
      rw [cAllS_2 h1] at kQ
      exact ih (k + 1) _ _ c _ σ2 hy2 (by omega) hE hX2 (by omega) hY2 hI2 hT2 kQ
    · refine zr_aload_n dX6_layAll_60 rfl rfl ?_
      refine zr_getN (k := 24) (v := .ref (kA c (rP j))) in_X2 hbj rfl (Nat.le_of_ble_eq_true rfl) q290 (.inl rfl) rfl dX6_layAll_61 ?_
      refine zr_iconst (v := 0) dX6_layAll_64 (by decide) ?_
      refine zr_putN (k := 0) (fs' := (kPl (kSetP c j 0 0) j)) zt_X3 (hS2.pF (hE.nn hj)) rfl (Nat.le_of_ble_eq_true rfl) q189 (.inl rfl) rfl rfl rfl (Nat.le_of_ble_eq_true rfl) (kPl_set0 _ _ _) dX6_layAll_65 ?_
      have hY3 := hY2.setP (hE.nn hj) 0 0
      have hX3 := hX2.trans (hS2.XP hX2.gd (hE.nn hj) (kPl (kSetP c j 0 0) j))
      have hX23 := hS2.XP hX2.gd (hE.nn hj) (kPl (kSetP c j 0 0) j)
      generalize hc3 : kSetP c j 0 0 = c3 at hY3 hX3 hX23 ⊢
      have hE3 : KEq c c3 := hc3 ▸ KEq.setP c j 0 _
      have hP3 : kA c3 (rP j) = kA c (rP j) := by rw [← hc3]; rfl
      generalize hσ3 : sUp σ2 (kA c (rP j)) (.inr (3, kPl c3 j)) = σ3 at hY3 hX3 hX23 ⊢
      have hS3 := hY3.1
      have hE03 := hE.trans hE3
      have hbj3 : zAt G σ3 (kA c0 (rB j)) (.inr (2, kBx c3 j)) := hE03.b j ▸ hS3.bx (hE03.nn hj)
      refine zr_aload_n dX6_layAll_68 rfl rfl ?_
      refine zr_getN (k := 24) (v := .ref (kA c3 (rP j))) in_X2 hbj3 rfl (Nat.le_of_ble_eq_true rfl) q290 (.inl rfl) rfl dX6_layAll_69 ?_
      refine zr_iconst (v := 0) dX6_layAll_72 (by decide) ?_
      refine zr_putN (k := 1) (fs' := (kPl (kSetP c3 j 1 0) j)) zt_X3 (hS3.pF (hE03.nn hj)) rfl (Nat.le_of_ble_eq_true rfl) q193 (.inl rfl) rfl rfl rfl (Nat.le_of_ble_eq_true rfl) (kPl_set1 _ _ _) dX6_layAll_73 ?_
      have hY4 := hY3.setP (hE03.nn hj) 1 0
      have hX34 := hS3.XP hX3.gd (hE03.nn hj) (kPl (kSetP c3 j 1 0) j)
      have hX4 := hX3.trans hX34
      generalize hc4 : kSetP c3 j 1 0 = c4 at hY4 hX4 hX34 ⊢
      have hE4 : KEq c c4 := hE3.trans (hc4 ▸ KEq.setP c3 j 1 _)
      generalize hσ4 : sUp σ3 (kA c3 (rP j)) (.inr (3, kPl c4 j)) = σ4 at hY4 hX4 hX34 ⊢
      have hS4 := hY4.1
      have hE04 := hE.trans hE4
      have hj4 := hE04.nn hj
      have hroot : kRoot c4 j = false := by
        have h9 : kLifted c4 j = true := by rw [← hc4, ← hc3]; exact h1
        unfold kLifted at h9
        cases hr : kRoot c4 j with
        | false => rfl
        | true => rw [hr] at h9; cases h9
      have hho := kHold_lt hS4.2.2.2 hj4 hroot
      have hbj4 : zAt G σ4 (kA c0 (rB j)) (.inr (2, kBx c4 j)) := hE04.b j ▸ hS4.bx hj4
      have hbh4 : zAt G σ4 (kA c4 (rB (kHold c4 j))) (.inr (2, kBx c4 (kHold c4 j))) := hS4.bx (by omega)
      have hph4 : zAt G σ4 (kA c4 (rP (kHold c4 j))) (.inr (3, kPl c4 (kHold c4 j))) := hS4.pl (by omega)
      obtain ⟨_, σ5, ⟨rfl, hX5⟩, hC5⟩ := c_X1_fitting (wd := imax 0 (kP c4 (kHold c4 j) 2 - kF c4 j 18)) (d := d - 1) (by omega) hG hX4.gd hS4 hj4
      have hC5' := zC.at1 (hE04.b j) hC5
      have hY5 := hY4.keep0 hX4.gd hX5
      obtain ⟨_, σ6, ⟨c6, rfl, hE6, hz6, hY6, hX6⟩, hC6⟩ := c_lay_alll (chk := chk) hG 24 (d - 1) (by omega) ly σ5 c4 n j (cFit c4 j (imax 0 (kP c4 (kHold c4 j) 2 - kF c4 j 18))) hX5.gd hY5 hj4 (by rw [hE04.n]; omega)
      have hC6' := zC.at2 (hE04.b j) hC6
      have hX46 := (hX5.mono (S2 := SC) (fun _ h => absurd h (fun h => h))).trans hX6
      have hX06 := hX4.trans hX46
      have hI6 := hX46.f hX4.gd (hX34.f hX3.gd (hX23.f hX2.gd hI2 (by rw [hT2]; exact SC_0)) (by rw [hX23.t hX2.gd hI2, hT2]; exact SC_0)) (by rw [hX34.t hX3.gd (hX23.f hX2.gd hI2 (by rw [hT2]; exact SC_0)), hX23.t hX2.gd hI2, hT2]; exact SC_0)
      have hT6 : sT σ6 it = 0 := by
        have a1 := hX23.f hX2.gd hI2 (by rw [hT2]; exact SC_0)
        have t1 := (hX23.t hX2.gd hI2).trans hT2
        have a2 := hX34.f hX3.gd a1 (by rw [t1]; exact SC_0)
        have t2 := (hX34.t hX3.gd a1).trans t1
        exact (hX46.t hX4.gd a2).trans t2
      have hz4 : kZ c4 = kSetP (kSetP (kZ c) j 0 0) j 1 0 := by rw [← hc4, ← hc3]; rfl
      have ehold : kHold c4 j = kHold c j := hE4.hold j
      have ep : kP c4 (kHold c j) 2 = kP c (kHold c j) 2 := by
        rw [← hc4, ← hc3]
        show up2 (up2 (kP c) j 0 0) j 1 0 (kHold c j) 2 = kP c (kHold c j) 2
        rw [up2_a _ _ _ _ (by rw [← ehold]; omega), up2_a _ _ _ _ (by rw [← ehold]; omega)]
      have ef : kF c4 j 18 = kF c j 18 := hE4.f j 18 (by decide)
      have efit : cFit c4 j = cFit c j := by rw [← hc4, ← hc3]; exact cFit_P c j
      rw [hz4, ehold, ep, ef, efit] at hz6 hY6
      have e9 := cAllS_1 (L := L24 chk) h1 hz6 rfl
      rw [e9] at kQ
      refine zr_aload_n dX6_layAll_76 rfl rfl ?_
      refine zr_call1 (rest := []) (zs_V (As := []) (by omega) ok_X2_holder q1583 q1584 q1585 q57 q1586 rfl hbj4 rfl rfl rfl (Nat.le_of_ble_eq_true rfl) dX6_layAll_77) (zC.at1 (hE04.b j) (c_X2_holder (by omega) hS4 hj4 hroot)) ?_
      refine zr_astore (ls2 := [(0, .ref ly), (1, .int wd), (2, .ref it), (3, .ref (kA c0 (rB j))), (4, .ref (kA c4 (rB (kHold c4 j))))]) dX6_layAll_80 (Nat.le_of_ble_eq_true rfl) rfl ?_
      refine zr_aload_n dX6_layAll_82 rfl rfl ?_
      refine zr_aload_n dX6_layAll_83 rfl rfl ?_
      refine zr_aload_n dX6_layAll_84 rfl rfl ?_
      refine zr_iconst (v := 0) dX6_layAll_85 (by decide) ?_
      refine zr_aload dX6_layAll_86 rfl ?_
      refine zr_getN (k := 24) (v := .ref (kA c4 (rP (kHold c4 j)))) in_X2 hbh4 rfl (Nat.le_of_ble_eq_true rfl) q290 (.inl rfl) rfl dX6_layAll_88 ?_
      refine zr_getN (k := 2) (v := .int (kP c4 (kHold c4 j) 2)) in_X3 hph4 rfl (Nat.le_of_ble_eq_true rfl) q198 (.inl rfl) rfl dX6_layAll_91 ?_
      refine zr_aload_n dX6_layAll_94 rfl rfl ?_
      refine zr_getN (k := 18) (v := .int (kF c4 j 18)) in_X2 hbj4 rfl (Nat.le_of_ble_eq_true rfl) q274 (.inl rfl) rfl dX6_layAll_95 ?_
      refine zr_isub dX6_layAll_98 ?_
      refine zr_max (by omega) q1239 q376 q60 q377 (Nat.le_of_ble_eq_true rfl) dX6_layAll_99 ?_
      refine zr_call1 (rest := [.ref (kA c0 (rB j)), .ref ly]) (zs_SN (As := [.ref (kA c0 (rB j)), .int (imax 0 ((kP c4 (kHold c4 j) 2) - (kF c4 j 18)))]) (by omega) ok_X1_fitting q1587 q1514 q53 q1515 rfl rfl (Nat.le_of_ble_eq_true rfl) dX6_layAll_102) hC5' ?_
      refine zr_callv (rest := []) (zs_V (As := [.ref (kA c0 (rB j)), .int (cFit c4 j (imax 0 (kP c4 (kHold c4 j) 2 - kF c4 j 18)))]) (by omega) ok_X6_lay q1113 q1115 qs10 q83 q1116 rfl hY5.lf rfl rfl rfl (Nat.le_of_ble_eq_true rfl) dX6_layAll_105) hC6' ?_
      refine zr_goto (tgt := 34) dX6_layAll_108 (by decide) ?_
      refine zr_sub (ls2 := [(0, .ref ly), (1, .int wd), (2, .ref it)]) [0, 1, 2] rfl ?_
      have hLX : LXA c0 j = LB 24 c0 j + 4 * KW 24 c0 j + 2000 := LXA_l (by rw [← kLift_eq hE]; exact h1)
      exact ih (k + 1) _ _ c6 _ σ6 hy2 (by omega) (hE04.trans hE6) hX06 (by rw [LB_eq hE04, KW_eq hE04]; omega) hY6 hI6 hT6 kQ
set_option maxHeartbeats 4000000 in
theorem c_X6_layAll {G : zG} {σ : zT} {d ly : Nat} {c : zCS} {n wd : Int32} {chk : Bool} (hd : 222 ≤ d) (hG : zOk G) (hw : zGd G σ) (h0 : 0 < kN c) (hY : LY G σ c ly chk n) : zCall G I_X6_layAll d [.ref ly, .int wd] σ ((fun o σ' => ∃ c', o = .inl none ∧ KEq c c' ∧ kZ c' = (cAll (L24 chk) (kZ c, n) wd).1 ∧ LY G σ' c' ly chk (cAll (L24 chk) (kZ c, n) wd).2 ∧ zX G SC σ σ' (20 + LA c))) := by
  refine zCall_of (ls := [(0, .ref ly), (1, .int wd)]) (by decide) (Nat.le_of_ble_eq_true rfl) rfl ?_
  have hS := hY.1
  obtain ⟨_, σ3, ⟨c3, rfl, hE3, hz3, hY3, hX3⟩, hC3⟩ := c_lay_alll (chk := chk) hG 24 (d - 1) (by omega) ly σ c n 0 wd hw hY h0 (by have := hS.le; omega)
  have hS3 := hY3.1
  have hL3 := hS3.bxK hE3
  obtain ⟨fl3, hfl3⟩ := hL3.A
  have hXi := zX.new S0 hX3.gd 0 (by omega) (.inr (21, [.int 0, .int (-1), .int (kM c 2), .ref (kA c 2)])) 4
  have hY4 := hY3.keep0 hX3.gd hXi
  obtain ⟨fl_hfl, hfl⟩ := hS.bxL.A
  refine zr_aload_n dX6_layAll_0 rfl rfl ?_
  refine zr_aload_n dX6_layAll_1 rfl rfl ?_
  refine zr_get (k := 2) (v := .ref (kA c 1)) in_X6 hY.lf rfl (Nat.le_of_ble_eq_true rfl) q1090 (.inl rfl) rfl dX6_layAll_2 ?_
  refine zr_getN (k := 0) (v := .ref (kA c 2)) in_X1 hS.one rfl (Nat.le_of_ble_eq_true rfl) q809 (.inl rfl) rfl dX6_layAll_5 ?_
  refine zr_iconst (v := 0) dX6_layAll_8 (by decide) ?_
  refine zr_call51 (rest := [.ref ly]) (zs_F (As := [.int 0]) (by omega) okF_J2_get (by decide +kernel) q1103 q1106 q959 q56 q960 hfl rfl rfl rfl (Nat.le_of_ble_eq_true rfl) dX6_layAll_9) (c_J2_get (by omega) hG hS.bxL (CSys.bxa h0)) ?_
  refine zr_castS (hS.bx h0) rfl q1112 dX6_layAll_14 ?_
  refine zr_iload_n dX6_layAll_17 rfl rfl ?_
  refine zr_callv (rest := []) (zs_V (As := [.ref (kA c (rB 0)), .int wd]) (by omega) ok_X6_lay q1113 q1115 qs10 q83 q1116 rfl hY.lf rfl rfl rfl (Nat.le_of_ble_eq_true rfl) dX6_layAll_18) hC3 ?_
  have hc1 : zAt G σ3 (kA c 1) (.inr (1, [.ref (kA c 2), .int (kLw c3), .int (kCt c3)])) := by have h9 := hS3.one; rw [hE3.one, hE3.two] at h9; exact h9
  have hlf3 : zAt G σ3 ly (.inr (6, [.int (bI chk), .int (L24 chk (kZ c, n) 0 wd).2, .ref (kA c 1)])) := by have h9 := hY3.lf; rw [hE3.one] at h9; exact h9
  refine zr_aload_n dX6_layAll_21 rfl rfl ?_
  refine zr_get (k := 2) (v := .ref (kA c 1)) in_X6 hlf3 rfl (Nat.le_of_ble_eq_true rfl) q1090 (.inl rfl) rfl dX6_layAll_22 ?_
  refine zr_getN (k := 0) (v := .ref (kA c 2)) in_X1 hc1 rfl (Nat.le_of_ble_eq_true rfl) q809 (.inl rfl) rfl dX6_layAll_25 ?_
  refine zr_call51 (rest := []) (zs_F (As := []) (by omega) okF_J2_iterator (by decide +kernel) q1187 q832 q834 q56 q836 hfl3 rfl rfl rfl (Nat.le_of_ble_eq_true rfl) dX6_layAll_28) (c_J2_iterator (by omega) hX3.gd.1 hL3) ?_
  refine zr_astore_n (ls2 := [(0, .ref ly), (1, .int wd), (2, .ref (sZ σ3))]) dX6_layAll_33 rfl (Nat.le_of_ble_eq_true rfl) rfl ?_
  refine l_X6_layAll (N := (LB 24 c 0 + (4 + 4)) + ((List.range (kN c)).map (LXA c)).sum) (by omega) hG hw (by have := hX3.1.1; omega) hS.le (List.range (kN c)) 0 _ (-1) c3 _ _ rfl (Nat.zero_le _) hE3 (hX3.trans (hXi.mono (S2 := SC) (fun _ h => absurd h (fun h => h)))) (Nat.le_refl _) hY4 (sF_newS _ _ _ _) (sT_newS _ _ _ _) (fun σ2 c2 hE2 hX2 hz2 hY2 => ?_)
  have e9 : List.foldl (cAllS (L24 chk)) (kZ c3, (L24 chk (kZ c, n) 0 wd).2) (List.range (kN c)) = cAll (L24 chk) (kZ c, n) wd := by
    rw [hz3]
    rfl
  rw [e9] at hz2 hY2
  exact ⟨c2, rfl, hE2, hz2, hY2, hX2.le (by unfold LA; omega)⟩
def pLayOut (z : zCS) (w : Int32) : (Nat × Value) × zCS :=
  if btw w 0 400 = true then ((0, .int (cAll (L24 false) (z, 0) w).2), kUCt (kULw (cAll (L24 false) (z, 0) w).1 w) (kCt z + (cAll (L24 false) (z, 0) w).2)) else ((2, .null), z)
set_option maxHeartbeats 4000000 in
theorem c_X1_layOut {G : zG} {σ : zT} {d : Nat} {c : zCS} {wd : Int32} (hd : 224 ≤ d) (hG : zOk G) (hw : zGd G σ) (hS : CSys G σ c) (h0 : 0 < kN c) : zCall G I_X1_layOut d [.ref (kA c 1), .int wd] σ ((fun o σ' => oR o (pLayOut (kZ c) wd).1 ∧ ∃ c', CSys G σ' c' ∧ kZ c' = (pLayOut (kZ c) wd).2 ∧ zX G SC σ σ' (40 + LA c))) := by
  refine zCall_of (ls := [(0, .ref (kA c 1)), (1, .int wd)]) (by decide) (Nat.le_of_ble_eq_true rfl) rfl ?_
  obtain ⟨fl_hfl, hfl⟩ := hS.bxL.A
  refine zr_iload_n dX1_layOut_0 rfl rfl ?_
  refine zr_iconst (v := 0) dX1_layOut_1 (by decide) ?_
  refine zr_sipush (v := 400) dX1_layOut_2 (by decide) ?_
  refine zr_call1 (rest := []) (zs_S (As := [.int wd, .int 0, .int 400]) (by omega) ok_X1_isBetween q1633 q1634 q53 q1635 rfl rfl (Nat.le_of_ble_eq_true rfl) dX1_layOut_5) c_X1_isBetween ?_
  by_cases hok : btw wd 0 400 = true
  · rw [show pLayOut (kZ c) wd = ((0, .int (cAll (L24 false) (kZ c, 0) wd).2), kUCt (kULw (cAll (L24 false) (kZ c, 0) wd).1 wd) (kCt (kZ c) + (cAll (L24 false) (kZ c, 0) wd).2)) from if_pos hok]
    refine zr_eqi (z := 1) (by rw [hok]; rfl) ?_
    refine zr_callv (rest := []) (zs_S (As := [.int 1]) (by omega) ok_X1_requireArgument q1644 q1645 q53 q1646 rfl rfl (Nat.le_of_ble_eq_true rfl) dX1_layOut_8) c_requireArgument1 ?_
    refine zr_new (ci := 6) (5) zt_X6 q1081 q1082 q83 rfl df_X6 dX1_layOut_11 ?_
    refine zr_dup dX1_layOut_14 rfl ?_
    refine zr_aload_n dX1_layOut_15 rfl rfl ?_
    refine zr_iconst (v := 0) dX1_layOut_16 (by decide) ?_
    refine zr_callv (rest := [.ref (sZ σ)]) (zs_I (As := [.ref (kA c 1), .int 0]) (by omega) ok_X6_init q1083 q1084 q83 q1085 rfl rfl rfl (Nat.le_of_ble_eq_true rfl) dX1_layOut_17) (c_X6_init (b := false) (by omega) (sF_newS _ _ _ _)) ?_
    rw [sNew_up]
    have hXn := zX.new S0 hw 5 (by omega) (.inr (6, [.int (bI false), .int 0, .ref (kA c 1)])) 3
    have hYn : LY G (sNew σ 5 (.inr (6, [.int (bI false), .int 0, .ref (kA c 1)])) 3) c (sZ σ) false 0 := ⟨hS.keep0 hw hXn, sF_newS _ _ _ _, sT_newS _ _ _ _⟩
    obtain ⟨_, σ2, ⟨c2, rfl, hE2, hz2, hY2, hX2⟩, hC2⟩ := c_X6_layAll (wd := wd) (d := d - 1) (by omega) hG hXn.gd h0 hYn
    generalize hσn : sNew σ 5 (.inr (6, [.int (bI false), .int 0, .ref (kA c 1)])) 3 = σn at hXn hYn hX2 hC2 ⊢
    refine zr_astore_n (ls2 := [(0, .ref (kA c 1)), (1, .int wd), (2, .ref (sZ σ))]) dX1_layOut_20 rfl (Nat.le_of_ble_eq_true rfl) rfl ?_
    refine zr_aload_n dX1_layOut_21 rfl rfl ?_
    refine zr_iload_n dX1_layOut_22 rfl rfl ?_
    refine zr_callv (rest := []) (zs_V (As := [.int wd]) (by omega) ok_X6_layAll q1098 q1099 q1100 q83 q1101 rfl hYn.lf rfl rfl rfl (Nat.le_of_ble_eq_true rfl) dX1_layOut_23) hC2 ?_
    have hS2 := hY2.1
    have hc1 : sF σ2 (kA c 1) = some (.inr (1, [.ref (kA c2 2), .int (kLw c2), .int (kCt c2)])) := hE2.one ▸ hS2.1.1
    have hS3 := hS2.setLw wd (kCt c2)
    have hS4 := hS2.setLw wd (kCt c2 + (cAll (L24 false) (kZ c, 0) wd).2)
    have hne : sZ σ ≠ kA c 1 := (sF_ne hY2.2.1 hc1 (zE_ne (by decide)))
    have hX4 : zX G SC σ2 (sUp σ2 (kA c2 1) (.inr (1, [.ref (kA c2 2), .int wd, .int (kCt c2 + (cAll (L24 false) (kZ c, 0) wd).2)]))) 0 := zX.up hX2.gd hS2.1.1 (by rw [hS2.1.2]; exact ⟨by omega, by omega⟩)
    rw [hE2.one] at hS4 hX4
    have hct : kCt c2 = kCt (kZ c) := hE2.2.2.2.2.2.2.2.2
    refine zr_aload_n dX1_layOut_26 rfl rfl ?_
    refine zr_iload_n dX1_layOut_27 rfl rfl ?_
    refine zr_put (k := 1) (fs' := [.ref (kA c2 2), .int wd, .int (kCt c2)]) zt_X1 hc1 rfl (Nat.le_of_ble_eq_true rfl) q810 (.inl rfl) rfl rfl rfl (Nat.le_of_ble_eq_true rfl) rfl dX1_layOut_28 ?_
    refine zr_aload_n dX1_layOut_31 rfl rfl ?_
    refine zr_dup dX1_layOut_32 rfl ?_
    refine zr_get (k := 2) (v := .int (kCt c2)) in_X1 (.new (sF_upS _ _ _)) rfl (Nat.le_of_ble_eq_true rfl) q812 (.inl rfl) rfl dX1_layOut_33 ?_
    refine zr_aload_n dX1_layOut_36 rfl rfl ?_
    refine zr_getN (k := 1) (v := .int (cAll (L24 false) (kZ c, 0) wd).2) in_X6 (.new ((sF_upN _ _ _ hne).trans hY2.2.1)) rfl (Nat.le_of_ble_eq_true rfl) q1089 (.inl rfl) rfl dX1_layOut_37 ?_
    refine zr_iadd dX1_layOut_40 ?_
    refine zr_put (k := 2) (fs' := [.ref (kA c2 2), .int wd, .int (kCt c2 + (cAll (L24 false) (kZ c, 0) wd).2)]) zt_X1 (sF_upS _ _ _) rfl (Nat.le_of_ble_eq_true rfl) q812 (.inl rfl) rfl rfl rfl (Nat.le_of_ble_eq_true rfl) rfl dX1_layOut_41 ?_
    rw [sUp_sUp]
    refine zr_aload_n dX1_layOut_44 rfl rfl ?_
    refine zr_getN (k := 1) (v := .int (cAll (L24 false) (kZ c, 0) wd).2) in_X6 (.new ((sF_upN _ _ _ hne).trans hY2.2.1)) rfl (Nat.le_of_ble_eq_true rfl) q1089 (.inl rfl) rfl dX1_layOut_45 ?_
    exact zr_iret rfl rfl dX1_layOut_48 (⟨oR_ok, _, hS4, by rw [← hct, ← hz2]; rfl, ((hXn.mono (S2 := SC) (fun _ h => absurd h (fun h => h))).trans (hX2.trans hX4)).le (by omega)⟩)
  · have hok0 : btw wd 0 400 = false := by simpa using hok
    rw [show pLayOut (kZ c) wd = ((2, .null), kZ c) from if_neg hok]
    obtain ⟨_, σ1, ⟨q, rfl, hX⟩, hC⟩ := c_requireArgument0 (d := d - 1) (by omega) hG hw
    refine zr_eqi (z := 0) (by rw [hok0]; rfl) ?_
    refine zr_callX (rest := []) (zs_S (As := [.int 0]) (by omega) ok_X1_requireArgument q1644 q1645 q53 q1646 rfl rfl (Nat.le_of_ble_eq_true rfl) dX1_layOut_8) hC ?_
    exact zx_out (by decide) ⟨oR_x (by decide), c, hS.keep0 hw hX, rfl, (hX.mono (fun _ h => absurd h (fun h => h))).le (by omega)⟩
