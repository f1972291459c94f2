/-! ===== the context: flow (rows printed by tools/p68.py) ===== -/
abbrev FwT : Type := ((zCS × Int32) × List F5) × Int32 × Int32 × Int32
def fwTop (c : zCS) (fs : List F5) (j : Nat) (t : Int32) : Int32 := if kF c j 21 ≠ 0 ∨ kItems c j = true then imax t (cLow fs) else t
def fwAf (R : (zCS × Int32) × List F5) (j : Nat) (pl g l top : Int32) : FwT :=
  (R, if kP R.1.1 j 3 = 0 then pl else top + kP R.1.1 j 3, imax (if kP R.1.1 j 3 = 0 then g else 0) (kLower R.1.1 j), imin (if kP R.1.1 j 3 = 0 then l else 0) (kLower R.1.1 j))
def fwIn (L : LayT) (Fl : FlT) (i : Nat) (x y : Int32) (s : (zCS × Int32) × List F5) (j : Nat) (pl g l : Int32) : FwT :=
  fwAf (cChild L Fl s.1 s.2 j i x y (fwTop s.1.1 s.2 j (pl + g + l))) j pl g l (fwTop s.1.1 s.2 j (pl + g + l))
def fwS (L : LayT) (Fl : FlT) (i : Nat) (x y : Int32) (s : FwT) (j : Nat) : FwT :=
  if kFloat s.1.1.1 j = true then (cFloat L s.1.1 s.1.2 j i x y (s.2.1 + s.2.2.1 + s.2.2.2), s.2)
  else if kFlow s.1.1.1 j = true then fwIn L Fl i x y s.1 j s.2.1 (imax s.2.2.1 (kUpper s.1.1.1 j)) (imin s.2.2.2 (kUpper s.1.1.1 j))
  else s
def cFlowA (L : LayT) (Fl : FlT) (s : zCS × Int32) (fs : List F5) (i : Nat) (x y : Int32) : FwT := (kCh s.1 i).foldl (fwS L Fl i x y) ((s, fs), y + kF s.1 i 12, 0, 0)
def cFlow (L : LayT) (Fl : FlT) (s : zCS × Int32) (fs : List F5) (i : Nat) (x y : Int32) : (zCS × Int32) × List F5 :=
  ((cSH (cFlowA L Fl s fs i x y).1.1.1 i (imax 0 ((cFlowA L Fl s fs i x y).2.1 + (cFlowA L Fl s fs i x y).2.2.1 + (cFlowA L Fl s fs i x y).2.2.2 - (y + kF s.1 i 12))), (cFlowA L Fl s fs i x y).1.1.2), (cFlowA L Fl s fs i x y).1.2)
theorem zC.at23 {G : zG} {I : zI} {d x y x2 y2 : Nat} {v : Value} {as : List Value} {σ σ' : zT} {o : zO} (hx : x = y) (hx2 : x2 = y2) (h : zC G I d (v :: .ref x :: .ref x2 :: as) σ o σ') : zC G I d (v :: .ref y :: .ref y2 :: as) σ o σ' := hx ▸ hx2 ▸ h
theorem FlS.upI {G : zG} {σ : zT} {fa a : Nat} {fs : List F5} {gs hs : List Value} (h : FlS G σ fa fs) (ha : sF σ a = some (.inr (21, gs))) : FlS G (sUp σ a (.inr (21, hs))) fa fs := by
  obtain ⟨mod, xs, l1, l2, l3, l4⟩ := h
  refine ⟨mod, xs, l1.upO ha (by decide), l2, l3, fun j q z hq hz => ?_⟩
  obtain ⟨m1, m2, m3⟩ := l4 j q z hq hz
  exact ⟨(sF_upN _ _ _ (sF_ne m1 ha (zE_ne (by decide)))).trans m1, m2, m3⟩
theorem CSys.chK {G : zG} {σ : zT} {c0 c : zCS} (h : CSys G σ c) (hE : KEq c0 c) {i : Nat} (hi : i < kN c0) : zL G σ (rC i) (kA c0 (rC i)) (kM c0 (rC i)) ((kCh c0 i).map (fun j => kA c0 (rB j))) := by
  have h1 := h.chL (hE.nn hi)
  rw [hE.rc i, hE.m, hE.ch i] at h1
  simp only [hE.b] at h1
  exact h1
theorem cFloat_len (L : LayT) (s : zCS × Int32) (fs : List F5) (j i : Nat) (x y top : Int32) : (cFloat L s fs j i x y top).2.length = fs.length + 1 := by
  unfold cFloat cFloat2
  rw [List.length_append]
  rfl
theorem fwTop_Z (c : zCS) (fs : List F5) (j : Nat) (t : Int32) : fwTop (kZ c) fs j t = fwTop c fs j t := rfl
theorem fwS_1 {L : LayT} {Fl : FlT} {i j : Nat} {x y pl g l : Int32} {c c3 : zCS} {n n3 : Int32} {fs fs3 : List F5} (h : kFloat c j = true) (h1 : kZ c3 = (cFloat L (kZ c, n) fs j i x y (pl + g + l)).1.1) (h2 : n3 = (cFloat L (kZ c, n) fs j i x y (pl + g + l)).1.2) (h3 : fs3 = (cFloat L (kZ c, n) fs j i x y (pl + g + l)).2) : fwS L Fl i x y (((kZ c, n), fs), pl, g, l) j = (((kZ c3, n3), fs3), pl, g, l) := by
  unfold fwS
  have h' : kFloat (kZ c) j = true := h
  rw [if_pos h', h1, h2, h3]
theorem fwS_2 {L : LayT} {Fl : FlT} {i j : Nat} {x y pl g l : Int32} {c : zCS} {n : Int32} {fs : List F5} (h : kFloat c j = false) (h' : kFlow c j = false) : fwS L Fl i x y (((kZ c, n), fs), pl, g, l) j = (((kZ c, n), fs), pl, g, l) := by
  unfold fwS
  have e1 : ¬ kFloat (kZ c) j = true := by rw [show kFloat (kZ c) j = kFloat c j from rfl, h]; decide
  have e2 : ¬ kFlow (kZ c) j = true := by rw [show kFlow (kZ c) j = kFlow c j from rfl, h']; decide
  rw [if_neg e1, if_neg e2]
theorem fwS_3 {L : LayT} {Fl : FlT} {i j : Nat} {x y pl g l a : Int32} {c c3 : zCS} {n n3 : Int32} {fs fs3 : List F5} (h : kFloat c j = false) (h' : kFlow c j = true) (ha : a = fwTop c fs j (pl + imax g (kUpper c j) + imin l (kUpper c j))) (h1 : kZ c3 = (cChild L Fl (kZ c, n) fs j i x y a).1.1) (h2 : n3 = (cChild L Fl (kZ c, n) fs j i x y a).1.2) (h3 : fs3 = (cChild L Fl (kZ c, n) fs j i x y a).2) : fwS L Fl i x y (((kZ c, n), fs), pl, g, l) j = (((kZ c3, n3), fs3), if kP c3 j 3 = 0 then pl else a + kP c3 j 3, imax (if kP c3 j 3 = 0 then imax g (kUpper c j) else 0) (kLower c3 j), imin (if kP c3 j 3 = 0 then imin l (kUpper c j) else 0) (kLower c3 j)) := by
  unfold fwS
  have e1 : ¬ kFloat (kZ c) j = true := by rw [show kFloat (kZ c) j = kFloat c j from rfl, h]; decide
  have e2 : kFlow (kZ c) j = true := h'
  rw [if_neg e1, if_pos e2]
  unfold fwIn
  rw [fwTop_Z, show kUpper (kZ c) j = kUpper c j from rfl]
  show fwAf (cChild L Fl (kZ c, n) fs j i x y (fwTop c fs j (pl + imax g (kUpper c j) + imin l (kUpper c j)))) j pl (imax g (kUpper c j)) (imin l (kUpper c j)) (fwTop c fs j (pl + imax g (kUpper c j) + imin l (kUpper c j))) = _
  rw [← ha]
  have e : cChild L Fl (kZ c, n) fs j i x y a = ((kZ c3, n3), fs3) := by rw [h1, h2, h3]
  rw [e]
  rfl
set_option maxHeartbeats 4000000 in
theorem l_X7_flow {G : zG} {σ : zT} {d f N F : Nat} {c0 : zCS} {i cx ly fa p it : Nat} {x y up : Int32} {L : LayT} {Fl : FlT} {chk : Bool} {Q : zO → zT → Prop} (hNx : zNext G) (hd : 90 ≤ d) (hG : zOk G) (hw : zGd G σ) (hi : i < kN c0) (hch : ∀ j, j ∈ kCh c0 i → i < j ∧ j < kN c0) (hf : kN c0 ≤ f + 1 + i) (hcx0 : sF σ cx = some (.inr (7, [.ref ly, .ref fa, .ref p]))) (hct : sT σ cx = 0) (hit : sZ σ ≤ it) (hF24 : F ≤ 24) (hLay : ∀ (σ : zT) (c : zCS) (n : Int32) (j : Nat) (wd : Int32), zGd G σ → LY G σ c ly chk n → j < kN c → kN c ≤ f + j → zCall G I_X6_lay (d - 1 - 1) [.ref ly, .ref (kA c (rB j)), .int wd] σ (fun o σ' => ∃ c', o = .inl none ∧ KEq c c' ∧ kZ c' = (L (kZ c, n) j wd).1 ∧ LY G σ' c' ly chk (L (kZ c, n) j wd).2 ∧ zX G SC σ σ' (LB f c j))) (hFlow : ∀ (σ : zT) (c : zCS) (n : Int32) (fs : List F5) (j : Nat) (x y : Int32), zGd G σ → LY G σ c ly chk n → sF σ cx = some (.inr (7, [.ref ly, .ref fa, .ref p])) → sT σ cx = 0 → FlS G σ fa fs → j < kN c → kN c ≤ f + j → fs.length + FC f c j ≤ 24 → zCall G I_X7_flow (d - 1 - 1) [.ref cx, .ref (kA c (rB j)), .int x, .int y] σ (fun o σ' => ∃ c', o = .inl none ∧ KEq c c' ∧ kZ c' = (Fl (kZ c, n) fs j x y).1.1 ∧ LY G σ' c' ly chk (Fl (kZ c, n) fs j x y).1.2 ∧ FlS G σ' fa (Fl (kZ c, n) fs j x y).2 ∧ (Fl (kZ c, n) fs j x y).2.length ≤ fs.length + FC f c j ∧ zX G (SF fa) σ σ' (LB f c j))) : ∀ (ys : List Nat) (k m : Nat) (lr : Int32) (c : zCS) (n : Int32) (fs : List F5) (pl g l : Int32) (σ1 : zT), (kCh c0 i).drop k = ys → k ≤ (kCh c0 i).length → KEq c0 c → zX G (SF fa) σ σ1 m → m + (ys.map (LX f c0)).sum ≤ N → LY G σ1 c ly chk n → FlS G σ1 fa fs → fs.length + (ys.map (fun j => 1 + FC f c0 j)).sum ≤ F → sF σ1 it = some (.inr (21, [.int (nI k), .int lr, .int (kM c0 (rC i)), .ref (kA c0 (rC i))])) → sT σ1 it = 0 → (∀ σ2 c2 r, r = ys.foldl (fwS L Fl i x y) (((kZ c, n), fs), pl, g, l) → KEq c0 c2 → zX G (SF fa) σ σ2 N → kZ c2 = r.1.1.1 → LY G σ2 c2 ly chk r.1.1.2 → FlS G σ2 fa r.1.2 → r.1.2.length ≤ F → zR G yX7_flow cX7_flow 12 (Option.none : Option Jvm.ClassFile.FieldType) [] d 250 [(0, .ref cx), (1, .ref (kA c0 (rB i))), (2, .int x), (3, .int y), (4, .int up), (5, .int r.2.1), (6, .int r.2.2.1), (7, .int r.2.2.2), (8, .ref it)] [] σ2 Q) → zR G yX7_flow cX7_flow 12 (Option.none : Option Jvm.ClassFile.FieldType) [] d 29 [(0, .ref cx), (1, .ref (kA c0 (rB i))), (2, .int x), (3, .int y), (4, .int up), (5, .int pl), (6, .int g), (7, .int l), (8, .ref it)] [] σ1 Q := by
  intro ys
  induction ys with
  | nil =>
    intro k m lr c n fs pl g l σ1 hy hk hE hX hN hY hF hFl hI hT kQ
    have hL1 := hY.1.chK hE hi
    have hkl := drop_nil hy hk
    refine zr_aload dX7_flow_29 rfl ?_
    refine zr_call51 (rest := []) (zs_F (As := []) (by omega) okF_J23_hasNext (by decide +kernel) q1368 q927 q929 q84 q931 (.new hI) rfl rfl rfl (Nat.le_of_ble_eq_true rfl) dX7_flow_31) (c_hasNext0 hL1 hI (by rw [List.length_map]; exact hkl)) ?_
    refine zr_if_eq (tgt := 250) dX7_flow_36 (by decide) (fun _ => ?_) (fun h9 => absurd (rfl) h9)
    exact kQ σ1 c _ rfl hE (hX.le (by simpa using hN)) rfl hY hF (by simpa using hFl)
  | cons j ys ih =>
    intro k m lr c n fs pl g l σ1 hy hk hE hX hN hY hF hFl hI hT kQ
    have hL1 := hY.1.chK hE hi
    obtain ⟨hx, hy2, hkl, hm⟩ := drop_cons hy
    obtain ⟨hij, hj⟩ := hch j hm
    rw [List.map_cons, List.sum_cons] at hN hFl
    have hX2 := hX.upN (gs := [.int (nI (k + 1)), .int (nI k), .int (kM c0 (rC i)), .ref (kA c0 (rC i))]) hI hit
    have hY2 : LY G (sUp σ1 it (.inr (21, [.int (nI (k + 1)), .int (nI k), .int (kM c0 (rC i)), .ref (kA c0 (rC i))]))) c ly chk n := hY.upI hI
    have hF2 := hF.upI (hs := [.int (nI (k + 1)), .int (nI k), .int (kM c0 (rC i)), .ref (kA c0 (rC i))]) hI
    have hI2 : sF (sUp σ1 it (.inr (21, [.int (nI (k + 1)), .int (nI k), .int (kM c0 (rC i)), .ref (kA c0 (rC i))]))) it = _ := sF_upS _ _ _
    have hT2 : sT (sUp σ1 it (.inr (21, [.int (nI (k + 1)), .int (nI k), .int (kM c0 (rC i)), .ref (kA c0 (rC i))]))) it = 0 := hT
    generalize hσ2 : sUp σ1 it (.inr (21, [.int (nI (k + 1)), .int (nI k), .int (kM c0 (rC i)), .ref (kA c0 (rC i))])) = σ2 at hX2 hY2 hF2 hI2 hT2
    have hS2 := hY2.1
    have hcx2 := hX2.f hw hcx0 (by rw [hct]; exact SF_0)
    have hct2 := (hX2.t hw hcx0).trans hct
    have hjf : kN c ≤ f + j := by rw [hE.n]; omega
    have hbj : zAt G σ2 (kA c0 (rB j)) (.inr (2, kBx c j)) := hE.b j ▸ hS2.bx (hE.nn hj)
    have hfold : ∀ s, List.foldl (fwS L Fl i x y) s (j :: ys) = ys.foldl (fwS L Fl i x y) (fwS L Fl i x y s j) := fun _ => rfl
    simp only [hfold] at kQ
    refine zr_aload dX7_flow_29 rfl ?_
    refine zr_call51 (rest := []) (zs_F (As := []) (by omega) okF_J23_hasNext (by decide +kernel) q1368 q927 q929 q84 q931 (.new hI) rfl rfl rfl (Nat.le_of_ble_eq_true rfl) dX7_flow_31) (c_hasNext1 hL1 hI (by rw [List.length_map]; exact hkl)) ?_
    refine zr_if_eq (tgt := 250) dX7_flow_36 (by decide) (fun h9 => absurd h9 (by decide)) (fun _ => ?_)
    refine zr_aload dX7_flow_39 rfl ?_
    refine zr_call51 (rest := []) (zs_F (As := []) (by omega) okF_J23_next (by decide +kernel) q1370 q1044 q1046 q84 q1048 (.new hI) rfl rfl rfl (Nat.le_of_ble_eq_true rfl) dX7_flow_41) (c_J23_next (by omega) hG hL1 hI (map_at (fun j => kA c0 (rB j)) hx)) ?_
    rw [hσ2]
    refine zr_castS hbj rfl q1506 dX7_flow_46 ?_
    refine zr_astore (ls2 := [(0, .ref cx), (1, .ref (kA c0 (rB i))), (2, .int x), (3, .int y), (4, .int up), (5, .int pl), (6, .int g), (7, .int l), (8, .ref it), (9, .ref (kA c0 (rB j)))]) dX7_flow_49 (Nat.le_of_ble_eq_true rfl) rfl ?_
    refine zr_aload dX7_flow_51 rfl ?_
    refine zr_call1 (rest := []) (zs_V (As := []) (by omega) ok_X2_isFloat q1507 q1227 q1228 q57 q1229 rfl hbj rfl rfl rfl (Nat.le_of_ble_eq_true rfl) dX7_flow_53) (zC.at1 (hE.b j) (c_X2_isFloat (by omega) hS2 (hE.nn hj))) ?_
    refine zr_ifeqB (tgt := 79) dX7_flow_56 (by decide) (fun h1 => ?_) (fun h1 => ?_)
    · refine zr_aload dX7_flow_79 rfl ?_
      refine zr_call1 (rest := []) (zs_V (As := []) (by omega) ok_X2_isInFlow q1564 q1214 q1215 q57 q1216 rfl hbj rfl rfl rfl (Nat.le_of_ble_eq_true rfl) dX7_flow_81) (zC.at1 (hE.b j) (c_X2_isInFlow (by omega) hS2 (hE.nn hj))) ?_
      refine zr_ifeqB (tgt := 247) dX7_flow_84 (by decide) (fun h2 => ?_) (fun h2 => ?_)
      · refine zr_goto (tgt := 29) dX7_flow_247 (by decide) ?_
        refine zr_sub (ls2 := [(0, .ref cx), (1, .ref (kA c0 (rB i))), (2, .int x), (3, .int y), (4, .int up), (5, .int pl), (6, .int g), (7, .int l), (8, .ref it)]) [0, 1, 2, 3, 4, 5, 6, 7, 8] rfl ?_
        rw [fwS_2 h1 h2] at kQ
        exact ih (k + 1) _ _ c _ _ pl g l σ2 hy2 (by omega) hE hX2 (by omega) hY2 hF2 (by omega) hI2 hT2 kQ
      · refine zr_iload dX7_flow_87 rfl ?_
        refine zr_aload dX7_flow_89 rfl ?_
        refine zr_call1 (rest := [.int g]) (zs_V (As := []) (by omega) ok_X2_upper q1565 q1206 q1207 q57 q1208 rfl hbj rfl rfl rfl (Nat.le_of_ble_eq_true rfl) dX7_flow_91) (zC.at1 (hE.b j) (c_X2_upper (by omega) hS2 (hE.nn hj))) ?_
        refine zr_max (by omega) q1393 q376 q60 q377 (Nat.le_of_ble_eq_true rfl) dX7_flow_94 ?_
        refine zr_istore (ls2 := [(0, .ref cx), (1, .ref (kA c0 (rB i))), (2, .int x), (3, .int y), (4, .int up), (5, .int pl), (6, .int (imax g (kUpper c j))), (7, .int l), (8, .ref it), (9, .ref (kA c0 (rB j)))]) dX7_flow_97 (Nat.le_of_ble_eq_true rfl) rfl ?_
        refine zr_iload dX7_flow_99 rfl ?_
        refine zr_aload dX7_flow_101 rfl ?_
        refine zr_call1 (rest := [.int l]) (zs_V (As := []) (by omega) ok_X2_upper q1565 q1206 q1207 q57 q1208 rfl hbj rfl rfl rfl (Nat.le_of_ble_eq_true rfl) dX7_flow_103) (zC.at1 (hE.b j) (c_X2_upper (by omega) hS2 (hE.nn hj))) ?_
        refine zr_min (by omega) q1394 q431 q60 q432 (Nat.le_of_ble_eq_true rfl) dX7_flow_106 ?_
        refine zr_istore (ls2 := [(0, .ref cx), (1, .ref (kA c0 (rB i))), (2, .int x), (3, .int y), (4, .int up), (5, .int pl), (6, .int (imax g (kUpper c j))), (7, .int (imin l (kUpper c j))), (8, .ref it), (9, .ref (kA c0 (rB j)))]) dX7_flow_109 (Nat.le_of_ble_eq_true rfl) rfl ?_
        refine zr_iload dX7_flow_111 rfl ?_
        refine zr_iload dX7_flow_113 rfl ?_
        refine zr_iadd dX7_flow_115 ?_
        refine zr_iload dX7_flow_116 rfl ?_
        refine zr_iadd dX7_flow_118 ?_
        refine zr_istore (ls2 := [(0, .ref cx), (1, .ref (kA c0 (rB i))), (2, .int x), (3, .int y), (4, .int up), (5, .int pl), (6, .int (imax g (kUpper c j))), (7, .int (imin l (kUpper c j))), (8, .ref it), (9, .ref (kA c0 (rB j))), (10, .int ((pl + (imax g (kUpper c j))) + (imin l (kUpper c j))))]) dX7_flow_119 (Nat.le_of_ble_eq_true rfl) rfl ?_
        refine zr_aload dX7_flow_121 rfl ?_
        refine zr_getN (k := 21) (v := .int (kF c j 21)) in_X2 hbj rfl (Nat.le_of_ble_eq_true rfl) q280 (.inl rfl) rfl dX7_flow_123 ?_
        have key : ∀ a σ4, a = fwTop c fs j (pl + (imax g (kUpper c j)) + (imin l (kUpper c j))) → zX G S0 σ2 σ4 8 → zR G yX7_flow cX7_flow 12 (Option.none : Option Jvm.ClassFile.FieldType) [] d 151 [(0, .ref cx), (1, .ref (kA c0 (rB i))), (2, .int x), (3, .int y), (4, .int up), (5, .int pl), (6, .int (imax g (kUpper c j))), (7, .int (imin l (kUpper c j))), (8, .ref it), (9, .ref (kA c0 (rB j))), (10, .int ((pl + (imax g (kUpper c j))) + (imin l (kUpper c j))))] [.int a] σ4 Q := by
          intro a σ4 ha hX4
          have hY4 := hY2.keep0 hX2.gd hX4
          have hS4 := hY4.1
          have hF4 := hF2.keep0 hX2.gd hX4
          have hcx4 := hX4.f hX2.gd hcx2 (fun h => h)
          have hct4 := (hX4.t hX2.gd hcx2).trans hct2
          have hI4 := hX4.f hX2.gd hI2 (fun h => h)
          have hT4 := (hX4.t hX2.gd hI2).trans hT2
          obtain ⟨_, σ5, ⟨c5, rfl, hE5, hz5, hY5, hF5, hl5, hX5⟩, hC5⟩ := c_X7_layChild (x := x) (y := y) (top := a) (d := d - 1) hNx (by omega) hG hX4.gd (hE.nn hi) (hE.nn hj) hjf hY4 hcx4 hct4 hF4 (by rw [FC_eq hE]; omega) hLay hFlow
          have hC5' := zC.at23 (hE.b j) (hE.b i) hC5
          have hE05 := hE.trans hE5
          have hS5 := hY5.1
          have hI5 := hX5.f hX4.gd hI4 (by rw [hT4]; exact SF_0)
          have hT5 := (hX5.t hX4.gd hI4).trans hT4
          have hbj5 : zAt G σ5 (kA c0 (rB j)) (.inr (2, kBx c5 j)) := hE05.b j ▸ hS5.bx (hE05.nn hj)
          have e9 := fwS_3 h1 h2 ha hz5 rfl rfl
          rw [e9] at kQ
          have hLX : LX f c0 j = LB f c0 j + 4 * KW 24 c0 j + 2000 := LX_nl (by rw [← kLift_eq hE]; exact kFlow_nl h2)
          have hX9 : zX G (SF fa) σ σ5 (m + (LB f c0 j + 2000)) := by
            have h9 := (hX2.trans (hX4.mono (S2 := SF fa) (fun _ h => absurd h (fun h => h)))).trans hX5
            rw [LB_eq hE] at h9
            exact h9.le (by omega)
          rw [FC_eq hE] at hl5
          refine zr_istore (ls2 := [(0, .ref cx), (1, .ref (kA c0 (rB i))), (2, .int x), (3, .int y), (4, .int up), (5, .int pl), (6, .int (imax g (kUpper c j))), (7, .int (imin l (kUpper c j))), (8, .ref it), (9, .ref (kA c0 (rB j))), (10, .int a)]) dX7_flow_151 (Nat.le_of_ble_eq_true rfl) rfl ?_
          refine zr_aload_n dX7_flow_153 rfl rfl ?_
          refine zr_aload dX7_flow_154 rfl ?_
          refine zr_aload_n dX7_flow_156 rfl rfl ?_
          refine zr_iload_n dX7_flow_157 rfl rfl ?_
          refine zr_iload_n dX7_flow_158 rfl rfl ?_
          refine zr_iload dX7_flow_159 rfl ?_
          refine zr_callv (rest := []) (zs_V (As := [.ref (kA c0 (rB j)), .ref (kA c0 (rB i)), .int x, .int y, .int a]) (by omega) ok_X7_layChild q1576 q1578 qs27 q91 q1579 rfl (.new hcx4) rfl rfl rfl (Nat.le_of_ble_eq_true rfl) dX7_flow_161) hC5' ?_
          refine zr_aload dX7_flow_164 rfl ?_
          refine zr_getN (k := 24) (v := .ref (kA c5 (rP j))) in_X2 hbj5 rfl (Nat.le_of_ble_eq_true rfl) q289 (.inl rfl) rfl dX7_flow_166 ?_
          refine zr_getN (k := 3) (v := .int (kP c5 j 3)) in_X3 (hS5.pl (hE05.nn hj)) rfl (Nat.le_of_ble_eq_true rfl) q203 (.inl rfl) rfl dX7_flow_169 ?_
          refine zr_if_ne (tgt := 179) dX7_flow_172 (by decide) (fun h3 => ?_) (fun h3 => ?_)
          · refine zr_iconst (v := 0) dX7_flow_179 (by decide) ?_
            refine zr_istore (ls2 := [(0, .ref cx), (1, .ref (kA c0 (rB i))), (2, .int x), (3, .int y), (4, .int up), (5, .int pl), (6, .int (imax g (kUpper c j))), (7, .int (imin l (kUpper c j))), (8, .ref it), (9, .ref (kA c0 (rB j))), (10, .int a), (11, .int 0)]) dX7_flow_180 (Nat.le_of_ble_eq_true rfl) rfl ?_
            refine zr_iload dX7_flow_182 rfl ?_
            refine zr_if_eq (tgt := 192) dX7_flow_184 (by decide) (fun _ => ?_) (fun h9 => absurd (rfl) h9)
            refine zr_iload dX7_flow_192 rfl ?_
            refine zr_aload dX7_flow_194 rfl ?_
            refine zr_getN (k := 24) (v := .ref (kA c5 (rP j))) in_X2 hbj5 rfl (Nat.le_of_ble_eq_true rfl) q289 (.inl rfl) rfl dX7_flow_196 ?_
            refine zr_getN (k := 3) (v := .int (kP c5 j 3)) in_X3 (hS5.pl (hE05.nn hj)) rfl (Nat.le_of_ble_eq_true rfl) q203 (.inl rfl) rfl dX7_flow_199 ?_
            refine zr_iadd dX7_flow_202 ?_
            refine zr_istore (ls2 := [(0, .ref cx), (1, .ref (kA c0 (rB i))), (2, .int x), (3, .int y), (4, .int up), (5, .int (a + (kP c5 j 3))), (6, .int (imax g (kUpper c j))), (7, .int (imin l (kUpper c j))), (8, .ref it), (9, .ref (kA c0 (rB j))), (10, .int a), (11, .int 0)]) dX7_flow_203 (Nat.le_of_ble_eq_true rfl) rfl ?_
            refine zr_iload dX7_flow_205 rfl ?_
            refine zr_if_eq (tgt := 215) dX7_flow_207 (by decide) (fun _ => ?_) (fun h9 => absurd (rfl) h9)
            refine zr_iconst (v := 0) dX7_flow_215 (by decide) ?_
            refine zr_aload dX7_flow_216 rfl ?_
            refine zr_call1 (rest := [.int 0]) (zs_V (As := []) (by omega) ok_X2_lower q1581 q1236 q1237 q57 q1238 rfl hbj5 rfl rfl rfl (Nat.le_of_ble_eq_true rfl) dX7_flow_218) (zC.at1 (hE05.b j) (c_X2_lower (by omega) hS5 (hE05.nn hj))) ?_
            refine zr_max (by omega) q1393 q376 q60 q377 (Nat.le_of_ble_eq_true rfl) dX7_flow_221 ?_
            refine zr_istore (ls2 := [(0, .ref cx), (1, .ref (kA c0 (rB i))), (2, .int x), (3, .int y), (4, .int up), (5, .int (a + (kP c5 j 3))), (6, .int (imax 0 (kLower c5 j))), (7, .int (imin l (kUpper c j))), (8, .ref it), (9, .ref (kA c0 (rB j))), (10, .int a), (11, .int 0)]) dX7_flow_224 (Nat.le_of_ble_eq_true rfl) rfl ?_
            refine zr_iload dX7_flow_226 rfl ?_
            refine zr_if_eq (tgt := 236) dX7_flow_228 (by decide) (fun _ => ?_) (fun h9 => absurd (rfl) h9)
            refine zr_iconst (v := 0) dX7_flow_236 (by decide) ?_
            refine zr_aload dX7_flow_237 rfl ?_
            refine zr_call1 (rest := [.int 0]) (zs_V (As := []) (by omega) ok_X2_lower q1581 q1236 q1237 q57 q1238 rfl hbj5 rfl rfl rfl (Nat.le_of_ble_eq_true rfl) dX7_flow_239) (zC.at1 (hE05.b j) (c_X2_lower (by omega) hS5 (hE05.nn hj))) ?_
            refine zr_min (by omega) q1394 q431 q60 q432 (Nat.le_of_ble_eq_true rfl) dX7_flow_242 ?_
            refine zr_istore (ls2 := [(0, .ref cx), (1, .ref (kA c0 (rB i))), (2, .int x), (3, .int y), (4, .int up), (5, .int (a + (kP c5 j 3))), (6, .int (imax 0 (kLower c5 j))), (7, .int (imin 0 (kLower c5 j))), (8, .ref it), (9, .ref (kA c0 (rB j))), (10, .int a), (11, .int 0)]) dX7_flow_245 (Nat.le_of_ble_eq_true rfl) rfl ?_
            refine zr_goto (tgt := 29) dX7_flow_247 (by decide) ?_
            refine zr_sub (ls2 := [(0, .ref cx), (1, .ref (kA c0 (rB i))), (2, .int x), (3, .int y), (4, .int up), (5, .int (a + (kP c5 j 3))), (6, .int (imax 0 (kLower c5 j))), (7, .int (imin 0 (kLower c5 j))), (8, .ref it)]) [0, 1, 2, 3, 4, 5, 6, 7, 8] rfl ?_
            rw [if_neg h3, if_neg h3, if_neg h3] at kQ
            exact ih (k + 1) _ _ c5 _ _ _ _ _ σ5 hy2 (by omega) hE05 hX9 (by omega) hY5 hF5 (by omega) hI5 hT5 kQ
          · refine zr_iconst (v := 1) dX7_flow_175 (by decide) ?_
            refine zr_goto (tgt := 180) dX7_flow_176 (by decide) ?_
            refine zr_istore (ls2 := [(0, .ref cx), (1, .ref (kA c0 (rB i))), (2, .int x), (3, .int y), (4, .int up), (5, .int pl), (6, .int (imax g (kUpper c j))), (7, .int (imin l (kUpper c j))), (8, .ref it), (9, .ref (kA c0 (rB j))), (10, .int a), (11, .int 1)]) dX7_flow_180 (Nat.le_of_ble_eq_true rfl) rfl ?_
            refine zr_iload dX7_flow_182 rfl ?_
            refine zr_if_eq (tgt := 192) dX7_flow_184 (by decide) (fun h9 => absurd h9 (by decide)) (fun _ => ?_)
            refine zr_iload dX7_flow_187 rfl ?_
            refine zr_goto (tgt := 203) dX7_flow_189 (by decide) ?_
            refine zr_istore (ls2 := [(0, .ref cx), (1, .ref (kA c0 (rB i))), (2, .int x), (3, .int y), (4, .int up), (5, .int pl), (6, .int (imax g (kUpper c j))), (7, .int (imin l (kUpper c j))), (8, .ref it), (9, .ref (kA c0 (rB j))), (10, .int a), (11, .int 1)]) dX7_flow_203 (Nat.le_of_ble_eq_true rfl) rfl ?_
            refine zr_iload dX7_flow_205 rfl ?_
            refine zr_if_eq (tgt := 215) dX7_flow_207 (by decide) (fun h9 => absurd h9 (by decide)) (fun _ => ?_)
            refine zr_iload dX7_flow_210 rfl ?_
            refine zr_goto (tgt := 216) dX7_flow_212 (by decide) ?_
            refine zr_aload dX7_flow_216 rfl ?_
            refine zr_call1 (rest := [.int (imax g (kUpper c j))]) (zs_V (As := []) (by omega) ok_X2_lower q1581 q1236 q1237 q57 q1238 rfl hbj5 rfl rfl rfl (Nat.le_of_ble_eq_true rfl) dX7_flow_218) (zC.at1 (hE05.b j) (c_X2_lower (by omega) hS5 (hE05.nn hj))) ?_
            refine zr_max (by omega) q1393 q376 q60 q377 (Nat.le_of_ble_eq_true rfl) dX7_flow_221 ?_
            refine zr_istore (ls2 := [(0, .ref cx), (1, .ref (kA c0 (rB i))), (2, .int x), (3, .int y), (4, .int up), (5, .int pl), (6, .int (imax (imax g (kUpper c j)) (kLower c5 j))), (7, .int (imin l (kUpper c j))), (8, .ref it), (9, .ref (kA c0 (rB j))), (10, .int a), (11, .int 1)]) dX7_flow_224 (Nat.le_of_ble_eq_true rfl) rfl ?_
            refine zr_iload dX7_flow_226 rfl ?_
            refine zr_if_eq (tgt := 236) dX7_flow_228 (by decide) (fun h9 => absurd h9 (by decide)) (fun _ => ?_)
            refine zr_iload dX7_flow_231 rfl ?_
            refine zr_goto (tgt := 237) dX7_flow_233 (by decide) ?_
            refine zr_aload dX7_flow_237 rfl ?_
            refine zr_call1 (rest := [.int (imin l (kUpper c j))]) (zs_V (As := []) (by omega) ok_X2_lower q1581 q1236 q1237 q57 q1238 rfl hbj5 rfl rfl rfl (Nat.le_of_ble_eq_true rfl) dX7_flow_239) (zC.at1 (hE05.b j) (c_X2_lower (by omega) hS5 (hE05.nn hj))) ?_
            refine zr_min (by omega) q1394 q431 q60 q432 (Nat.le_of_ble_eq_true rfl) dX7_flow_242 ?_
            refine zr_istore (ls2 := [(0, .ref cx), (1, .ref (kA c0 (rB i))), (2, .int x), (3, .int y), (4, .int up), (5, .int pl), (6, .int (imax (imax g (kUpper c j)) (kLower c5 j))), (7, .int (imin (imin l (kUpper c j)) (kLower c5 j))), (8, .ref it), (9, .ref (kA c0 (rB j))), (10, .int a), (11, .int 1)]) dX7_flow_245 (Nat.le_of_ble_eq_true rfl) rfl ?_
            refine zr_goto (tgt := 29) dX7_flow_247 (by decide) ?_
            refine zr_sub (ls2 := [(0, .ref cx), (1, .ref (kA c0 (rB i))), (2, .int x), (3, .int y), (4, .int up), (5, .int pl), (6, .int (imax (imax g (kUpper c j)) (kLower c5 j))), (7, .int (imin (imin l (kUpper c j)) (kLower c5 j))), (8, .ref it)]) [0, 1, 2, 3, 4, 5, 6, 7, 8] rfl ?_
            rw [if_pos h3, if_pos h3, if_pos h3] at kQ
            exact ih (k + 1) _ _ c5 _ _ _ _ _ σ5 hy2 (by omega) hE05 hX9 (by omega) hY5 hF5 (by omega) hI5 hT5 kQ
        refine zr_if_ne (tgt := 137) dX7_flow_126 (by decide) (fun h4 => ?_) (fun h4 => ?_)
        · obtain ⟨_, σ4, ⟨rfl, hX4⟩, hC4⟩ := c_X7_lowest (d := d - 1) (by omega) hG hX2.gd (.new hcx2) hF2
          refine zr_iload dX7_flow_137 rfl ?_
          refine zr_aload_n dX7_flow_139 rfl rfl ?_
          refine zr_call1 (rest := [.int ((pl + (imax g (kUpper c j))) + (imin l (kUpper c j)))]) (zs_V (As := []) (by omega) ok_X7_lowest q1567 q1569 qs26 q91 q1570 rfl (.new hcx2) rfl rfl rfl (Nat.le_of_ble_eq_true rfl) dX7_flow_140) hC4 ?_
          refine zr_max (by omega) q1393 q376 q60 q377 (Nat.le_of_ble_eq_true rfl) dX7_flow_143 ?_
          refine zr_goto (tgt := 151) dX7_flow_146 (by decide) ?_
          exact key _ σ4 (if_pos (Or.inl h4)).symm hX4
        · refine zr_aload dX7_flow_129 rfl ?_
          refine zr_call1 (rest := []) (zs_V (As := []) (by omega) ok_X2_isItems q1566 q1223 q1224 q57 q1225 rfl hbj rfl rfl rfl (Nat.le_of_ble_eq_true rfl) dX7_flow_131) (zC.at1 (hE.b j) (c_X2_isItems (by omega) hS2 (hE.nn hj))) ?_
          refine zr_ifeqB (tgt := 149) dX7_flow_134 (by decide) (fun h5 => ?_) (fun h5 => ?_)
          · refine zr_iload dX7_flow_149 rfl ?_
            exact key _ σ2 (if_neg (fun h => by rcases h with h | h; exact h h4; rw [h5] at h; cases h)).symm (zX.rf _ hX2.gd _)
          · obtain ⟨_, σ4, ⟨rfl, hX4⟩, hC4⟩ := c_X7_lowest (d := d - 1) (by omega) hG hX2.gd (.new hcx2) hF2
            refine zr_iload dX7_flow_137 rfl ?_
            refine zr_aload_n dX7_flow_139 rfl rfl ?_
            refine zr_call1 (rest := [.int ((pl + (imax g (kUpper c j))) + (imin l (kUpper c j)))]) (zs_V (As := []) (by omega) ok_X7_lowest q1567 q1569 qs26 q91 q1570 rfl (.new hcx2) rfl rfl rfl (Nat.le_of_ble_eq_true rfl) dX7_flow_140) hC4 ?_
            refine zr_max (by omega) q1393 q376 q60 q377 (Nat.le_of_ble_eq_true rfl) dX7_flow_143 ?_
            refine zr_goto (tgt := 151) dX7_flow_146 (by decide) ?_
            exact key _ σ4 (if_pos (Or.inr h5)).symm hX4
    · obtain ⟨_, σ3, ⟨c3, rfl, hE3, hz3, hY3, hF3, hX3⟩, hC3⟩ := c_X7_layFloat (x := x) (y := y) (top := pl + g + l) (d := d - 1) (by omega) hG hX2.gd (hE.nn hi) (hE.nn hj) hjf hY2 hcx2 hct2 hF2 (by omega) hLay
      have hC3' := zC.at23 (hE.b j) (hE.b i) hC3
      refine zr_aload_n dX7_flow_59 rfl rfl ?_
      refine zr_aload dX7_flow_60 rfl ?_
      refine zr_aload_n dX7_flow_62 rfl rfl ?_
      refine zr_iload_n dX7_flow_63 rfl rfl ?_
      refine zr_iload_n dX7_flow_64 rfl rfl ?_
      refine zr_iload dX7_flow_65 rfl ?_
      refine zr_iload dX7_flow_67 rfl ?_
      refine zr_iadd dX7_flow_69 ?_
      refine zr_iload dX7_flow_70 rfl ?_
      refine zr_iadd dX7_flow_72 ?_
      refine zr_callv (rest := []) (zs_VX (As := [.ref (kA c0 (rB j)), .ref (kA c0 (rB i)), .int x, .int y, .int ((pl + g) + l)]) (by omega) ok_X7_layFloat q1508 q1510 qs25 q91 q1511 rfl (.new hcx2) rfl rfl rfl (Nat.le_of_ble_eq_true rfl) dX7_flow_73) hC3' ?_
      refine zr_goto (tgt := 247) dX7_flow_76 (by decide) ?_
      refine zr_goto (tgt := 29) dX7_flow_247 (by decide) ?_
      refine zr_sub (ls2 := [(0, .ref cx), (1, .ref (kA c0 (rB i))), (2, .int x), (3, .int y), (4, .int up), (5, .int pl), (6, .int g), (7, .int l), (8, .ref it)]) [0, 1, 2, 3, 4, 5, 6, 7, 8] rfl ?_
      have hI3 := hX3.f hX2.gd hI2 (by rw [hT2]; exact SF_0)
      have hT3 := (hX3.t hX2.gd hI2).trans hT2
      have e9 := fwS_1 (L := L) (Fl := Fl) (pl := pl) (g := g) (l := l) h1 hz3 rfl rfl
      rw [e9] at kQ
      have hLX : LX f c0 j = LB f c0 j + 4 * KW 24 c0 j + 2000 := LX_nl (by rw [← kLift_eq hE]; exact kFloat_nl h1)
      exact ih (k + 1) _ _ c3 _ _ pl g l σ3 hy2 (by omega) (hE.trans hE3) (hX2.trans hX3) (by rw [LB_eq hE, KW_eq hE]; omega) hY3 hF3 (by rw [cFloat_len]; omega) hI3 hT3 kQ
set_option maxHeartbeats 4000000 in
theorem c_X7_flow {G : zG} {σ : zT} {d f i cx ly fa p : Nat} {c : zCS} {n x y : Int32} {L : LayT} {Fl : FlT} {chk : Bool} {fs : List F5} (hNx : zNext G) (hd : 90 ≤ d) (hG : zOk G) (hw : zGd G σ) (hi : i < kN c) (hf : kN c ≤ f + 1 + i) (hY : LY G σ c ly chk n) (hcx0 : sF σ cx = some (.inr (7, [.ref ly, .ref fa, .ref p]))) (hct : sT σ cx = 0) (hF : FlS G σ fa fs) (h24 : fs.length + FC (f + 1) c i ≤ 24) (hLay : ∀ (σ : zT) (c : zCS) (n : Int32) (j : Nat) (wd : Int32), zGd G σ → LY G σ c ly chk n → j < kN c → kN c ≤ f + j → zCall G I_X6_lay (d - 1 - 1) [.ref ly, .ref (kA c (rB j)), .int wd] σ (fun o σ' => ∃ c', o = .inl none ∧ KEq c c' ∧ kZ c' = (L (kZ c, n) j wd).1 ∧ LY G σ' c' ly chk (L (kZ c, n) j wd).2 ∧ zX G SC σ σ' (LB f c j))) (hFlow : ∀ (σ : zT) (c : zCS) (n : Int32) (fs : List F5) (j : Nat) (x y : Int32), zGd G σ → LY G σ c ly chk n → sF σ cx = some (.inr (7, [.ref ly, .ref fa, .ref p])) → sT σ cx = 0 → FlS G σ fa fs → j < kN c → kN c ≤ f + j → fs.length + FC f c j ≤ 24 → zCall G I_X7_flow (d - 1 - 1) [.ref cx, .ref (kA c (rB j)), .int x, .int y] σ (fun o σ' => ∃ c', o = .inl none ∧ KEq c c' ∧ kZ c' = (Fl (kZ c, n) fs j x y).1.1 ∧ LY G σ' c' ly chk (Fl (kZ c, n) fs j x y).1.2 ∧ FlS G σ' fa (Fl (kZ c, n) fs j x y).2 ∧ (Fl (kZ c, n) fs j x y).2.length ≤ fs.length + FC f c j ∧ zX G (SF fa) σ σ' (LB f c j))) : zCall G I_X7_flow d [.ref cx, .ref (kA c (rB i)), .int x, .int y] σ ((fun o σ' => ∃ c', o = .inl none ∧ KEq c c' ∧ kZ c' = (cFlow L Fl (kZ c, n) fs i x y).1.1 ∧ LY G σ' c' ly chk (cFlow L Fl (kZ c, n) fs i x y).1.2 ∧ FlS G σ' fa (cFlow L Fl (kZ c, n) fs i x y).2 ∧ (cFlow L Fl (kZ c, n) fs i x y).2.length ≤ fs.length + FC (f + 1) c i ∧ zX G (SF fa) σ σ' (100 + LBS f c i))) := by
  refine zCall_of (ls := [(0, .ref cx), (1, .ref (kA c (rB i))), (2, .int x), (3, .int y)]) (by decide) (Nat.le_of_ble_eq_true rfl) rfl ?_
  have hS := hY.1
  have hL1 := hS.chL hi
  obtain ⟨fl, hfl⟩ := hL1.A
  refine zr_iload_n dX7_flow_0 rfl rfl ?_
  refine zr_aload_n dX7_flow_1 rfl rfl ?_
  refine zr_getN (k := 12) (v := .int (kF c i 12)) in_X2 (hS.bx hi) rfl (Nat.le_of_ble_eq_true rfl) q258 (.inl rfl) rfl dX7_flow_2 ?_
  refine zr_iadd dX7_flow_5 ?_
  refine zr_istore (ls2 := [(0, .ref cx), (1, .ref (kA c (rB i))), (2, .int x), (3, .int y), (4, .int (y + (kF c i 12)))]) dX7_flow_6 (Nat.le_of_ble_eq_true rfl) rfl ?_
  refine zr_iload dX7_flow_8 rfl ?_
  refine zr_istore (ls2 := [(0, .ref cx), (1, .ref (kA c (rB i))), (2, .int x), (3, .int y), (4, .int (y + (kF c i 12))), (5, .int (y + (kF c i 12)))]) dX7_flow_10 (Nat.le_of_ble_eq_true rfl) rfl ?_
  refine zr_iconst (v := 0) dX7_flow_12 (by decide) ?_
  refine zr_istore (ls2 := [(0, .ref cx), (1, .ref (kA c (rB i))), (2, .int x), (3, .int y), (4, .int (y + (kF c i 12))), (5, .int (y + (kF c i 12))), (6, .int 0)]) dX7_flow_13 (Nat.le_of_ble_eq_true rfl) rfl ?_
  refine zr_iconst (v := 0) dX7_flow_15 (by decide) ?_
  refine zr_istore (ls2 := [(0, .ref cx), (1, .ref (kA c (rB i))), (2, .int x), (3, .int y), (4, .int (y + (kF c i 12))), (5, .int (y + (kF c i 12))), (6, .int 0), (7, .int 0)]) dX7_flow_16 (Nat.le_of_ble_eq_true rfl) rfl ?_
  refine zr_aload_n dX7_flow_18 rfl rfl ?_
  refine zr_getN (k := 4) (v := .ref (kA c (rC i))) in_X2 (hS.bx hi) rfl (Nat.le_of_ble_eq_true rfl) q237 (.inl rfl) rfl dX7_flow_19 ?_
  refine zr_call51 (rest := []) (zs_F (As := []) (by omega) okF_J2_iterator (by decide +kernel) q1366 q832 q834 q56 q836 hfl rfl rfl rfl (Nat.le_of_ble_eq_true rfl) dX7_flow_22) (c_J2_iterator (by omega) hw.1 hL1) ?_
  have hXi := zX.new S0 hw 0 (by omega) (.inr (21, [.int 0, .int (-1), .int (kM c (rC i)), .ref (kA c (rC i))])) 4
  have hYi := hY.keep0 hw hXi
  have hFi := hF.keep0 hw hXi
  have hIi := sF_newS σ 0 (.inr (21, [.int 0, .int (-1), .int (kM c (rC i)), .ref (kA c (rC i))])) 4
  have hTi := sT_newS σ 0 (.inr (21, [.int 0, .int (-1), .int (kM c (rC i)), .ref (kA c (rC i))])) 4
  generalize hσi : sNew σ 0 (.inr (21, [.int 0, .int (-1), .int (kM c (rC i)), .ref (kA c (rC i))])) 4 = σi at hXi hYi hFi hIi hTi ⊢
  refine zr_astore (ls2 := [(0, .ref cx), (1, .ref (kA c (rB i))), (2, .int x), (3, .int y), (4, .int (y + (kF c i 12))), (5, .int (y + (kF c i 12))), (6, .int 0), (7, .int 0), (8, .ref (sZ σ))]) dX7_flow_27 (Nat.le_of_ble_eq_true rfl) rfl ?_
  refine l_X7_flow (N := 8 + LBS f c i) hNx (by omega) hG hw hi (fun j hj => hS.ch hi hj) hf hcx0 hct (Nat.le_refl _) h24 hLay hFlow (kCh c i) 0 8 (-1) c n fs (y + kF c i 12) 0 0 σi rfl (Nat.zero_le _) (KEq.rf c) (hXi.mono (fun _ h => absurd h (fun h => h))) (Nat.le_refl _) hYi hFi (Nat.le_refl _) hIi hTi (fun σ2 c2 r hr hE2 hX2 hz2 hY2 hF2 hl2 => ?_)
  have hr' : r = cFlowA L Fl (kZ c, n) fs i x y := hr
  have hcx2 := hX2.f hw hcx0 (by rw [hct]; exact SF_0)
  obtain ⟨_, σ3, ⟨rfl, hY3, hX3⟩, hC3⟩ := c_X6_setHeight (d := d - 1) (v := imax 0 (r.2.1 + r.2.2.1 + r.2.2.2 - (y + kF c i 12))) (by omega) hX2.gd hY2 (hE2.nn hi)
  have hC3' := zC.at2 (hE2.b i) hC3
  have hF3 := hF2.keepC hX2.gd hX3
  have hXt := hX2.trans (hX3.mono (S2 := SF fa) (fun _ h => Or.inl h))
  have e9 : cFlow L Fl (kZ c, n) fs i x y = ((kZ (cSH c2 i (imax 0 (r.2.1 + r.2.2.1 + r.2.2.2 - (y + kF c i 12)))), r.1.1.2), r.1.2) := by
    unfold cFlow
    rw [← hr', show kF (kZ c, n).1 i 12 = kF c i 12 from rfl, ← hz2]
    rfl
  rw [e9]
  refine zr_aload_n dX7_flow_250 rfl rfl ?_
  refine zr_get (k := 0) (v := .ref ly) in_X7 (.new hcx2) rfl (Nat.le_of_ble_eq_true rfl) q1328 (.inl rfl) rfl dX7_flow_251 ?_
  refine zr_aload_n dX7_flow_254 rfl rfl ?_
  refine zr_iconst (v := 0) dX7_flow_255 (by decide) ?_
  refine zr_iload dX7_flow_256 rfl ?_
  refine zr_iload dX7_flow_258 rfl ?_
  refine zr_iadd dX7_flow_260 ?_
  refine zr_iload dX7_flow_261 rfl ?_
  refine zr_iadd dX7_flow_263 ?_
  refine zr_iload dX7_flow_264 rfl ?_
  refine zr_isub dX7_flow_266 ?_
  refine zr_max (by omega) q1393 q376 q60 q377 (Nat.le_of_ble_eq_true rfl) dX7_flow_267 ?_
  refine zr_callv (rest := []) (zs_VN (As := [.ref (kA c (rB i)), .int (imax 0 (((r.2.1 + r.2.2.1) + r.2.2.2) - (y + kF c i 12)))]) (by omega) ok_X6_setHeight q1501 q1246 qs18 q83 q1247 hY2.lf rfl rfl rfl (Nat.le_of_ble_eq_true rfl) dX7_flow_270) hC3' ?_
  exact zr_vret rfl dX7_flow_273 (⟨_, rfl, hE2.trans (KEq.SH _ _ _), rfl, hY3, hF3, hl2, hXt.le (by omega)⟩)
