/-! ===== the context: its constructor, layFloat (rows printed by tools/p65.py) ===== -/
def flGo (fs : List F5) (h left right w : Int32) : Nat → Int32 → Int32 × Int32 × Int32 × Int32
  | 0, a => (a, cEd fs a h left right)
  | f + 1, a => if (cEd fs a h left right).2.1 - (cEd fs a h left right).1 < w ∧ (cEd fs a h left right).2.2 < 2147483647 then flGo fs h left right w f (cEd fs a h left right).2.2 else (a, cEd fs a h left right)
/-- what a context may change -/
abbrev SF (fa : Nat) : Nat → Prop := fun s => SC s ∨ s = dT fa ∨ s = dT fa + 1
set_option maxHeartbeats 4000000 in
theorem l_X7_float {G : zG} {σ : zT} {d : Nat} {c0 c : zCS} {i j cx ly fa p N : Nat} {x y top wd ht lf : Int32} {fs : List F5} {Q : zO → zT → Prop} (hd : 12 ≤ d) (hG : zOk G) (hw : zGd G σ) (hS : CSys G σ c) (hE : KEq c0 c) (hi : i < kN c0) (hcx : zAt G σ cx (.inr (7, [.ref ly, .ref fa, .ref p]))) (hF : FlS G σ fa fs) : ∀ (f : Nat) (a : Int32) (m : Nat) (σ1 : zT), nAb fs a < f → zX G S0 σ σ1 m → m + 40 * f ≤ N → (∀ σ2 q, zX G S0 σ σ2 N → zAt G σ2 q (.inr (9, [.int (flGo fs (imax 1 ht) lf (lf + kInner c i) wd f a).2.1, .int (flGo fs (imax 1 ht) lf (lf + kInner c i) wd f a).2.2.1])) → zR G yX7_layFloat cX7_layFloat 12 (Option.none : Option Jvm.ClassFile.FieldType) [(115, 140, 143, 168)] d 155 [(0, .ref cx), (1, .ref (kA c0 (rB j))), (2, .ref (kA c0 (rB i))), (3, .int x), (4, .int y), (5, .int top), (6, .int wd), (7, .int ht), (8, .int lf), (9, .int (flGo fs (imax 1 ht) lf (lf + kInner c i) wd f a).1), (10, .ref q)] [] σ2 Q) → zR G yX7_layFloat cX7_layFloat 12 (Option.none : Option Jvm.ClassFile.FieldType) [(115, 140, 143, 168)] d 110 [(0, .ref cx), (1, .ref (kA c0 (rB j))), (2, .ref (kA c0 (rB i))), (3, .int x), (4, .int y), (5, .int top), (6, .int wd), (7, .int ht), (8, .int lf), (9, .int a), (10, .null)] [] σ1 Q := by
  intro f
  induction f with
  | zero => intro a m σ1 h; omega
  | succ f ih =>
    intro a m σ1 hf hX hN kQ
    have hS1 := hS.keep0 hw hX
    have hF1 := hF.keep0 hw hX
    have hcx1 := hX.at hw hcx (fun h => h)
    have hbi : zAt G σ1 (kA c0 (rB i)) (.inr (2, kBx c i)) := hE.b i ▸ hS1.bx (hE.nn hi)
    refine zr_aloadR (x := none) dX7_layFloat_110 rfl ?_
    refine zr_ifnonnullN dX7_layFloat_112 ?_
    refine zr_aload_n dX7_layFloat_115 rfl rfl ?_
    refine zr_iload dX7_layFloat_116 rfl ?_
    refine zr_iconst (v := 1) dX7_layFloat_118 (by decide) ?_
    refine zr_iload dX7_layFloat_119 rfl ?_
    refine zr_max (by omega) q1393 q376 q60 q377 (Nat.le_of_ble_eq_true rfl) dX7_layFloat_121 ?_
    refine zr_iload dX7_layFloat_124 rfl ?_
    refine zr_iload dX7_layFloat_126 rfl ?_
    refine zr_aload_n dX7_layFloat_128 rfl rfl ?_
    refine zr_call1 (rest := [.int lf, .int lf, .int (imax 1 ht), .int a, .ref cx]) (zs_V (As := []) (by omega) ok_X2_inner q1355 q1135 q1136 q57 q1137 rfl hbi rfl rfl rfl (Nat.le_of_ble_eq_true rfl) dX7_layFloat_129) (zC.at1 (hE.b i) (c_X2_inner (by omega) hS1 (hE.nn hi))) ?_
    refine zr_iadd dX7_layFloat_132 ?_
    refine zr_iload dX7_layFloat_133 rfl ?_
    obtain ⟨o1, σ2, ⟨hX1, hQ1⟩, hC⟩ := c_X7_edges (top := a) (h := imax 1 ht) (left := lf) (right := lf + kInner c i) (need := wd) (d := d - 1) (by omega) hG hX.gd hcx1 hF1
    have hX2 := hX.trans hX1
    by_cases hc : (cEd fs a (imax 1 ht) lf (lf + kInner c i)).2.1 - (cEd fs a (imax 1 ht) lf (lf + kInner c i)).1 < wd ∧ (cEd fs a (imax 1 ht) lf (lf + kInner c i)).2.2 < 2147483647
    · rw [if_pos hc] at hQ1
      obtain ⟨q, rfl, hq, hqz⟩ := hQ1
      refine zr_callX (rest := []) (zs_V (As := [.int a, .int (imax 1 ht), .int lf, .int (lf + (kInner c i)), .int wd]) (by omega) ok_X7_edges q1360 q1362 qs23 q91 q1363 rfl hcx1 rfl rfl rfl (Nat.le_of_ble_eq_true rfl) dX7_layFloat_135) hC ?_
      refine zx_catch [] _ [] rfl (fun _ h => by cases h) (by decide) (by decide) rfl q1354 q1397 ?_
      refine zr_astore (ls2 := [(0, .ref cx), (1, .ref (kA c0 (rB j))), (2, .ref (kA c0 (rB i))), (3, .int x), (4, .int y), (5, .int top), (6, .int wd), (7, .int ht), (8, .int lf), (9, .int a), (10, .null), (11, .ref q)]) dX7_layFloat_143 (Nat.le_of_ble_eq_true rfl) rfl ?_
      refine zr_aload dX7_layFloat_145 rfl ?_
      refine zr_getN (k := 6) (v := .int (cEd fs a (imax 1 ht) lf (lf + kInner c i)).2.2) in_X8 hq rfl (Nat.le_of_ble_eq_true rfl) q1416 (.inl rfl) rfl dX7_layFloat_147 ?_
      refine zr_istore (ls2 := [(0, .ref cx), (1, .ref (kA c0 (rB j))), (2, .ref (kA c0 (rB i))), (3, .int x), (4, .int y), (5, .int top), (6, .int wd), (7, .int ht), (8, .int lf), (9, .int (cEd fs a (imax 1 ht) lf (lf + kInner c i)).2.2), (10, .null), (11, .ref q)]) dX7_layFloat_150 (Nat.le_of_ble_eq_true rfl) rfl ?_
      refine zr_goto (tgt := 110) dX7_layFloat_152 (by decide) ?_
      refine zr_sub (ls2 := [(0, .ref cx), (1, .ref (kA c0 (rB j))), (2, .ref (kA c0 (rB i))), (3, .int x), (4, .int y), (5, .int top), (6, .int wd), (7, .int ht), (8, .int lf), (9, .int (cEd fs a (imax 1 ht) lf (lf + kInner c i)).2.2), (10, .null)]) [0, 1, 2, 3, 4, 5, 6, 7, 8, 9, 10] rfl ?_
      refine ih _ _ σ2 ?_ hX2 (by omega) (fun σ3 q3 e1 e2 => ?_)
      · have := ed_less hc.2
        omega
      · have e9 : flGo fs (imax 1 ht) lf (lf + kInner c i) wd (f + 1) a = flGo fs (imax 1 ht) lf (lf + kInner c i) wd f (cEd fs a (imax 1 ht) lf (lf + kInner c i)).2.2 := if_pos hc
        have k9 := kQ σ3 q3 e1
        rw [e9] at k9
        exact k9 e2
    · rw [if_neg hc] at hQ1
      obtain ⟨q, rfl, hq, hqz⟩ := hQ1
      refine zr_call1 (rest := []) (zs_V (As := [.int a, .int (imax 1 ht), .int lf, .int (lf + (kInner c i)), .int wd]) (by omega) ok_X7_edges q1360 q1362 qs23 q91 q1363 rfl hcx1 rfl rfl rfl (Nat.le_of_ble_eq_true rfl) dX7_layFloat_135) hC ?_
      refine zr_astore (ls2 := [(0, .ref cx), (1, .ref (kA c0 (rB j))), (2, .ref (kA c0 (rB i))), (3, .int x), (4, .int y), (5, .int top), (6, .int wd), (7, .int ht), (8, .int lf), (9, .int a), (10, .ref q)]) dX7_layFloat_138 (Nat.le_of_ble_eq_true rfl) rfl ?_
      refine zr_goto (tgt := 110) dX7_layFloat_140 (by decide) ?_
      refine zr_aload dX7_layFloat_110 rfl ?_
      refine zr_ifnonnull (tgt := 155) dX7_layFloat_112 (by decide) ?_
      have e9 : flGo fs (imax 1 ht) lf (lf + kInner c i) wd (f + 1) a = (a, (cEd fs a (imax 1 ht) lf (lf + kInner c i))) := if_neg hc
      have k9 := kQ σ2 q (hX2.le (by omega))
      rw [e9] at k9
      exact k9 hq
theorem cFit_Z (c : zCS) : cFit (kZ c) = cFit c := by
  funext j w
  unfold cFit
  rw [cW_Z]
  rfl
def flAt (fs : List F5) (top : Int32) : Int32 := match fs[fs.length - 1]? with
  | none => top
  | some z => imax top z.2.1
def flG (c : zCS) (fs : List F5) (j i : Nat) (x top : Int32) : Int32 × Int32 × Int32 × Int32 := flGo fs (imax 1 (kP c j 3 + kEnds c j)) (x + kF c i 12) (x + kF c i 12 + kInner c i) (kP c j 2 + kSides c j) 25 (flAt fs top)
def flFrom (c : zCS) (fs : List F5) (j i : Nat) (x top : Int32) : Int32 := if kF c j 16 = 108 then (flG c fs j i x top).2.1 else (flG c fs j i x top).2.2.1 - (kP c j 2 + kSides c j)
def cFloat2 (c : zCS) (n : Int32) (fs : List F5) (j i : Nat) (x y top : Int32) : (zCS × Int32) × List F5 :=
  ((cPut c j (flFrom c fs j i x top - x) ((flG c fs j i x top).1 - y), n), fs ++ [(flFrom c fs j i x top, (flG c fs j i x top).1, kP c j 2 + kSides c j, kP c j 3 + kEnds c j, kF c j 16)])
def cFloat (L : LayT) (s : zCS × Int32) (fs : List F5) (j i : Nat) (x y top : Int32) : (zCS × Int32) × List F5 :=
  cFloat2 (L s j (cFit s.1 j (kInner s.1 i - kSides s.1 j))).1 (L s j (cFit s.1 j (kInner s.1 i - kSides s.1 j))).2 fs j i x y top
theorem FlS.add {G : zG} {σ σ1 : zT} {fa q m : Nat} {mod : Int32} {xs : List Nat} {fs : List F5} {z : F5} (hw : zGd G σ) (hlen : xs.length = fs.length) (h24 : fs.length < 24) (hfs : ∀ (j q : Nat) (z : F5), xs[j]? = some q → fs[j]? = some z → sF σ q = some (.inr (12, fV z)) ∧ sT σ q = 0 ∧ (z.2.2.2.2 = 110 ∨ z.2.2.2.2 = 108 ∨ z.2.2.2.2 = 114))
    (hq : sF σ q = some (.inr (12, fV z))) (hqt : sT σ q = 0) (hz : z.2.2.2.2 = 110 ∨ z.2.2.2.2 = 108 ∨ z.2.2.2.2 = 114) (hX : zX G (fun s => s = dT fa ∨ s = dT fa + 1) σ σ1 m) (hL : zL G σ1 (dT fa) fa mod (xs ++ [q])) : FlS G σ1 fa (fs ++ [z]) := by
  have h0 : ∀ s, s = 0 → ¬ (s = dT fa ∨ s = dT fa + 1) := by intro s h; unfold dT; omega
  refine ⟨mod, xs ++ [q], hL, by rw [List.length_append, List.length_append, hlen]; rfl, by rw [List.length_append]; show fs.length + 1 ≤ 24; omega, fun j q' z' e1 e2 => ?_⟩
  by_cases hj : j < xs.length
  · rw [List.getElem?_append_left hj] at e1
    rw [List.getElem?_append_left (by omega)] at e2
    obtain ⟨m1, m2, m3⟩ := hfs j q' z' e1 e2
    exact ⟨hX.f hw m1 (h0 _ m2), (hX.t hw m1).trans m2, m3⟩
  · rw [List.getElem?_append_right (by omega)] at e1 e2
    have hz0 : j - xs.length = 0 := by
      have := (List.getElem?_eq_some_iff.mp e1).1
      rw [List.length_singleton] at this
      omega
    rw [hz0] at e1
    rw [← hlen, hz0] at e2
    cases e1
    cases e2
    exact ⟨hX.f hw hq (h0 _ hqt), (hX.t hw hq).trans hqt, hz⟩
set_option maxHeartbeats 4000000 in
theorem c_X7_init {G : zG} {σ : zT} {d cx ly p : Nat} (hd : 5 ≤ d) (hG : zOk G) (hx : sF σ cx = some (.inr (7, d0_X7))) (hlt : cx ≠ sZ σ) : zC G I_X7_init d [.ref cx, .ref p, .ref ly] σ (.inl none) (sUp (sUp (sNew (sUp σ cx (.inr (7, [.null, .null, .ref p]))) (dT (sZ σ)) (.inr (20, d0_J2)) 3) (sZ σ) (.inr (20, [.int 0, .ref (zc G 0), .int 0]))) cx (.inr (7, [.ref ly, .ref (sZ σ), .ref p]))) := by
  refine zCall.exact (zCall_of (ls := [(0, .ref cx), (1, .ref p), (2, .ref ly)]) (by decide) (Nat.le_of_ble_eq_true rfl) rfl ?_)
  refine zr_aload_n dX7_init_0 rfl rfl ?_
  refine zr_aload_n dX7_init_1 rfl rfl ?_
  refine zr_putF rfl rfl (k := 2) (fs' := [.null, .null, .ref p]) zt_X7 hx rfl (Nat.le_of_ble_eq_true rfl) q1330 (.inl rfl) rfl rfl rfl (Nat.le_of_ble_eq_true rfl) rfl dX7_init_2 ?_
  refine zr_aload_n dX7_init_5 rfl rfl ?_
  refine zr_objInit (by omega) q1325 q112 q113 (Nat.le_of_ble_eq_true rfl) dX7_init_6 ?_
  refine zr_aload_n dX7_init_9 rfl rfl ?_
  refine zr_new (ci := 20) (dT (sZ σ)) zt_J2 q1326 q115 q56 rfl df_J2 dX7_init_10 ?_
  refine zr_dup dX7_init_13 rfl ?_
  refine zr_callv (rest := [.ref (sZ σ), .ref cx]) (zs_I (As := []) (by omega) ok_J2_init q1327 q117 q56 q118 rfl rfl rfl (Nat.le_of_ble_eq_true rfl) dX7_init_14) (c_J2_init (by omega) hG (sF_newS (sUp σ cx (.inr (7, [.null, .null, .ref p]))) _ _ _)) ?_
  have hx2 : sF (sUp (sNew (sUp σ cx (.inr (7, [.null, .null, .ref p]))) (dT (sZ σ)) (.inr (20, d0_J2)) 3) (sZ σ) (.inr (20, [.int 0, .ref (zc G 0), .int 0]))) cx = some (.inr (7, [.null, .null, .ref p])) := by rw [sF_upN _ _ _ hlt]; exact (sF_newN (sUp σ cx (.inr (7, [.null, .null, .ref p]))) _ _ _ hlt).trans (sF_upS _ _ _)
  refine zr_putF rfl rfl (k := 1) (fs' := [.null, .ref (sZ σ), .ref p]) zt_X7 hx2 rfl (Nat.le_of_ble_eq_true rfl) q1329 (.inl rfl) rfl rfl rfl (Nat.le_of_ble_eq_true rfl) rfl dX7_init_17 ?_
  refine zr_aload_n dX7_init_20 rfl rfl ?_
  refine zr_aload_n dX7_init_21 rfl rfl ?_
  refine zr_putF rfl rfl (k := 0) (fs' := [.ref ly, .ref (sZ σ), .ref p]) zt_X7 (sF_upS _ _ _) rfl (Nat.le_of_ble_eq_true rfl) q1328 (.inl rfl) rfl rfl rfl (Nat.le_of_ble_eq_true rfl) rfl dX7_init_22 ?_
  rw [sUp_sUp]
  exact zr_vret rfl dX7_init_25 (⟨rfl, rfl⟩)
set_option maxHeartbeats 4000000 in
theorem c_X7_layFloat {G : zG} {σ : zT} {d f i j cx ly fa p : Nat} {c : zCS} {n x y top : Int32} {L : LayT} {chk : Bool} {fs : List F5} (hd : 88 ≤ d) (hG : zOk G) (hw : zGd G σ) (hi : i < kN c) (hj : j < kN c) (hf : kN c ≤ f + j) (hY : LY G σ c ly chk n) (hcx0 : sF σ cx = some (.inr (7, [.ref ly, .ref fa, .ref p]))) (hct : sT σ cx = 0) (hF : FlS G σ fa fs) (h24 : fs.length < 24) (hLay : ∀ (σ : zT) (c : zCS) (n : Int32) (j : Nat) (wd : Int32), zGd G σ → LY G σ c ly chk n → j < kN c → kN c ≤ f + j → zCall G I_X6_lay (d - 1) [.ref ly, .ref (kA c (rB j)), .int wd] σ (fun o σ' => ∃ c', o = .inl none ∧ KEq c c' ∧ kZ c' = (L (kZ c, n) j wd).1 ∧ LY G σ' c' ly chk (L (kZ c, n) j wd).2 ∧ zX G SC σ σ' (LB f c j))) : zCall G I_X7_layFloat d [.ref cx, .ref (kA c (rB j)), .ref (kA c (rB i)), .int x, .int y, .int top] σ ((fun o σ' => ∃ c', o = .inl none ∧ KEq c c' ∧ kZ c' = (cFloat L (kZ c, n) fs j i x y top).1.1 ∧ LY G σ' c' ly chk (cFloat L (kZ c, n) fs j i x y top).1.2 ∧ FlS G σ' fa (cFloat L (kZ c, n) fs j i x y top).2 ∧ zX G (SF fa) σ σ' (LB f c j + 2 * KW 24 c j + 1500))) := by
  refine zCall_ofH (ls := [(0, .ref cx), (1, .ref (kA c (rB j))), (2, .ref (kA c (rB i))), (3, .int x), (4, .int y), (5, .int top)]) (by decide) (Nat.le_of_ble_eq_true rfl) rfl ?_
  have hS := hY.1
  have hcx : zAt G σ cx (.inr (7, [.ref ly, .ref fa, .ref p])) := .new hcx0
  obtain ⟨_, σ1, ⟨rfl, hX1⟩, hC1⟩ := c_X1_fitting (wd := kInner c i - kSides c j) (d := d - 1) (by omega) hG hw hS hj
  have hY1 := hY.keep0 hw hX1
  obtain ⟨_, σ2, ⟨c2, rfl, hE2, hz2, hY2, hX2⟩, hC2⟩ := hLay σ1 c n j (cFit c j (kInner c i - kSides c j)) hX1.gd hY1 hj hf
  have hX12 := (hX1.mono (S2 := SC) (fun _ h => absurd h (fun h => h))).trans hX2
  have hF2 := hF.keepC hw hX12
  have hcx2 := hX12.f hw hcx0 (by rw [hct]; exact SC_0)
  have hct2 := (hX12.t hw hcx0).trans hct
  have hS2 := hY2.1
  have hbi2 : zAt G σ2 (kA c (rB i)) (.inr (2, kBx c2 i)) := hE2.b i ▸ hS2.bx (hE2.nn hi)
  have hbj2 : zAt G σ2 (kA c (rB j)) (.inr (2, kBx c2 j)) := hE2.b j ▸ hS2.bx (hE2.nn hj)
  have hpj2 : zAt G σ2 (kA c2 (rP j)) (.inr (3, kPl c2 j)) := hS2.pl (hE2.nn hj)
  have hFk := hF2
  obtain ⟨mod, xs, hLf, hlen, h24', hfs⟩ := hF2
  obtain ⟨fl, hfl⟩ := hLf.A
  refine zr_aload_n dX7_layFloat_0 rfl rfl ?_
  refine zr_get (k := 0) (v := .ref ly) in_X7 hcx rfl (Nat.le_of_ble_eq_true rfl) q1328 (.inl rfl) rfl dX7_layFloat_1 ?_
  refine zr_aload_n dX7_layFloat_4 rfl rfl ?_
  refine zr_aload_n dX7_layFloat_5 rfl rfl ?_
  refine zr_aload_n dX7_layFloat_6 rfl rfl ?_
  refine zr_call1 (rest := [.ref (kA c (rB j)), .ref (kA c (rB j)), .ref ly]) (zs_V (As := []) (by omega) ok_X2_inner q1355 q1135 q1136 q57 q1137 rfl (hS.bx hi) rfl rfl rfl (Nat.le_of_ble_eq_true rfl) dX7_layFloat_7) (c_X2_inner (by omega) hS hi) ?_
  refine zr_aload_n dX7_layFloat_10 rfl rfl ?_
  refine zr_call1 (rest := [.int (kInner c i), .ref (kA c (rB j)), .ref (kA c (rB j)), .ref ly]) (zs_V (As := []) (by omega) ok_X2_sides q1512 q1164 q1165 q57 q1166 rfl (hS.bx hj) rfl rfl rfl (Nat.le_of_ble_eq_true rfl) dX7_layFloat_11) (c_X2_sides (by omega) hS hj) ?_
  refine zr_isub dX7_layFloat_14 ?_
  refine zr_call1 (rest := [.ref (kA c (rB j)), .ref ly]) (zs_SN (As := [.ref (kA c (rB j)), .int ((kInner c i) - (kSides c j))]) (by omega) ok_X1_fitting q1513 q1514 q53 q1515 rfl rfl (Nat.le_of_ble_eq_true rfl) dX7_layFloat_15) hC1 ?_
  refine zr_callv (rest := []) (zs_VN (As := [.ref (kA c (rB j)), .int (cFit c j (kInner c i - kSides c j))]) (by omega) ok_X6_lay q1517 q1115 qs10 q83 q1116 hY1.lf rfl rfl rfl (Nat.le_of_ble_eq_true rfl) dX7_layFloat_18) hC2 ?_
  refine zr_aload_n dX7_layFloat_21 rfl rfl ?_
  refine zr_getN (k := 24) (v := .ref (kA c2 (rP j))) in_X2 hbj2 rfl (Nat.le_of_ble_eq_true rfl) q289 (.inl rfl) rfl dX7_layFloat_22 ?_
  refine zr_getN (k := 2) (v := .int (kP c2 j 2)) in_X3 hpj2 rfl (Nat.le_of_ble_eq_true rfl) q199 (.inl rfl) rfl dX7_layFloat_25 ?_
  refine zr_aload_n dX7_layFloat_28 rfl rfl ?_
  refine zr_call1 (rest := [.int (kP c2 j 2)]) (zs_V (As := []) (by omega) ok_X2_sides q1512 q1164 q1165 q57 q1166 rfl hbj2 rfl rfl rfl (Nat.le_of_ble_eq_true rfl) dX7_layFloat_29) (zC.at1 (hE2.b j) (c_X2_sides (by omega) hS2 (hE2.nn hj))) ?_
  refine zr_iadd dX7_layFloat_32 ?_
  refine zr_istore (ls2 := [(0, .ref cx), (1, .ref (kA c (rB j))), (2, .ref (kA c (rB i))), (3, .int x), (4, .int y), (5, .int top), (6, .int ((kP c2 j 2) + (kSides c2 j)))]) dX7_layFloat_33 (Nat.le_of_ble_eq_true rfl) rfl ?_
  refine zr_aload_n dX7_layFloat_35 rfl rfl ?_
  refine zr_getN (k := 24) (v := .ref (kA c2 (rP j))) in_X2 hbj2 rfl (Nat.le_of_ble_eq_true rfl) q289 (.inl rfl) rfl dX7_layFloat_36 ?_
  refine zr_getN (k := 3) (v := .int (kP c2 j 3)) in_X3 hpj2 rfl (Nat.le_of_ble_eq_true rfl) q203 (.inl rfl) rfl dX7_layFloat_39 ?_
  refine zr_aload_n dX7_layFloat_42 rfl rfl ?_
  refine zr_call1 (rest := [.int (kP c2 j 3)]) (zs_V (As := []) (by omega) ok_X2_ends q1518 q1231 q1232 q57 q1233 rfl hbj2 rfl rfl rfl (Nat.le_of_ble_eq_true rfl) dX7_layFloat_43) (zC.at1 (hE2.b j) (c_X2_ends (by omega) hS2 (hE2.nn hj))) ?_
  refine zr_iadd dX7_layFloat_46 ?_
  refine zr_istore (ls2 := [(0, .ref cx), (1, .ref (kA c (rB j))), (2, .ref (kA c (rB i))), (3, .int x), (4, .int y), (5, .int top), (6, .int ((kP c2 j 2) + (kSides c2 j))), (7, .int ((kP c2 j 3) + (kEnds c2 j)))]) dX7_layFloat_47 (Nat.le_of_ble_eq_true rfl) rfl ?_
  refine zr_iload_n dX7_layFloat_49 rfl rfl ?_
  refine zr_aload_n dX7_layFloat_50 rfl rfl ?_
  refine zr_getN (k := 12) (v := .int (kF c2 i 12)) in_X2 hbi2 rfl (Nat.le_of_ble_eq_true rfl) q258 (.inl rfl) rfl dX7_layFloat_51 ?_
  refine zr_iadd dX7_layFloat_54 ?_
  refine zr_istore (ls2 := [(0, .ref cx), (1, .ref (kA c (rB j))), (2, .ref (kA c (rB i))), (3, .int x), (4, .int y), (5, .int top), (6, .int ((kP c2 j 2) + (kSides c2 j))), (7, .int ((kP c2 j 3) + (kEnds c2 j))), (8, .int (x + (kF c2 i 12)))]) dX7_layFloat_55 (Nat.le_of_ble_eq_true rfl) rfl ?_
  refine zr_aload_n dX7_layFloat_57 rfl rfl ?_
  refine zr_get (k := 1) (v := .ref fa) in_X7 (.new hcx2) rfl (Nat.le_of_ble_eq_true rfl) q1329 (.inl rfl) rfl dX7_layFloat_58 ?_
  refine zr_call51 (rest := []) (zs_F (As := []) (by omega) okF_J2_isEmpty (by decide +kernel) q1520 q1523 q1525 q56 q1527 hfl rfl rfl rfl (Nat.le_of_ble_eq_true rfl) dX7_layFloat_61) (c_J2_isEmpty (by omega) hLf) ?_
  have key : ∀ a, a = flAt fs top → zR G yX7_layFloat cX7_layFloat 12 (Option.none : Option Jvm.ClassFile.FieldType) [(115, 140, 143, 168)] d 105 [(0, .ref cx), (1, .ref (kA c (rB j))), (2, .ref (kA c (rB i))), (3, .int x), (4, .int y), (5, .int top), (6, .int ((kP c2 j 2) + (kSides c2 j))), (7, .int ((kP c2 j 3) + (kEnds c2 j))), (8, .int (x + (kF c2 i 12)))] [.int a] σ2 (fun o σ' => ∃ c', o = .inl none ∧ KEq c c' ∧ kZ c' = (cFloat L (kZ c, n) fs j i x y top).1.1 ∧ LY G σ' c' ly chk (cFloat L (kZ c, n) fs j i x y top).1.2 ∧ FlS G σ' fa (cFloat L (kZ c, n) fs j i x y top).2 ∧ zX G (SF fa) σ σ' (LB f c j + 2 * KW 24 c j + 1500)) := by
    intro a ha
    refine zr_istore (ls2 := [(0, .ref cx), (1, .ref (kA c (rB j))), (2, .ref (kA c (rB i))), (3, .int x), (4, .int y), (5, .int top), (6, .int ((kP c2 j 2) + (kSides c2 j))), (7, .int ((kP c2 j 3) + (kEnds c2 j))), (8, .int (x + (kF c2 i 12))), (9, .int a)]) dX7_layFloat_105 (Nat.le_of_ble_eq_true rfl) rfl ?_
    refine zr_null dX7_layFloat_107 ?_
    refine zr_astoreR (x := none) (ls2 := [(0, .ref cx), (1, .ref (kA c (rB j))), (2, .ref (kA c (rB i))), (3, .int x), (4, .int y), (5, .int top), (6, .int ((kP c2 j 2) + (kSides c2 j))), (7, .int ((kP c2 j 3) + (kEnds c2 j))), (8, .int (x + (kF c2 i 12))), (9, .int a), (10, .null)]) dX7_layFloat_108 (Nat.le_of_ble_eq_true rfl) rfl ?_
    refine l_X7_float (c0 := c) (c := c2) (N := 1000) (by omega) hG hX12.gd hS2 hE2 hi (.new hcx2) hFk 25 a 0 σ2 (by have := nAb_le fs a; omega) (zX.rf _ hX12.gd _) (by omega) (fun σ3 q hX3 hq => ?_)
    have eG : flGo fs (imax 1 (kP c2 j 3 + kEnds c2 j)) (x + kF c2 i 12) ((x + kF c2 i 12) + kInner c2 i) (kP c2 j 2 + kSides c2 j) 25 a = (flG c2 fs j i x top) := by rw [ha]; rfl
    rw [eG] at hq ⊢
    have hcx3 := hX3.f hX12.gd hcx2 (fun h => h)
    have hct3 := (hX3.t hX12.gd hcx2).trans hct2
    have hY3 := hY2.keep0 hX12.gd hX3
    have hS3 := hY3.1
    have hbj3 : zAt G σ3 (kA c (rB j)) (.inr (2, kBx c2 j)) := hE2.b j ▸ hS3.bx (hE2.nn hj)
    have hsd := hS3.sd (hE2.nn hj)
    have hLf3 := hX3.L hX12.gd hLf (fun h => h) (fun h => h)
    have hfs3 : ∀ (j q : Nat) (z : F5), xs[j]? = some q → fs[j]? = some z → sF σ3 q = some (.inr (12, fV z)) ∧ sT σ3 q = 0 ∧ (z.2.2.2.2 = 110 ∨ z.2.2.2.2 = 108 ∨ z.2.2.2.2 = 114) := fun j q z e1 e2 => by
      obtain ⟨m1, m2, m3⟩ := hfs j q z e1 e2
      exact ⟨hX3.f hX12.gd m1 (fun h => h), (hX3.t hX12.gd m1).trans m2, m3⟩
    refine zr_aload_n dX7_layFloat_155 rfl rfl ?_
    refine zr_getN (k := 16) (v := .int (kF c2 j 16)) in_X2 hbj3 rfl (Nat.le_of_ble_eq_true rfl) q270 (.inl rfl) rfl dX7_layFloat_156 ?_
    refine zr_bipush (v := 108) dX7_layFloat_159 (by decide) ?_
    have key2 : ∀ b, b = flFrom c2 fs j i x top → zR G yX7_layFloat cX7_layFloat 12 (Option.none : Option Jvm.ClassFile.FieldType) [(115, 140, 143, 168)] d 180 [(0, .ref cx), (1, .ref (kA c (rB j))), (2, .ref (kA c (rB i))), (3, .int x), (4, .int y), (5, .int top), (6, .int (kP c2 j 2 + kSides c2 j)), (7, .int (kP c2 j 3 + kEnds c2 j)), (8, .int (x + kF c2 i 12)), (9, .int (flG c2 fs j i x top).1), (10, .ref q)] [.int b] σ3 (fun o σ' => ∃ c', o = .inl none ∧ KEq c c' ∧ kZ c' = (cFloat L (kZ c, n) fs j i x y top).1.1 ∧ LY G σ' c' ly chk (cFloat L (kZ c, n) fs j i x y top).1.2 ∧ FlS G σ' fa (cFloat L (kZ c, n) fs j i x y top).2 ∧ zX G (SF fa) σ σ' (LB f c j + 2 * KW 24 c j + 1500)) := by
      intro b hb
      refine zr_istore (ls2 := [(0, .ref cx), (1, .ref (kA c (rB j))), (2, .ref (kA c (rB i))), (3, .int x), (4, .int y), (5, .int top), (6, .int (kP c2 j 2 + kSides c2 j)), (7, .int (kP c2 j 3 + kEnds c2 j)), (8, .int (x + kF c2 i 12)), (9, .int (flG c2 fs j i x top).1), (10, .ref q), (11, .int b)]) dX7_layFloat_180 (Nat.le_of_ble_eq_true rfl) rfl ?_
      refine zr_aload_n dX7_layFloat_182 rfl rfl ?_
      refine zr_get (k := 1) (v := .ref fa) in_X7 (.new hcx3) rfl (Nat.le_of_ble_eq_true rfl) q1329 (.inl rfl) rfl dX7_layFloat_183 ?_
      refine zr_new (ci := 12) (0) zt_X12 q1371 q1542 q97 rfl df_X12 dX7_layFloat_186 ?_
      have hXe := zX.new S0 hX3.gd 0 (by omega) (.inr (12, d0_X12)) 5
      have hY4 := hY3.keep0 hX3.gd hXe
      have hbj4 : zAt G (sNew σ3 0 (.inr (12, d0_X12)) 5) (kA c (rB j)) (.inr (2, kBx c2 j)) := hXe.at hX3.gd hbj3 (fun h => h)
      refine zr_dup dX7_layFloat_189 rfl ?_
      refine zr_iload dX7_layFloat_190 rfl ?_
      refine zr_iload dX7_layFloat_192 rfl ?_
      refine zr_iload dX7_layFloat_194 rfl ?_
      refine zr_iload dX7_layFloat_196 rfl ?_
      refine zr_aload_n dX7_layFloat_198 rfl rfl ?_
      refine zr_getN (k := 16) (v := .int (kF c2 j 16)) in_X2 hbj4 rfl (Nat.le_of_ble_eq_true rfl) q270 (.inl rfl) rfl dX7_layFloat_199 ?_
      refine zr_callv (rest := [.ref (sZ σ3), .ref fa]) (zs_IN (As := [.int b, .int (flG c2 fs j i x top).1, .int (kP c2 j 2 + kSides c2 j), .int (kP c2 j 3 + kEnds c2 j), .int (kF c2 j 16)]) (by omega) ok_X12_init q1543 q1544 q97 q1545 rfl rfl rfl (Nat.le_of_ble_eq_true rfl) dX7_layFloat_202) (c_X12_init (nar_sd hsd) (fit_sd hsd) (by omega) (sF_newS _ _ _ _)) ?_
      have hXu : zX G S0 σ3 (sUp (sNew σ3 0 (.inr (12, d0_X12)) 5) (sZ σ3) (.inr (12, [.int b, .int (flG c2 fs j i x top).1, .int (kP c2 j 2 + kSides c2 j), .int (kP c2 j 3 + kEnds c2 j), .int (kF c2 j 16)]))) (5 + 4) := hXe.upN (sF_newS _ _ _ _) (Nat.le_refl _)
      have hnf : sF (sUp (sNew σ3 0 (.inr (12, d0_X12)) 5) (sZ σ3) (.inr (12, [.int b, .int (flG c2 fs j i x top).1, .int (kP c2 j 2 + kSides c2 j), .int (kP c2 j 3 + kEnds c2 j), .int (kF c2 j 16)]))) (sZ σ3) = some (.inr (12, fV (b, (flG c2 fs j i x top).1, (kP c2 j 2 + kSides c2 j), (kP c2 j 3 + kEnds c2 j), kF c2 j 16))) := sF_upS _ _ _
      have hnt : sT (sUp (sNew σ3 0 (.inr (12, d0_X12)) 5) (sZ σ3) (.inr (12, [.int b, .int (flG c2 fs j i x top).1, .int (kP c2 j 2 + kSides c2 j), .int (kP c2 j 3 + kEnds c2 j), .int (kF c2 j 16)]))) (sZ σ3) = 0 := (show sT (sNew σ3 0 (.inr (12, d0_X12)) 5) (sZ σ3) = 0 from sT_newS _ _ _ _)
      generalize hσ5 : (sUp (sNew σ3 0 (.inr (12, d0_X12)) 5) (sZ σ3) (.inr (12, [.int b, .int (flG c2 fs j i x top).1, .int (kP c2 j 2 + kSides c2 j), .int (kP c2 j 3 + kEnds c2 j), .int (kF c2 j 16)]))) = σ5 at hXu hnf hnt ⊢
      have hLf5 := hXu.L hX3.gd hLf3 (fun h => h) (fun h => h)
      obtain ⟨fl5, hfl5⟩ := hLf5.A
      have hfs5 : ∀ (j q : Nat) (z : F5), xs[j]? = some q → fs[j]? = some z → sF σ5 q = some (.inr (12, fV z)) ∧ sT σ5 q = 0 ∧ (z.2.2.2.2 = 110 ∨ z.2.2.2.2 = 108 ∨ z.2.2.2.2 = 114) := fun j q z e1 e2 => by
        obtain ⟨m1, m2, m3⟩ := hfs3 j q z e1 e2
        exact ⟨hXu.f hX3.gd m1 (fun h => h), (hXu.t hX3.gd m1).trans m2, m3⟩
      have hel0 : ∀ y9, y9 ∈ xs → zEl G σ5 y9 := by
        intro y9 hy9
        obtain ⟨j9, hj9⟩ := List.mem_iff_getElem?.mp hy9
        have hlt : j9 < fs.length := by rw [← hlen]; exact (List.getElem?_eq_some_iff.mp hj9).1
        exact ⟨_, _, _, _, _, .new (hfs5 j9 y9 _ hj9 (List.getElem?_eq_getElem hlt)).1, rfl, q2871⟩
      obtain ⟨_, σ6, ⟨rfl, l6, hX6⟩, hC6⟩ := c_add (d := d - 1) (x := sZ σ3) (by omega) hG hXu.gd hLf5 (by omega) ⟨_, _, _, _, _, .new hnf, rfl, q2871⟩ hel0
      have hF6 := FlS.add hXu.gd hlen h24 hfs5 hnf hnt hsd hX6 l6
      have hX36 : zX G (SF fa) σ3 σ6 (5 + 4 + (14 + 2 * xs.length)) := (hXu.mono (S2 := SF fa) (fun _ h => absurd h (fun h => h))).trans (hX6.mono (fun _ h => Or.inr h))
      have hY6 := (hY3.keep0 hX3.gd hXu).keep hXu.gd hX6 (fun s h1 h2 h3 => by unfold dT at h3; omega)
      have hcx6 := hX6.f hXu.gd (hXu.f hX3.gd hcx3 (fun h => h)) (by rw [hXu.t hX3.gd hcx3, hct3]; unfold dT; omega)
      have hS6 := hY6.1
      refine zr_call51 (rest := []) (zs_F (As := [.ref (sZ σ3)]) (by omega) okF_J2_add (by decide +kernel) q1489 q355 q357 q56 q359 hfl5 rfl rfl rfl (Nat.le_of_ble_eq_true rfl) dX7_layFloat_205) hC6 ?_
      refine zr_pop dX7_layFloat_210 rfl ?_
      refine zr_aload_n dX7_layFloat_211 rfl rfl ?_
      refine zr_get (k := 0) (v := .ref ly) in_X7 (.new hcx6) rfl (Nat.le_of_ble_eq_true rfl) q1328 (.inl rfl) rfl dX7_layFloat_212 ?_
      refine zr_aload_n dX7_layFloat_215 rfl rfl ?_
      refine zr_iload dX7_layFloat_216 rfl ?_
      refine zr_iload_n dX7_layFloat_218 rfl rfl ?_
      refine zr_isub dX7_layFloat_219 ?_
      refine zr_iload dX7_layFloat_220 rfl ?_
      refine zr_iload dX7_layFloat_222 rfl ?_
      refine zr_isub dX7_layFloat_224 ?_
      obtain ⟨_, σ7, ⟨rfl, hY7, hX7⟩, hC7⟩ := c_X6_put (d := d - 1) (x := b - x) (y := (flG c2 fs j i x top).1 - y) (by omega) hX36.gd hY6 (hE2.nn hj)
      have hC7' := zC.at2 (hE2.b j) hC7
      refine zr_callv (rest := []) (zs_VN (As := [.ref (kA c (rB j)), .int (b - x), .int ((flG c2 fs j i x top).1 - y)]) (by omega) ok_X6_put q1563 q1203 qs15 q83 q1204 hY6.lf rfl rfl rfl (Nat.le_of_ble_eq_true rfl) dX7_layFloat_225) hC7' ?_
      have e9 : cFloat L (kZ c, n) fs j i x y top = ((kZ (cPut c2 j (b - x) ((flG c2 fs j i x top).1 - y)), (L (kZ c, n) j (cFit c j (kInner c i - kSides c j))).2), fs ++ [(b, (flG c2 fs j i x top).1, (kP c2 j 2 + kSides c2 j), (kP c2 j 3 + kEnds c2 j), kF c2 j 16)]) := by
        unfold cFloat
        show cFloat2 (L (kZ c, n) j (cFit (kZ c) j (kInner c i - kSides c j))).1 (L (kZ c, n) j (cFit (kZ c) j (kInner c i - kSides c j))).2 fs j i x y top = _
        rw [cFit_Z, ← hz2, hb]
        rfl
      rw [e9]
      have hXA := (hX12.mono (S2 := SF fa) (fun _ h => Or.inl h)).trans (hX3.mono (S2 := SF fa) (fun _ h => absurd h (fun h => h)))
      have hXB := (hXA.trans hX36).trans (hX7.mono (S2 := SF fa) (fun _ h => Or.inl h))
      have hF7 := hF6.keepC hX36.gd hX7
      exact zr_vret rfl dX7_layFloat_228 (⟨_, rfl, hE2.trans (KEq.Put _ _ _ _), rfl, hY7, hF7, hXB.le (by omega)⟩)
    refine zr_icmp_ne (tgt := 172) dX7_layFloat_161 (by decide) (fun h5 => ?_) (fun h5 => ?_)
    · refine zr_aload dX7_layFloat_172 rfl ?_
      refine zr_call1 (rest := []) (zs_V (As := []) (by omega) ok_X9_right q1538 q1539 q1540 q94 q1541 rfl hq rfl rfl rfl (Nat.le_of_ble_eq_true rfl) dX7_layFloat_174) (c_X9_right hq) ?_
      refine zr_iload dX7_layFloat_177 rfl ?_
      refine zr_isub dX7_layFloat_179 ?_
      exact key2 _ (if_neg h5).symm
    · refine zr_aload dX7_layFloat_164 rfl ?_
      refine zr_call1 (rest := []) (zs_V (As := []) (by omega) ok_X9_left q1458 q1459 q1460 q94 q1461 rfl hq rfl rfl rfl (Nat.le_of_ble_eq_true rfl) dX7_layFloat_166) (c_X9_left hq) ?_
      refine zr_goto (tgt := 180) dX7_layFloat_169 (by decide) ?_
      exact key2 _ (if_pos h5).symm
  refine zr_ifeqB (tgt := 74) dX7_layFloat_66 (by decide) (fun h4 => ?_) (fun h4 => ?_)
  · have hpos : 0 < fs.length := by
      rw [← hlen]
      cases xs with
      | nil => cases h4
      | cons => exact Nat.zero_lt_succ _
    obtain ⟨q1, hq1⟩ : ∃ q, xs[fs.length - 1]? = some q := ⟨_, List.getElem?_eq_getElem (by omega)⟩
    obtain ⟨z1, hz1⟩ : ∃ z, fs[fs.length - 1]? = some z := ⟨_, List.getElem?_eq_getElem (by omega)⟩
    have hqz := hfs _ q1 z1 hq1 hz1
    have hpred : nI xs.length - 1 = nI (fs.length - 1) := by rw [hlen, show fs.length = (fs.length - 1) + 1 by omega, nI_pred]; rfl
    refine zr_iload dX7_layFloat_74 rfl ?_
    refine zr_aload_n dX7_layFloat_76 rfl rfl ?_
    refine zr_get (k := 1) (v := .ref fa) in_X7 (.new hcx2) rfl (Nat.le_of_ble_eq_true rfl) q1329 (.inl rfl) rfl dX7_layFloat_77 ?_
    refine zr_aload_n dX7_layFloat_80 rfl rfl ?_
    refine zr_get (k := 1) (v := .ref fa) in_X7 (.new hcx2) rfl (Nat.le_of_ble_eq_true rfl) q1329 (.inl rfl) rfl dX7_layFloat_81 ?_
    refine zr_call51 (rest := [.ref fa, .int top]) (zs_F (As := []) (by omega) okF_J2_size (by decide +kernel) q1349 q162 q164 q56 q166 hfl rfl rfl rfl (Nat.le_of_ble_eq_true rfl) dX7_layFloat_84) (c_J2_size (by omega) hLf) ?_
    refine zr_iconst (v := 1) dX7_layFloat_89 (by decide) ?_
    refine zr_isub dX7_layFloat_90 ?_
    refine zr_eqi (z := (nI (fs.length - 1))) (hpred) ?_
    refine zr_call51 (rest := [.int top]) (zs_F (As := [.int (nI (fs.length - 1))]) (by omega) okF_J2_get (by decide +kernel) q1357 q1106 q959 q56 q960 hfl rfl rfl rfl (Nat.le_of_ble_eq_true rfl) dX7_layFloat_91) (c_J2_get (by omega) hG hLf hq1) ?_
    refine zr_castS (.new hqz.1) rfl q1371 dX7_layFloat_96 ?_
    refine zr_call1 (rest := [.int top]) (zs_V (As := []) (by omega) ok_X12_y q1534 q1535 q1536 q97 q1537 rfl (.new hqz.1) rfl rfl rfl (Nat.le_of_ble_eq_true rfl) dX7_layFloat_99) (c_X12_y (.new hqz.1)) ?_
    refine zr_max (by omega) q1393 q376 q60 q377 (Nat.le_of_ble_eq_true rfl) dX7_layFloat_102 ?_
    exact key _ (by unfold flAt; rw [hz1])
  · have h0 : fs = [] := by
      have : xs = [] := List.isEmpty_iff.mp h4
      rw [this] at hlen
      exact List.length_eq_zero_iff.mp hlen.symm
    refine zr_iload dX7_layFloat_69 rfl ?_
    refine zr_goto (tgt := 105) dX7_layFloat_71 (by decide) ?_
    exact key _ (by rw [h0]; rfl)
