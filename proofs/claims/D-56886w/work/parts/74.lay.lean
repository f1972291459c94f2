/-! ===== the layout: fill, lay, and the induction over the depth (rows printed by tools/p74.py) ===== -/
def cFill2 (R : (zCS × Int32) × List F5) (i : Nat) : zCS × Int32 := if kF R.1.1 i 7 = -1 ∧ R.2 ≠ [] then (kSetP R.1.1 i 3 (imax (kP R.1.1 i 3) (cLow R.2 + kF R.1.1 i 12)), R.1.2) else R.1
def cFill (L : LayT) (Fl : FlT) (s : zCS × Int32) (i : Nat) : zCS × Int32 := if kText s.1 i = true then (cLines s.1 [] i 0 0, s.2) else cFill2 (cFlow L Fl s [] i 0 0) i
def cLay2 (L : LayT) (Fl : FlT) (s : zCS × Int32) (i : Nat) : zCS × Int32 := if kF s.1 i 2 = 102 then cRow L s i else if kF s.1 i 2 = 103 then cGrid L s i else cFill L Fl s i
def cLay3 (chk : Bool) (i : Nat) (w : Int32) (s : zCS × Int32) : zCS × Int32 := (if chk = true then kSetP s.1 i 4 (kP s.1 i 3) else kSetF (kSetP s.1 i 4 (kP s.1 i 3)) i 25 w, s.2)
def cLay (chk : Bool) (L : LayT) (Fl : FlT) (s : zCS × Int32) (i : Nat) (w : Int32) : zCS × Int32 :=
  if chk = false ∧ kF s.1 i 25 = w then (kSetP s.1 i 3 (kP s.1 i 4), s.2) else cLay3 chk i w (cLay2 L Fl (kSetP s.1 i 2 w, s.2 + 1) i)
def cLF (chk : Bool) : Nat → LayT × FlT
  | 0 => (fun s _ _ => s, fun s fs _ _ _ => (s, fs))
  | f + 1 => (fun s i w => cLay chk (cLF chk f).1 (cLF chk f).2 s i w, fun s fs i x y => cFlow (cLF chk f).1 (cLF chk f).2 s fs i x y)
theorem zX.dynF {G : zG} {σ σ1 σ2 : zT} {n m fa : Nat} (hw : zGd G σ) (h : zX G SC σ σ1 n) (h2 : zX G (SF fa) σ1 σ2 m) (hf : sZ σ ≤ fa) : zX G SC σ σ2 (n + m) :=
  ⟨⟨Nat.le_trans h.1.1 h2.1.1, fun a ha => by
    have a1 := h.1.2 a ha
    have a2 := h2.1.2 a (Nat.lt_of_lt_of_le ha h.1.1)
    have a3 := hw.2.2.2 a ha
    exact ⟨a2.1.trans a1.1, fun hs => (a2.2 (by
      rw [a1.1]
      intro h9
      rcases h9 with h9 | h9 | h9
      · exact hs h9
      · unfold dT at h9; omega
      · unfold dT at h9; omega)).trans (a1.2 hs)⟩⟩, h2.2.1, h.2.2.1.trans h2.2.2.1, by have := h.2.2.2; have := h2.2.2.2; omega⟩
/-- a new context -/
theorem mkCx {G : zG} {σ σ3 : zT} {ly p : Nat} (hw : zGd G σ) (h3 : σ3 = (sUp (sUp (sNew (sUp (sNew σ 0 (.inr (7, d0_X7)) 3) (sZ σ) (.inr (7, [.null, .null, .ref p]))) (dT (sZ σ + 1)) (.inr (20, d0_J2)) 3) (sZ σ + 1) (.inr (20, [.int 0, .ref (zc G 0), .int 0]))) (sZ σ) (.inr (7, [.ref ly, .ref (sZ σ + 1), .ref p])))) : zX G S0 σ σ3 14 ∧ sF σ3 (sZ σ) = some (.inr (7, [.ref ly, .ref (sZ σ + 1), .ref p])) ∧ sT σ3 (sZ σ) = 0 ∧ FlS G σ3 (sZ σ + 1) [] := by
  subst h3
  have h1 := zX.new S0 hw 0 (by omega) (.inr (7, d0_X7)) 3
  have h2 : zX G S0 σ (sUp (sNew σ 0 (.inr (7, d0_X7)) 3) (sZ σ) (.inr (7, [.null, .null, .ref p]))) 7 := h1.upN (sF_newS _ _ _ _) (Nat.le_refl _)
  generalize hσ2 : sUp (sNew σ 0 (.inr (7, d0_X7)) 3) (sZ σ) (.inr (7, [.null, .null, .ref p])) = σ2 at h2 ⊢
  have hz : sZ σ2 = sZ σ + 1 := by rw [← hσ2]; rfl
  have hc : sF σ2 (sZ σ) = some (.inr (7, [.null, .null, .ref p])) := by rw [← hσ2]; exact sF_upS _ _ _
  have ht : sT σ2 (sZ σ) = 0 := by rw [← hσ2]; exact sT_newS σ 0 (.inr (7, d0_X7)) 3
  rw [← hz]
  have h3 := h2.trans (zX.new S0 h2.gd (dT (sZ σ2)) (by unfold dT; omega) (.inr (20, d0_J2)) 3)
  have hl : sF (sNew σ2 (dT (sZ σ2)) (.inr (20, d0_J2)) 3) (sZ σ2) = some (.inr (20, d0_J2)) := sF_newS _ _ _ _
  have hne : sZ σ ≠ sZ σ2 := by omega
  have h4 : zX G S0 σ (sUp (sNew σ2 (dT (sZ σ2)) (.inr (20, d0_J2)) 3) (sZ σ2) (.inr (20, [.int 0, .ref (zc G 0), .int 0]))) (7 + (3 + 4)) := h3.upN hl (by omega)
  have hc4 : sF (sUp (sNew σ2 (dT (sZ σ2)) (.inr (20, d0_J2)) 3) (sZ σ2) (.inr (20, [.int 0, .ref (zc G 0), .int 0]))) (sZ σ) = some (.inr (7, [.null, .null, .ref p])) := by
    rw [sF_upN _ _ _ hne]
    exact (sF_newN _ _ _ _ hne).trans hc
  refine ⟨h4.upN hc4 (Nat.le_refl _), sF_upS _ _ _, (sT_newN σ2 _ (.inr (20, d0_J2)) _ hne).trans ht, 0, [], ⟨zc G 0, 0, _, ?_, sT_newS σ2 _ (.inr (20, d0_J2)) _, Nat.le_refl _, by omega, fun j hj => absurd hj (Nat.not_lt_zero _), Or.inl ⟨rfl, rfl, rfl⟩⟩, rfl, Nat.zero_le _, fun j q z e => by cases e⟩
  rw [sF_upN _ _ _ hne.symm]
  exact sF_upS _ _ _
theorem kF_setP (c : zCS) (i k j b : Nat) (v : Int32) : kF (kSetP c i k v) j b = kF c j b := rfl
def HL (G : zG) (chk : Bool) (f : Nat) (L : LayT) (d : Nat) : Prop := ∀ (ly : Nat) (σ : zT) (c : zCS) (n : Int32) (j : Nat) (wd : Int32), zGd G σ → LY G σ c ly chk n → j < kN c → kN c ≤ f + j → zCall G I_X6_lay d [.ref ly, .ref (kA c (rB j)), .int wd] σ (fun o σ' => ∃ c', o = .inl none ∧ KEq c c' ∧ kZ c' = (L (kZ c, n) j wd).1 ∧ LY G σ' c' ly chk (L (kZ c, n) j wd).2 ∧ zX G SC σ σ' (LB f c j))
def HF (G : zG) (chk : Bool) (f : Nat) (Fl : FlT) (d : Nat) : Prop := ∀ (ly cx fa p : Nat) (σ : zT) (c : zCS) (n : Int32) (fs : List F5) (j : Nat) (x y : Int32), zGd G σ → LY G σ c ly chk n → sF σ cx = some (.inr (7, [.ref ly, .ref fa, .ref p])) → sT σ cx = 0 → FlS G σ fa fs → j < kN c → kN c ≤ f + j → fs.length + FC f c j ≤ 24 → zCall G I_X7_flow d [.ref cx, .ref (kA c (rB j)), .int x, .int y] σ (fun o σ' => ∃ c', o = .inl none ∧ KEq c c' ∧ kZ c' = (Fl (kZ c, n) fs j x y).1.1 ∧ LY G σ' c' ly chk (Fl (kZ c, n) fs j x y).1.2 ∧ FlS G σ' fa (Fl (kZ c, n) fs j x y).2 ∧ (Fl (kZ c, n) fs j x y).2.length ≤ fs.length + FC f c j ∧ zX G (SF fa) σ σ' (LB f c j))
set_option maxHeartbeats 4000000 in
theorem c_X7_fill {G : zG} {σ : zT} {d D f i cx ly fa p : Nat} {c : zCS} {n : Int32} {L : LayT} {Fl : FlT} {chk : Bool} (hd : D + 3 ≤ d) (hNx : zNext G) (hD : 92 ≤ D) (hG : zOk G) (hw : zGd G σ) (hi : i < kN c) (hf : kN c ≤ f + 1 + i) (hY : LY G σ c ly chk n) (hLay : ∀ d, D ≤ d → HL G chk f L d) (hFlow : ∀ d, D ≤ d → HF G chk f Fl d) (hcx0 : sF σ cx = some (.inr (7, [.ref ly, .ref fa, .ref p]))) (hct : sT σ cx = 0) (hF : FlS G σ fa []) : zCall G I_X7_fill d [.ref cx, .ref (kA c (rB i))] σ ((fun o σ' => ∃ c', o = .inl none ∧ KEq c c' ∧ kZ c' = (cFill L Fl (kZ c, n) i).1 ∧ LY G σ' c' ly chk (cFill L Fl (kZ c, n) i).2 ∧ zX G (SF fa) σ σ' (6200 + 5000 * (kWd c i).length + LBS f c i))) := by
  refine zCall_of (ls := [(0, .ref cx), (1, .ref (kA c (rB i)))]) (by decide) (Nat.le_of_ble_eq_true rfl) rfl ?_
  have hS := hY.1
  refine zr_aload_n dX7_fill_0 rfl rfl ?_
  refine zr_call1 (rest := []) (zs_V (As := []) (by omega) ok_X2_isText q1342 q1147 q1148 q57 q1149 rfl (hS.bx hi) rfl rfl rfl (Nat.le_of_ble_eq_true rfl) dX7_fill_1) (c_X2_isText (by omega) hS hi) ?_
  refine zr_ifeqB (tgt := 15) dX7_fill_4 (by decide) (fun h1 => ?_) (fun h1 => ?_)
  · obtain ⟨_, σ4, ⟨c4, rfl, hE4, hz4, hY4, hF4, hl4, hX4⟩, hC4⟩ := c_X7_flow (x := 0) (y := 0) (d := d - 1) hNx (by omega) hG hw hi hf hY hcx0 hct hF (by have := FC_le hS.2.2.2 (f + 1) hi; show 0 + FC (f + 1) c i ≤ 24; omega) (hLay _ (by omega) ly) (hFlow _ (by omega) ly cx fa p)
    have e9 : cFill L Fl (kZ c, n) i = cFill2 (cFlow L Fl (kZ c, n) [] i 0 0) i := if_neg (by show ¬ kText c i = true; rw [h1]; decide)
    rw [e9]
    generalize hR : (cFlow L Fl (kZ c, n) [] i 0 0) = R0 at hz4 hY4 hF4
    have hS4 := hY4.1
    have hcx4 := hX4.f hw hcx0 (by rw [hct]; exact SF_0)
    have hbi4 : zAt G σ4 (kA c (rB i)) (.inr (2, kBx c4 i)) := hE4.b i ▸ hS4.bx (hE4.nn hi)
    have hF4k := hF4
    obtain ⟨mod, xs, hLf, hlen, h24, hfs⟩ := hF4
    obtain ⟨fl, hfl⟩ := hLf.A
    have hq7 : kF R0.1.1 i 7 = kF c4 i 7 := by rw [← hz4]; rfl
    refine zr_aload_n dX7_fill_15 rfl rfl ?_
    refine zr_aload_n dX7_fill_16 rfl rfl ?_
    refine zr_iconst (v := 0) dX7_fill_17 (by decide) ?_
    refine zr_iconst (v := 0) dX7_fill_18 (by decide) ?_
    refine zr_callv (rest := []) (zs_V (As := [.ref (kA c (rB i)), .int 0, .int 0]) (by omega) ok_X7_flow q1502 q1504 qs24 q91 q1505 rfl (.new hcx0) rfl rfl rfl (Nat.le_of_ble_eq_true rfl) dX7_fill_19) hC4 ?_
    refine zr_aload_n dX7_fill_22 rfl rfl ?_
    refine zr_getN (k := 7) (v := .int (kF c4 i 7)) in_X2 hbi4 rfl (Nat.le_of_ble_eq_true rfl) q245 (.inl rfl) rfl dX7_fill_23 ?_
    refine zr_iconst (v := (-1)) dX7_fill_26 (by decide) ?_
    refine zr_icmp_ne (tgt := 68) dX7_fill_27 (by decide) (fun h2 => ?_) (fun h2 => ?_)
    · rw [show cFill2 R0 i = R0.1 from if_neg (fun h => h2 (hq7.symm.trans h.1))]
      exact zr_vret rfl dX7_fill_68 (⟨c4, rfl, hE4, hz4, hY4, hX4.le (by omega)⟩)
    · refine zr_aload_n dX7_fill_30 rfl rfl ?_
      refine zr_get (k := 1) (v := .ref fa) in_X7 (.new hcx4) rfl (Nat.le_of_ble_eq_true rfl) q1329 (.inl rfl) rfl dX7_fill_31 ?_
      refine zr_call51 (rest := []) (zs_F (As := []) (by omega) okF_J2_isEmpty (by decide +kernel) q1520 q1523 q1525 q56 q1527 hfl rfl rfl rfl (Nat.le_of_ble_eq_true rfl) dX7_fill_34) (c_J2_isEmpty (by omega) hLf) ?_
      refine zr_ifneB (tgt := 68) dX7_fill_39 (by decide) (fun h3 => ?_) (fun h3 => ?_)
      · have h0 : R0.2 = [] := by
          have : xs = [] := List.isEmpty_iff.mp h3
          rw [this] at hlen
          exact List.length_eq_zero_iff.mp hlen.symm
        rw [show cFill2 R0 i = R0.1 from if_neg (fun h => h.2 h0)]
        exact zr_vret rfl dX7_fill_68 (⟨c4, rfl, hE4, hz4, hY4, hX4.le (by omega)⟩)
      · have h0 : R0.2 ≠ [] := by
          intro h9
          rw [h9] at hlen
          rw [List.length_eq_zero_iff.mp hlen] at h3
          cases h3
        obtain ⟨_, σ5, ⟨rfl, hX5⟩, hC5⟩ := c_X7_lowest (d := d - 1) (by omega) hG hX4.gd (.new hcx4) hF4k
        have hY5 := hY4.keep0 hX4.gd hX5
        have hS5 := hY5.1
        have hbi5 : zAt G σ5 (kA c (rB i)) (.inr (2, kBx c4 i)) := hE4.b i ▸ hS5.bx (hE4.nn hi)
        have hX45 := hX4.trans (hX5.mono (S2 := SF fa) (fun _ h => absurd h (fun h => h)))
        have hY6 := hY5.setP (hE4.nn hi) 3 (imax (kP c4 i 3) (cLow R0.2 + kF c4 i 12))
        have hX6 := hX45.trans ((hS5.XP hX5.gd (hE4.nn hi) (kPl (kSetP c4 i 3 (imax (kP c4 i 3) (cLow R0.2 + kF c4 i 12))) i)).mono (S2 := SF fa) (fun _ h => Or.inl h))
        have ez : cFill2 R0 i = (kZ (kSetP c4 i 3 (imax (kP c4 i 3) (cLow R0.2 + kF c4 i 12))), R0.1.2) := by
          have e8 : cFill2 R0 i = (kSetP R0.1.1 i 3 (imax (kP R0.1.1 i 3) (cLow R0.2 + kF R0.1.1 i 12)), R0.1.2) := if_pos ⟨hq7.trans h2, h0⟩
          rw [e8, ← hz4]
          rfl
        rw [ez]
        refine zr_aload_n dX7_fill_42 rfl rfl ?_
        refine zr_getN (k := 24) (v := .ref (kA c4 (rP i))) in_X2 hbi4 rfl (Nat.le_of_ble_eq_true rfl) q289 (.inl rfl) rfl dX7_fill_43 ?_
        refine zr_aload_n dX7_fill_46 rfl rfl ?_
        refine zr_getN (k := 24) (v := .ref (kA c4 (rP i))) in_X2 hbi4 rfl (Nat.le_of_ble_eq_true rfl) q289 (.inl rfl) rfl dX7_fill_47 ?_
        refine zr_getN (k := 3) (v := .int (kP c4 i 3)) in_X3 (hS4.pl (hE4.nn hi)) rfl (Nat.le_of_ble_eq_true rfl) q203 (.inl rfl) rfl dX7_fill_50 ?_
        refine zr_aload_n dX7_fill_53 rfl rfl ?_
        refine zr_call1 (rest := [.int (kP c4 i 3), .ref (kA c4 (rP i))]) (zs_V (As := []) (by omega) ok_X7_lowest q1567 q1569 qs26 q91 q1570 rfl (.new hcx4) rfl rfl rfl (Nat.le_of_ble_eq_true rfl) dX7_fill_54) hC5 ?_
        refine zr_aload_n dX7_fill_57 rfl rfl ?_
        refine zr_getN (k := 12) (v := .int (kF c4 i 12)) in_X2 hbi5 rfl (Nat.le_of_ble_eq_true rfl) q258 (.inl rfl) rfl dX7_fill_58 ?_
        refine zr_iadd dX7_fill_61 ?_
        refine zr_max (by omega) q1393 q376 q60 q377 (Nat.le_of_ble_eq_true rfl) dX7_fill_62 ?_
        refine zr_putN (k := 3) (fs' := (kPl (kSetP c4 i 3 (imax (kP c4 i 3) (cLow R0.2 + kF c4 i 12))) i)) zt_X3 (hS5.pF (hE4.nn hi)) rfl (Nat.le_of_ble_eq_true rfl) q203 (.inl rfl) rfl rfl rfl (Nat.le_of_ble_eq_true rfl) (kPl_set3 _ _ _) dX7_fill_65 ?_
        exact zr_vret rfl dX7_fill_68 (⟨_, rfl, hE4.trans (KEq.setP _ _ _ _), rfl, hY6, hX6.le (by omega)⟩)
  · obtain ⟨_, σ4, ⟨c4, rfl, hE4, hz4, hY4, hX4⟩, hC4⟩ := c_X7_layLines (x := 0) (y := 0) (d := d - 1) hNx (by omega) hG hw hY hi hcx0 hct hF
    have e9 : cFill L Fl (kZ c, n) i = (cLines (kZ c) [] i 0 0, n) := if_pos h1
    rw [e9]
    refine zr_aload_n dX7_fill_7 rfl rfl ?_
    refine zr_aload_n dX7_fill_8 rfl rfl ?_
    refine zr_iconst (v := 0) dX7_fill_9 (by decide) ?_
    refine zr_iconst (v := 0) dX7_fill_10 (by decide) ?_
    refine zr_callv (rest := []) (zs_VX (As := [.ref (kA c (rB i)), .int 0, .int 0]) (by omega) ok_X7_layLines q1343 q1345 qs21 q91 q1346 rfl (.new hcx0) rfl rfl rfl (Nat.le_of_ble_eq_true rfl) dX7_fill_11) hC4 ?_
    exact zr_vret rfl dX7_fill_14 (⟨c4, rfl, hE4, hz4, hY4, (hX4.mono (S2 := SF fa) (fun _ h => Or.inl h)).le (by omega)⟩)
set_option maxHeartbeats 4000000 in
theorem c_X6_lay {G : zG} {σ : zT} {d D f i ly : Nat} {c : zCS} {n wd : Int32} {L : LayT} {Fl : FlT} {chk : Bool} (hd : D + 5 ≤ d) (hNx : zNext G) (hD : 92 ≤ D) (hG : zOk G) (hw : zGd G σ) (hi : i < kN c) (hf : kN c ≤ f + 1 + i) (hY : LY G σ c ly chk n) (hLay : ∀ d, D ≤ d → HL G chk f L d) (hFlow : ∀ d, D ≤ d → HF G chk f Fl d) : zCall G I_X6_lay d [.ref ly, .ref (kA c (rB i)), .int wd] σ ((fun o σ' => ∃ c', o = .inl none ∧ KEq c c' ∧ kZ c' = (cLay chk L Fl (kZ c, n) i wd).1 ∧ LY G σ' c' ly chk (cLay chk L Fl (kZ c, n) i wd).2 ∧ zX G SC σ σ' (LB (f + 1) c i))) := by
  refine zCall_of (ls := [(0, .ref ly), (1, .ref (kA c (rB i))), (2, .int wd)]) (by decide) (Nat.le_of_ble_eq_true rfl) rfl ?_
  have hS := hY.1
  have hLB := LB_succ f c i
  have key : ¬ (chk = false ∧ kF c i 25 = wd) → zR G yX6_lay cX6_lay 4 (Option.none : Option Jvm.ClassFile.FieldType) [] d 30 [(0, .ref ly), (1, .ref (kA c (rB i))), (2, .int wd)] [] σ (fun o σ' => ∃ c', o = .inl none ∧ KEq c c' ∧ kZ c' = (cLay chk L Fl (kZ c, n) i wd).1 ∧ LY G σ' c' ly chk (cLay chk L Fl (kZ c, n) i wd).2 ∧ zX G SC σ σ' (LB (f + 1) c i)) := by
    intro hne
    have e9 : cLay chk L Fl (kZ c, n) i wd = cLay3 chk i wd (cLay2 L Fl (kSetP (kZ c) i 2 wd, n + 1) i) := if_neg hne
    rw [e9]
    refine zr_aload_n dX6_lay_30 rfl rfl ?_
    refine zr_dup dX6_lay_31 rfl ?_
    refine zr_get (k := 1) (v := .int n) in_X6 hY.lf rfl (Nat.le_of_ble_eq_true rfl) q1088 (.inl rfl) rfl dX6_lay_32 ?_
    refine zr_iconst (v := 1) dX6_lay_35 (by decide) ?_
    refine zr_iadd dX6_lay_36 ?_
    refine zr_put (k := 1) (fs' := [.int (bI chk), .int (n + 1), .ref (kA c 1)]) zt_X6 hY.2.1 rfl (Nat.le_of_ble_eq_true rfl) q1088 (.inl rfl) rfl rfl rfl (Nat.le_of_ble_eq_true rfl) rfl dX6_lay_37 ?_
    have hY1 := hY.cnt (n + 1)
    have hX1 := hY.XC hw [.int (bI chk), .int (n + 1), .ref (kA c 1)]
    generalize hσ1 : sUp σ ly (.inr (6, [.int (bI chk), .int (n + 1), .ref (kA c 1)])) = σ1 at hY1 hX1 ⊢
    have hS1 := hY1.1
    refine zr_aload_n dX6_lay_40 rfl rfl ?_
    refine zr_getN (k := 24) (v := .ref (kA c (rP i))) in_X2 (hS1.bx hi) rfl (Nat.le_of_ble_eq_true rfl) q290 (.inl rfl) rfl dX6_lay_41 ?_
    refine zr_iload_n dX6_lay_44 rfl rfl ?_
    refine zr_putN (k := 2) (fs' := (kPl (kSetP c i 2 wd) i)) zt_X3 (hS1.pF hi) rfl (Nat.le_of_ble_eq_true rfl) q198 (.inl rfl) rfl rfl rfl (Nat.le_of_ble_eq_true rfl) (kPl_set2 _ _ _) dX6_lay_45 ?_
    have hY2 := hY1.setP hi 2 wd
    have hX2 := hX1.trans (hS1.XP hX1.gd hi (kPl (kSetP c i 2 wd) i))
    have hz2 : kSetP (kZ c) i 2 wd = kZ (kSetP c i 2 wd) := rfl
    rw [hz2]
    generalize hc2 : kSetP c i 2 wd = c2 at hY2 hX2 ⊢
    have hE2 : KEq c c2 := hc2 ▸ KEq.setP c i 2 wd
    generalize hσ2 : sUp σ1 (kA c (rP i)) (.inr (3, kPl c2 i)) = σ2 at hY2 hX2 ⊢
    have hS2 := hY2.1
    have hi2 := hE2.nn hi
    have hf2 : kN c2 ≤ f + 1 + i := by rw [hE2.n]; exact hf
    have hbi2 : zAt G σ2 (kA c (rB i)) (.inr (2, kBx c2 i)) := hE2.b i ▸ hS2.bx hi2
    have hwd2 := hE2.wd i
    have hLS : LBS f c2 i = LBS f c i := by unfold LBS; rw [hE2.ch i, show LX f c2 = LX f c from funext (LX_eq hE2 f)]
    have key2 : ∀ σ4 c4 loc3, KEq c2 c4 → kZ c4 = (cLay2 L Fl (kZ c2, n + 1) i).1 → LY G σ4 c4 ly chk (cLay2 L Fl (kZ c2, n + 1) i).2 → zX G SC σ2 σ4 (6500 + 5000 * (kWd c i).length + LBS f c i) → loc3 = true → zR G yX6_lay cX6_lay 4 (Option.none : Option Jvm.ClassFile.FieldType) [] d 100 [(0, .ref ly), (1, .ref (kA c (rB i))), (2, .int wd)] [] σ4 (fun o σ' => ∃ c', o = .inl none ∧ KEq c c' ∧ kZ c' = (cLay3 chk i wd (cLay2 L Fl (kZ c2, n + 1) i)).1 ∧ LY G σ' c' ly chk (cLay3 chk i wd (cLay2 L Fl (kZ c2, n + 1) i)).2 ∧ zX G SC σ σ' (LB (f + 1) c i)) := by
      intro σ4 c4 _ hE4 hz4 hY4 hX4 _
      have hE04 := hE2.trans hE4
      have hS4 := hY4.1
      have hi4 := hE04.nn hi
      have hbi4 : zAt G σ4 (kA c (rB i)) (.inr (2, kBx c4 i)) := hE04.b i ▸ hS4.bx hi4
      refine zr_aload_n dX6_lay_100 rfl rfl ?_
      refine zr_getN (k := 24) (v := .ref (kA c4 (rP i))) in_X2 hbi4 rfl (Nat.le_of_ble_eq_true rfl) q290 (.inl rfl) rfl dX6_lay_101 ?_
      refine zr_aload_n dX6_lay_104 rfl rfl ?_
      refine zr_getN (k := 24) (v := .ref (kA c4 (rP i))) in_X2 hbi4 rfl (Nat.le_of_ble_eq_true rfl) q290 (.inl rfl) rfl dX6_lay_105 ?_
      refine zr_getN (k := 3) (v := .int (kP c4 i 3)) in_X3 (hS4.pl hi4) rfl (Nat.le_of_ble_eq_true rfl) q204 (.inl rfl) rfl dX6_lay_108 ?_
      refine zr_putN (k := 4) (fs' := (kPl (kSetP c4 i 4 (kP c4 i 3)) i)) zt_X3 (hS4.pF hi4) rfl (Nat.le_of_ble_eq_true rfl) q207 (.inl rfl) rfl rfl rfl (Nat.le_of_ble_eq_true rfl) (kPl_set4 _ _ _) dX6_lay_111 ?_
      have hY5 := hY4.setP hi4 4 (kP c4 i 3)
      have hX5 := (hX2.trans hX4).trans (hS4.XP hX4.gd hi4 (kPl (kSetP c4 i 4 (kP c4 i 3)) i))
      have hz5 : kZ (kSetP c4 i 4 (kP c4 i 3)) = kSetP (cLay2 L Fl (kZ c2, n + 1) i).1 i 4 (kP (cLay2 L Fl (kZ c2, n + 1) i).1 i 3) := by rw [← hz4]; rfl
      generalize hc5 : kSetP c4 i 4 (kP c4 i 3) = c5 at hY5 hX5 hz5 ⊢
      have hE5 : KEq c c5 := hE04.trans (hc5 ▸ KEq.setP c4 i 4 _)
      generalize hσ5 : sUp σ4 (kA c4 (rP i)) (.inr (3, kPl c5 i)) = σ5 at hY5 hX5 ⊢
      have hS5 := hY5.1
      have hi5 := hE5.nn hi
      have hbF5 : sF σ5 (kA c (rB i)) = some (.inr (2, kBx c5 i)) := hE5.b i ▸ hS5.bF hi5
      unfold cLay3
      rw [← hz5]
      refine zr_aload_n dX6_lay_114 rfl rfl ?_
      refine zr_get (k := 0) (v := .int (bI chk)) in_X6 hY5.lf rfl (Nat.le_of_ble_eq_true rfl) q1087 (.inl rfl) rfl dX6_lay_115 ?_
      refine zr_ifneB (tgt := 126) dX6_lay_118 (by decide) (fun h9 => ?_) (fun h9 => ?_)
      · rw [if_pos h9]
        exact zr_vret rfl dX6_lay_126 (⟨c5, rfl, hE5, rfl, hY5, hX5.le (by omega)⟩)
      · rw [if_neg (by rw [h9]; decide)]
        refine zr_aload_n dX6_lay_121 rfl rfl ?_
        refine zr_iload_n dX6_lay_122 rfl rfl ?_
        refine zr_putN (k := 25) (fs' := (kBx (kSetF c5 i 25 wd) i)) zt_X2 hbF5 rfl (Nat.le_of_ble_eq_true rfl) q294 (.inl rfl) rfl rfl rfl (Nat.le_of_ble_eq_true rfl) (kBx_set25 _ _ _) dX6_lay_123 ?_
        have hY6 := hY5.setF hi5 wd
        have hX6 := hX5.trans (hS5.XF hX5.gd hi5 (kBx (kSetF c5 i 25 wd) i))
        rw [hE5.b i] at hY6 hX6
        exact zr_vret rfl dX6_lay_126 (⟨_, rfl, hE5.trans (KEq.setF _ _ _), rfl, hY6, hX6.le (by omega)⟩)
    refine zr_aload_n dX6_lay_48 rfl rfl ?_
    refine zr_getN (k := 2) (v := .int (kF c2 i 2)) in_X2 hbi2 rfl (Nat.le_of_ble_eq_true rfl) q231 (.inl rfl) rfl dX6_lay_49 ?_
    refine zr_bipush (v := 102) dX6_lay_52 (by decide) ?_
    refine zr_icmp_ne (tgt := 65) dX6_lay_54 (by decide) (fun h3 => ?_) (fun h3 => ?_)
    · refine zr_aload_n dX6_lay_65 rfl rfl ?_
      refine zr_getN (k := 2) (v := .int (kF c2 i 2)) in_X2 hbi2 rfl (Nat.le_of_ble_eq_true rfl) q231 (.inl rfl) rfl dX6_lay_66 ?_
      refine zr_bipush (v := 103) dX6_lay_69 (by decide) ?_
      refine zr_icmp_ne (tgt := 82) dX6_lay_71 (by decide) (fun h4 => ?_) (fun h4 => ?_)
      · have e8 : cLay2 L Fl (kZ c2, n + 1) i = cFill L Fl (kZ c2, n + 1) i := (if_neg h3).trans (if_neg h4)
        refine zr_new (ci := 7) (0) zt_X7 q1320 q1321 q91 rfl df_X7 dX6_lay_82 ?_
        have hYn := hY2.keep0 hX2.gd (zX.new S0 hX2.gd 0 (by omega) (.inr (7, d0_X7)) 3)
        refine zr_dup dX6_lay_85 rfl ?_
        refine zr_aload_n dX6_lay_86 rfl rfl ?_
        refine zr_get (k := 2) (v := .ref (kA c2 1)) in_X6 hYn.lf rfl (Nat.le_of_ble_eq_true rfl) q1090 (.inl rfl) rfl dX6_lay_87 ?_
        refine zr_aload_n dX6_lay_90 rfl rfl ?_
        refine zr_callv (rest := [.ref (sZ σ2)]) (zs_I (As := [.ref (kA c2 1), .ref ly]) (by omega) ok_X7_init q1322 q1323 q91 q1324 rfl rfl rfl (Nat.le_of_ble_eq_true rfl) dX6_lay_91) (c_X7_init (cx := sZ σ2) (p := kA c2 1) (ly := ly) (by omega) hG (sF_newS _ _ _ _) (Nat.ne_of_lt (Nat.lt_succ_self _))) ?_
        obtain ⟨hX3, hcx3, hct3, hF3⟩ := mkCx (G := G) (ly := ly) (p := kA c2 1) hX2.gd rfl
        generalize hσ3 : (sUp (sUp (sNew (sUp (sNew σ2 0 (.inr (7, d0_X7)) 3) (sZ σ2) (.inr (7, [.null, .null, .ref (kA c2 1)]))) (dT (sZ σ2 + 1)) (.inr (20, d0_J2)) 3) (sZ σ2 + 1) (.inr (20, [.int 0, .ref (zc G 0), .int 0]))) (sZ σ2) (.inr (7, [.ref ly, .ref (sZ σ2 + 1), .ref (kA c2 1)]))) = σ3 at hX3 hcx3 hct3 hF3
        have hY3 := hY2.keep0 hX2.gd hX3
        show zR _ _ _ _ _ _ _ _ _ _ (sUp (sUp (sNew (sUp (sNew σ2 0 (.inr (7, d0_X7)) 3) (sZ σ2) (.inr (7, [.null, .null, .ref (kA c2 1)]))) (dT (sZ σ2 + 1)) (.inr (20, d0_J2)) 3) (sZ σ2 + 1) (.inr (20, [.int 0, .ref (zc G 0), .int 0]))) (sZ σ2) (.inr (7, [.ref ly, .ref (sZ σ2 + 1), .ref (kA c2 1)]))) _
        rw [hσ3]
        obtain ⟨_, σ4, ⟨c4, rfl, hE4, hz4, hY4, hX4⟩, hC4⟩ := c_X7_fill (d := d - 1) (D := D) (by omega) hNx hD hG hX3.gd hi2 hf2 hY3 hLay hFlow hcx3 hct3 hF3
        have hC4' := zC.at2 (hE2.b i) hC4
        rw [← e8] at hz4 hY4
        have hX34 := zX.dynF hX2.gd (hX3.mono (S2 := SC) (fun _ h => absurd h (fun h => h))) hX4 (Nat.le_succ _)
        refine zr_astore_n (ls2 := [(0, .ref ly), (1, .ref (kA c (rB i))), (2, .int wd), (3, .ref (sZ σ2))]) dX6_lay_94 rfl (Nat.le_of_ble_eq_true rfl) rfl ?_
        refine zr_aload_n dX6_lay_95 rfl rfl ?_
        refine zr_aload_n dX6_lay_96 rfl rfl ?_
        refine zr_callv (rest := []) (zs_V (As := [.ref (kA c (rB i))]) (by omega) ok_X7_fill q1338 q1339 q1340 q91 q1341 rfl (.new hcx3) rfl rfl rfl (Nat.le_of_ble_eq_true rfl) dX6_lay_97) hC4' ?_
        refine zr_sub (ls2 := [(0, .ref ly), (1, .ref (kA c (rB i))), (2, .int wd)]) [0, 1, 2] rfl ?_
        exact key2 σ4 c4 true hE4 hz4 hY4 (hX34.le (by rw [hwd2, hLS]; omega)) rfl
      · have e8 : cLay2 L Fl (kZ c2, n + 1) i = cGrid L (kZ c2, n + 1) i := (if_neg h3).trans (if_pos h4)
        obtain ⟨_, σ4, ⟨c4, rfl, hE4, hz4, hY4, hX4⟩, hC4⟩ := c_X6_layGrid (d := d - 1) (by omega) hG hX2.gd hi2 hf2 hY2 (hLay _ (by omega) ly)
        have hC4' := zC.at2 (hE2.b i) hC4
        rw [← e8] at hz4 hY4
        refine zr_aload_n dX6_lay_74 rfl rfl ?_
        refine zr_aload_n dX6_lay_75 rfl rfl ?_
        refine zr_callv (rest := []) (zs_V (As := [.ref (kA c (rB i))]) (by omega) ok_X6_layGrid q1248 q1250 qs19 q83 q1251 rfl hY2.lf rfl rfl rfl (Nat.le_of_ble_eq_true rfl) dX6_lay_76) hC4' ?_
        refine zr_goto (tgt := 100) dX6_lay_79 (by decide) ?_
        exact key2 σ4 c4 true hE4 hz4 hY4 (hX4.le (by omega)) rfl
    · have e8 : cLay2 L Fl (kZ c2, n + 1) i = cRow L (kZ c2, n + 1) i := if_pos h3
      obtain ⟨_, σ4, ⟨c4, rfl, hE4, hz4, hY4, hX4⟩, hC4⟩ := c_X6_layRow (d := d - 1) (by omega) hG hX2.gd hi2 hf2 hY2 (hLay _ (by omega) ly)
      have hC4' := zC.at2 (hE2.b i) hC4
      rw [← e8] at hz4 hY4
      refine zr_aload_n dX6_lay_57 rfl rfl ?_
      refine zr_aload_n dX6_lay_58 rfl rfl ?_
      refine zr_callv (rest := []) (zs_V (As := [.ref (kA c (rB i))]) (by omega) ok_X6_layRow q1117 q1119 qs11 q83 q1120 rfl hY2.lf rfl rfl rfl (Nat.le_of_ble_eq_true rfl) dX6_lay_59) hC4' ?_
      refine zr_goto (tgt := 100) dX6_lay_62 (by decide) ?_
      exact key2 σ4 c4 true hE4 hz4 hY4 (hX4.le (by omega)) rfl
  refine zr_aload_n dX6_lay_0 rfl rfl ?_
  refine zr_get (k := 0) (v := .int (bI chk)) in_X6 hY.lf rfl (Nat.le_of_ble_eq_true rfl) q1087 (.inl rfl) rfl dX6_lay_1 ?_
  refine zr_ifneB (tgt := 30) dX6_lay_4 (by decide) (fun h0 => ?_) (fun h0 => ?_)
  · exact key (fun h => by rw [h.1] at h0; cases h0)
  · refine zr_aload_n dX6_lay_7 rfl rfl ?_
    refine zr_getN (k := 25) (v := .int (kF c i 25)) in_X2 (hS.bx hi) rfl (Nat.le_of_ble_eq_true rfl) q294 (.inl rfl) rfl dX6_lay_8 ?_
    refine zr_iload_n dX6_lay_11 rfl rfl ?_
    refine zr_icmp_ne (tgt := 30) dX6_lay_12 (by decide) (fun h1 => ?_) (fun h1 => ?_)
    · exact key (fun h => h1 h.2)
    · have e9 : cLay chk L Fl (kZ c, n) i wd = (kSetP (kZ c) i 3 (kP c i 4), n) := if_pos ⟨h0, h1⟩
      rw [e9]
      refine zr_aload_n dX6_lay_15 rfl rfl ?_
      refine zr_getN (k := 24) (v := .ref (kA c (rP i))) in_X2 (hS.bx hi) rfl (Nat.le_of_ble_eq_true rfl) q290 (.inl rfl) rfl dX6_lay_16 ?_
      refine zr_aload_n dX6_lay_19 rfl rfl ?_
      refine zr_getN (k := 24) (v := .ref (kA c (rP i))) in_X2 (hS.bx hi) rfl (Nat.le_of_ble_eq_true rfl) q290 (.inl rfl) rfl dX6_lay_20 ?_
      refine zr_getN (k := 4) (v := .int (kP c i 4)) in_X3 (hS.pl hi) rfl (Nat.le_of_ble_eq_true rfl) q207 (.inl rfl) rfl dX6_lay_23 ?_
      refine zr_putN (k := 3) (fs' := (kPl (kSetP c i 3 (kP c i 4)) i)) zt_X3 (hS.pF hi) rfl (Nat.le_of_ble_eq_true rfl) q204 (.inl rfl) rfl rfl rfl (Nat.le_of_ble_eq_true rfl) (kPl_set3 _ _ _) dX6_lay_26 ?_
      exact zr_vret rfl dX6_lay_29 (⟨_, rfl, KEq.setP _ _ _ _, rfl, hY.setP hi 3 _, (hS.XP hw hi _).le (Nat.zero_le _)⟩)
theorem c_lay_all {G : zG} {chk : Bool} (hNx : zNext G) (hG : zOk G) : ∀ (f d : Nat), 100 + 5 * f ≤ d → HL G chk f (cLF chk f).1 d ∧ HF G chk f (cLF chk f).2 d := by
  intro f
  induction f with
  | zero => exact fun d hd => ⟨fun ly σ c n j wd _ _ h1 h2 => by omega, fun ly cx fa p σ c n fs j x y _ _ _ _ _ h1 h2 => by omega⟩
  | succ f ih =>
    intro d hd
    refine ⟨fun ly σ c n j wd hw hY hj hf => ?_, fun ly cx fa p σ c n fs j x y hw hY hcx hct hF hj hf h24 => ?_⟩
    · exact c_X6_lay (D := 100 + 5 * f) (by omega) hNx (by omega) hG hw hj (by omega) hY (fun d' hd' => (ih d' hd').1) (fun d' hd' => (ih d' hd').2)
    · refine (c_X7_flow hNx (by omega) hG hw hj (by omega) hY hcx hct hF h24 ((ih (d - 1 - 1) (by omega)).1 ly) ((ih (d - 1 - 1) (by omega)).2 ly cx fa p)).mono fun o σ' h => ?_
      obtain ⟨c', h1, h2, h3, h4, h5, h6, h7⟩ := h
      exact ⟨c', h1, h2, h3, h4, h5, h6, h7.le (by rw [LB_succ]; omega)⟩
