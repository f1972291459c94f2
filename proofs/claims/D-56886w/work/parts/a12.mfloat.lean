/-! ===== the reference: floats (rows printed by tools/p112.py) ===== -/
def mFlGo (ps : List P5) (left right wd h : Int32) : Nat → Int32 → Int32
  | 0, y => y
  | f + 1, y => if mRight ps right y h - mLeft ps left y h < wd ∧ y < mBelow ps y h then mFlGo ps left right wd h f (mBelow ps y h) else y
def mFlY (ps : List P5) (least : Int32) : Int32 := match ps[ps.length - 1]? with
  | none => least
  | some z => imax least z.2.2.2.1
def mWide (c : zCS) (j : Nat) : Int32 := kP c j 2 + kSides c j
def mWhole (c : zCS) (j : Nat) : Int32 := mOver c j 8 + kP c j 3 + mOver c j 9
def mFlA (c : zCS) (ps : List P5) (j : Nat) (least left right : Int32) : Int32 := mFlGo ps left right (mWide c j) (imax 1 (mWhole c j)) 25 (mFlY ps least)
def mFlX (c : zCS) (ps : List P5) (j : Nat) (left right y : Int32) : Int32 := if kF c j 16 = 108 then mLeft ps left y (imax 1 (mWhole c j)) else mRight ps right y (imax 1 (mWhole c j)) - mWide c j
def mFl2 (c : zCS) (ps : List P5) (j : Nat) (x y : Int32) : zCS × List P5 :=
  (kSetP (kSetP c j 0 (x + kF c j 10)) j 1 (y + mOver c j 8), ps ++ [(kF c j 16, x, x + mWide c j, y, y + mWhole c j)])
/-- a box just laid is put beside -/
def mFl1 (c : zCS) (ps : List P5) (j : Nat) (least left right : Int32) : zCS × List P5 := mFl2 c ps j (mFlX c ps j left right (mFlA c ps j least left right)) (mFlA c ps j least left right)
def mFloats (L : LM) (s : MT) (ps : List P5) (j : Nat) (least left right : Int32) (b : Bool) : MT × List P5 :=
  (((mFl1 (L s j (cFit s.1 j (imax 0 (right - left) - kSides s.1 j)) b).1 ps j least left right).1, (L s j (cFit s.1 j (imax 0 (right - left) - kSides s.1 j)) b).2), (mFl1 (L s j (cFit s.1 j (imax 0 (right - left) - kSides s.1 j)) b).1 ps j least left right).2)
theorem MQe.Fl1 (c : zCS) (ps : List P5) (j : Nat) (a b d : Int32) : MQe c (mFl1 c ps j a b d).1 := (MQe.setP _ _ _ _).trans (MQe.setP _ _ _ _)
abbrev SMF (fa : Nat) : Nat → Prop := fun s => SM s ∨ s = dT fa ∨ s = dT fa + 1
theorem PsS.add {G : zG} {σ σ1 : zT} {fa q m : Nat} {mod : Int32} {xs : List Nat} {fs : List P5} {z : P5} (hw : zGd G σ) (hlen : xs.length = fs.length) (h24 : fs.length < 24) (hfs : Ps24 G σ xs fs)
    (hq : sF σ q = some (.inr (13, pV z))) (hqt : sT σ q = 0) (hz : z.1 = 110 ∨ z.1 = 108 ∨ z.1 = 114) (hX : zX G (fun s => s = dT fa ∨ s = dT fa + 1) σ σ1 m) (hL : zL G σ1 (dT fa) fa mod (xs ++ [q])) : PsS G σ1 fa (fs ++ [z]) := by
  have h0 : ¬ (0 = dT fa ∨ 0 = dT fa + 1) := by unfold dT; omega
  refine ⟨_, _, hL, by rw [List.length_append, List.length_append, hlen]; rfl, by rw [List.length_append, List.length_singleton]; omega, fun j p u hp hu => ?_⟩
  have ht : ∀ p, (sF σ p = some (.inr (13, pV u)) ∧ sT σ p = 0 ∧ (u.1 = 110 ∨ u.1 = 108 ∨ u.1 = 114)) → sF σ1 p = some (.inr (13, pV u)) ∧ sT σ1 p = 0 ∧ (u.1 = 110 ∨ u.1 = 108 ∨ u.1 = 114) := fun p ⟨m1, m2, m3⟩ => ⟨hX.f hw m1 (by rw [m2]; exact h0), (hX.t hw m1).trans m2, m3⟩
  by_cases hj : j < xs.length
  · rw [List.getElem?_append_left hj] at hp
    rw [List.getElem?_append_left (by omega)] at hu
    exact ht p (hfs j p u hp hu)
  · have hj1 : j = xs.length := by
      have := (List.getElem?_eq_some_iff.mp hp).1
      rw [List.length_append, List.length_singleton] at this
      omega
    subst hj1
    rw [List.getElem?_append_right (Nat.le_refl _), Nat.sub_self] at hp
    rw [hlen, List.getElem?_append_right (Nat.le_refl _), Nat.sub_self] at hu
    cases hp
    cases hu
    exact ht q ⟨hq, hqt, hz⟩
theorem zX.dynM {G : zG} {σ σ1 σ2 : zT} {n m fa : Nat} (hw : zGd G σ) (h : zX G SM σ σ1 n) (h2 : zX G (SMF fa) σ1 σ2 m) (hf : sZ σ ≤ fa) : zX G SM σ σ2 (n + m) :=
  ⟨⟨Nat.le_trans h.1.1 h2.1.1, fun a ha => by
    have a1 := h.1.2 a ha
    have a2 := h2.1.2 a (Nat.lt_of_lt_of_le ha h.1.1)
    have a3 := hw.2.2.2 a ha
    exact ⟨a2.1.trans a1.1, fun hs => (a2.2 (by
      rw [a1.1]
      intro h9
      rcases h9 with h9 | h9 | h9
      · exact hs h9
      · unfold dT at h9; omega
      · unfold dT at h9; omega)).trans (a1.2 hs)⟩⟩, h2.2.1, h.2.2.1.trans h2.2.2.1, by have := h.2.2.2; have := h2.2.2.2; omega⟩
set_option maxHeartbeats 4000000 in
theorem l_X4_floats {G : zG} {σ : zT} {d : Nat} {c : zCS} {j fa : Nat} {least left right wd wh h : Int32} {b : Bool} {ps : List P5} {Q : zO → zT → Prop} (hd : 10 ≤ d) (hG : zOk G) (hw : zGd G σ) (hPs : PsS G σ fa ps) : ∀ (f n : Nat) (y : Int32) (σ1 : zT), nAp ps y < f → zX G S0 σ σ1 n → (∀ σ2, zX G S0 σ σ2 (n + 32 * f) → zR G yX4_floats cX4_floats 12 (Option.none : Option Jvm.ClassFile.FieldType) [] d 156 [(0, .ref (kA c 1)), (1, .ref (kA c (rB j))), (2, .int least), (3, .int left), (4, .int right), (5, .ref fa), (6, .int (bI b)), (7, .int wd), (8, .int wh), (9, .int h), (10, .int (mFlGo ps left right wd h f y))] [] σ2 Q) → zR G yX4_floats cX4_floats 12 (Option.none : Option Jvm.ClassFile.FieldType) [] d 101 [(0, .ref (kA c 1)), (1, .ref (kA c (rB j))), (2, .int least), (3, .int left), (4, .int right), (5, .ref fa), (6, .int (bI b)), (7, .int wd), (8, .int wh), (9, .int h), (10, .int y)] [] σ1 Q := by
  intro f
  induction f with
  | zero => intro n y σ1 h; omega
  | succ f ih =>
    intro n y σ1 hf hX kQ
    have hP1 := hPs.keep0 hw hX
    obtain ⟨_, σa, ⟨rfl, hXa⟩, hCa⟩ := c_X4_rightEdge (e := right) (y := y) (h := h) (d := d - 1) (by omega) hG hX.gd hP1
    have hPa := hP1.keep0 hX.gd hXa
    obtain ⟨_, σb, ⟨rfl, hXb⟩, hCb⟩ := c_X4_leftEdge (e := left) (y := y) (h := h) (d := d - 1) (by omega) hG hXa.gd hPa
    have hPb := hPa.keep0 hXa.gd hXb
    have hXab := (hX.trans hXa).trans hXb
    refine zr_iload dX4_floats_101 rfl ?_
    refine zr_aload dX4_floats_103 rfl ?_
    refine zr_iload dX4_floats_105 rfl ?_
    refine zr_iload dX4_floats_107 rfl ?_
    refine zr_iload dX4_floats_109 rfl ?_
    refine zr_call1 (rest := [.int wd]) (zs_S (As := [.ref fa, .int right, .int y, .int h]) (by omega) ok_X4_rightEdge q2396 q2397 q77 q2398 rfl rfl (Nat.le_of_ble_eq_true rfl) dX4_floats_111) hCa ?_
    refine zr_aload dX4_floats_114 rfl ?_
    refine zr_iload_n dX4_floats_116 rfl rfl ?_
    refine zr_iload dX4_floats_117 rfl ?_
    refine zr_iload dX4_floats_119 rfl ?_
    refine zr_call1 (rest := [.int (mRight ps right y h), .int wd]) (zs_S (As := [.ref fa, .int left, .int y, .int h]) (by omega) ok_X4_leftEdge q2418 q2419 q77 q2420 rfl rfl (Nat.le_of_ble_eq_true rfl) dX4_floats_121) hCb ?_
    refine zr_isub dX4_floats_124 ?_
    refine zr_icmp_le (tgt := 156) dX4_floats_125 (by decide) (fun h1 => ?_) (fun h1 => ?_)
    · have e9 : mFlGo ps left right wd h (f + 1) y = y := if_neg (fun h9 => by first | exact absurd h9.1 (Int32.not_lt.mpr h1) | exact h1 h9.1)
      rw [e9] at kQ
      exact kQ σb (hXab.le (by omega))
    · obtain ⟨_, σc, ⟨rfl, hXc⟩, hCc⟩ := c_X4_below (y := y) (h := h) (d := d - 1) (by omega) hG hXb.gd hPb
      have hPc := hPb.keep0 hXb.gd hXc
      refine zr_aload dX4_floats_128 rfl ?_
      refine zr_iload dX4_floats_130 rfl ?_
      refine zr_iload dX4_floats_132 rfl ?_
      refine zr_call1 (rest := []) (zs_S (As := [.ref fa, .int y, .int h]) (by omega) ok_X4_below q2425 q2426 q77 q2427 rfl rfl (Nat.le_of_ble_eq_true rfl) dX4_floats_134) hCc ?_
      refine zr_iload dX4_floats_137 rfl ?_
      refine zr_icmp_le (tgt := 156) dX4_floats_139 (by decide) (fun h2 => ?_) (fun h2 => ?_)
      · have e9 : mFlGo ps left right wd h (f + 1) y = y := if_neg (fun h9 => by first | exact absurd h9.2 (Int32.not_lt.mpr h2) | exact h2 h9.2)
        rw [e9] at kQ
        exact kQ σc ((hXab.trans hXc).le (by omega))
      · have hlow : y < mBelow ps y h := by first | exact h2 | exact Int32.not_le.mp h2
        have hlt9 := bel_less hlow
        have e9 : mFlGo ps left right wd h (f + 1) y = mFlGo ps left right wd h f (mBelow ps y h) := if_pos ⟨by first | exact h1 | exact Int32.not_le.mp h1, hlow⟩
        rw [e9] at kQ
        obtain ⟨_, σd, ⟨rfl, hXd⟩, hCd⟩ := c_X4_below (y := y) (h := h) (d := d - 1) (by omega) hG hXc.gd hPc
        refine zr_aload dX4_floats_142 rfl ?_
        refine zr_iload dX4_floats_144 rfl ?_
        refine zr_iload dX4_floats_146 rfl ?_
        refine zr_call1 (rest := []) (zs_S (As := [.ref fa, .int y, .int h]) (by omega) ok_X4_below q2425 q2426 q77 q2427 rfl rfl (Nat.le_of_ble_eq_true rfl) dX4_floats_148) hCd ?_
        refine zr_istore (ls2 := [(0, .ref (kA c 1)), (1, .ref (kA c (rB j))), (2, .int least), (3, .int left), (4, .int right), (5, .ref fa), (6, .int (bI b)), (7, .int wd), (8, .int wh), (9, .int h), (10, .int (mBelow ps y h))]) dX4_floats_151 (Nat.le_of_ble_eq_true rfl) rfl ?_
        refine zr_goto (tgt := 101) dX4_floats_153 (by decide) ?_
        exact ih (n + 32) _ σd (by omega) (((hXab.trans hXc).trans hXd).le (by omega)) (fun σ2 x2 => kQ σ2 (x2.le (by omega)))
set_option maxHeartbeats 4000000 in
theorem c_X4_floats {G : zG} {σ : zT} {d : Nat} {c : zCS} {th ct : Int32} {j fa f : Nat} {least left right : Int32} {b : Bool} {ps : List P5} {L : LM} (hd : 80 ≤ d) (hG : zOk G) (hw : zGd G σ) (hS : MSys G σ c th ct) (hj : j < kN c) (hf : kN c ≤ f + j) (hPs : PsS G σ fa ps) (h24 : ps.length < 24) (hLM : HLM G th L f (d - 1)) : zCall G I_X4_floats d [.ref (kA c 1), .ref (kA c (rB j)), .int least, .int left, .int right, .ref fa, .int (bI b)] σ ((fun o σ' => o = .inl none ∧ MSys G σ' (mFloats L (c, ct) ps j least left right b).1.1 th (mFloats L (c, ct) ps j least left right b).1.2 ∧ PsS G σ' fa (mFloats L (c, ct) ps j least left right b).2 ∧ zX G (SMF fa) σ σ' (1000 + 2 * KW 24 c j + LB f c j))) := by
  refine zCall_of (ls := [(0, .ref (kA c 1)), (1, .ref (kA c (rB j))), (2, .int least), (3, .int left), (4, .int right), (5, .ref fa), (6, .int (bI b))]) (by decide) (Nat.le_of_ble_eq_true rfl) rfl ?_
  have hle := hS.le
  obtain ⟨_, σ1, ⟨rfl, hX1⟩, hC1⟩ := c_X4_fits (wd := imax 0 (right - left) - kSides c j) (d := d - 1) (by omega) hG hw hS hj
  have hS1 := hS.keep0 hw hX1
  obtain ⟨v, hv⟩ : ∃ v, v = cFit c j (imax 0 (right - left) - kSides c j) := ⟨_, rfl⟩
  rw [← hv] at hC1
  obtain ⟨_, σ2, ⟨rfl, hS2, hX2⟩, hC2⟩ := hLM.2 σ1 (c, ct) j v b hX1.gd hS1 hj hf
  have hX2 : zX G SM σ1 σ2 (LB f c j) := hX2
  have hE2 := hLM.1 (c, ct) j v b
  obtain ⟨s2, hs2⟩ : ∃ s2, s2 = L (c, ct) j v b := ⟨_, rfl⟩
  have hfl : mFloats L (c, ct) ps j least left right b = (((mFl1 s2.1 ps j least left right).1, s2.2), (mFl1 s2.1 ps j least left right).2) := by rw [hs2, hv]; rfl
  rw [← hs2] at hS2 hE2
  rw [hfl]
  have hj2 : j < kN s2.1 := by rw [hE2.n]; exact hj
  have hX02 := hX1.in.trans hX2
  have hbF2 : sF σ2 (kA c (rB j)) = some (.inr (5, mBx s2.1 j)) := hE2.2 ▸ hS2.bF hj2
  have hbj2 : zAt G σ2 (kA c (rB j)) (.inr (5, mBx s2.1 j)) := .new hbF2
  have hsd2 : zC G I_X5_sides (d - 1) [.ref (kA c (rB j))] σ2 (.inl (some (.int (kSides s2.1 j)))) σ2 := hE2.2 ▸ c_X5_sides hS2 hj2
  have hov2 : zC G I_X5_over (d - 1) [.ref (kA c (rB j))] σ2 (.inl (some (.int (mOver s2.1 j 8)))) σ2 := hE2.2 ▸ c_X5_over hS2 hj2
  have hun2 : zC G I_X5_under (d - 1) [.ref (kA c (rB j))] σ2 (.inl (some (.int (mOver s2.1 j 9)))) σ2 := hE2.2 ▸ c_X5_under hS2 hj2
  have hPs2 : PsS G σ2 fa ps := (hPs.keep0 hw hX1).keepM hX1.gd hX2
  obtain ⟨mod, xs, l1, l2, l3, l4⟩ := id hPs2
  obtain ⟨fl, hfl9⟩ := l1.A
  refine zr_aload_n dX4_floats_0 rfl rfl ?_
  refine zr_aload_n dX4_floats_1 rfl rfl ?_
  refine zr_aload_n dX4_floats_2 rfl rfl ?_
  refine zr_iconst (v := 0) dX4_floats_3 (by decide) ?_
  refine zr_iload dX4_floats_4 rfl ?_
  refine zr_iload_n dX4_floats_6 rfl rfl ?_
  refine zr_isub dX4_floats_7 ?_
  refine zr_max (by omega) q2329 q376 q60 q377 (Nat.le_of_ble_eq_true rfl) dX4_floats_8 ?_
  refine zr_aload_n dX4_floats_11 rfl rfl ?_
  refine zr_call1 (rest := [.int (imax 0 (right - left)), .ref (kA c (rB j)), .ref (kA c (rB j)), .ref (kA c 1)]) (zs_V (As := []) (by omega) ok_X5_sides q2337 q2338 q2339 q78 q2340 rfl (hS.bx hj) rfl rfl rfl (Nat.le_of_ble_eq_true rfl) dX4_floats_12) (c_X5_sides hS hj) ?_
  refine zr_isub dX4_floats_15 ?_
  refine zr_call1 (rest := [.ref (kA c (rB j)), .ref (kA c 1)]) (zs_S (As := [.ref (kA c (rB j)), .int ((imax 0 (right - left)) - (kSides c j))]) (by omega) ok_X4_fits q2373 q2374 q77 q2375 rfl rfl (Nat.le_of_ble_eq_true rfl) dX4_floats_16) hC1 ?_
  refine zr_iload dX4_floats_19 rfl ?_
  refine zr_callv (rest := []) (zs_V (As := [.ref (kA c (rB j)), .int v, .int (bI b)]) (by omega) ok_X4_lays q2349 q2351 qs39 q77 q2352 rfl hS1.one rfl rfl rfl (Nat.le_of_ble_eq_true rfl) dX4_floats_21) hC2 ?_
  refine zr_aload_n dX4_floats_24 rfl rfl ?_
  refine zr_get (k := 29) (v := .int (kP s2.1 j 2)) in_X5 hbj2 rfl (Nat.le_of_ble_eq_true rfl) q2151 (.inl rfl) rfl dX4_floats_25 ?_
  refine zr_aload_n dX4_floats_28 rfl rfl ?_
  refine zr_call1 (rest := [.int (kP s2.1 j 2)]) (zs_V (As := []) (by omega) ok_X5_sides q2337 q2338 q2339 q78 q2340 rfl hbj2 rfl rfl rfl (Nat.le_of_ble_eq_true rfl) dX4_floats_29) hsd2 ?_
  refine zr_iadd dX4_floats_32 ?_
  refine zr_istore (ls2 := [(0, .ref (kA c 1)), (1, .ref (kA c (rB j))), (2, .int least), (3, .int left), (4, .int right), (5, .ref fa), (6, .int (bI b)), (7, .int ((kP s2.1 j 2) + (kSides s2.1 j)))]) dX4_floats_33 (Nat.le_of_ble_eq_true rfl) rfl ?_
  refine zr_aload_n dX4_floats_35 rfl rfl ?_
  refine zr_call1 (rest := []) (zs_V (As := []) (by omega) ok_X5_over q2377 q2378 q2379 q78 q2380 rfl hbj2 rfl rfl rfl (Nat.le_of_ble_eq_true rfl) dX4_floats_36) hov2 ?_
  refine zr_aload_n dX4_floats_39 rfl rfl ?_
  refine zr_get (k := 30) (v := .int (kP s2.1 j 3)) in_X5 hbj2 rfl (Nat.le_of_ble_eq_true rfl) q2153 (.inl rfl) rfl dX4_floats_40 ?_
  refine zr_iadd dX4_floats_43 ?_
  refine zr_aload_n dX4_floats_44 rfl rfl ?_
  refine zr_call1 (rest := [.int ((mOver s2.1 j 8) + (kP s2.1 j 3))]) (zs_V (As := []) (by omega) ok_X5_under q2381 q2382 q2383 q78 q2384 rfl hbj2 rfl rfl rfl (Nat.le_of_ble_eq_true rfl) dX4_floats_45) hun2 ?_
  refine zr_iadd dX4_floats_48 ?_
  refine zr_istore (ls2 := [(0, .ref (kA c 1)), (1, .ref (kA c (rB j))), (2, .int least), (3, .int left), (4, .int right), (5, .ref fa), (6, .int (bI b)), (7, .int ((kP s2.1 j 2) + (kSides s2.1 j))), (8, .int (((mOver s2.1 j 8) + (kP s2.1 j 3)) + (mOver s2.1 j 9)))]) dX4_floats_49 (Nat.le_of_ble_eq_true rfl) rfl ?_
  refine zr_iconst (v := 1) dX4_floats_51 (by decide) ?_
  refine zr_iload dX4_floats_52 rfl ?_
  refine zr_max (by omega) q2329 q376 q60 q377 (Nat.le_of_ble_eq_true rfl) dX4_floats_54 ?_
  refine zr_istore (ls2 := [(0, .ref (kA c 1)), (1, .ref (kA c (rB j))), (2, .int least), (3, .int left), (4, .int right), (5, .ref fa), (6, .int (bI b)), (7, .int ((kP s2.1 j 2) + (kSides s2.1 j))), (8, .int (((mOver s2.1 j 8) + (kP s2.1 j 3)) + (mOver s2.1 j 9))), (9, .int (imax 1 (((mOver s2.1 j 8) + (kP s2.1 j 3)) + (mOver s2.1 j 9))))]) dX4_floats_57 (Nat.le_of_ble_eq_true rfl) rfl ?_
  refine zr_aload dX4_floats_59 rfl ?_
  have hw9 : mWide s2.1 j = kP s2.1 j 2 + kSides s2.1 j := rfl
  have hh9 : mWhole s2.1 j = mOver s2.1 j 8 + kP s2.1 j 3 + mOver s2.1 j 9 := rfl
  show zR G yX4_floats cX4_floats 12 (Option.none : Option Jvm.ClassFile.FieldType) [] d 61 [(0, .ref (kA c 1)), (1, .ref (kA c (rB j))), (2, .int least), (3, .int left), (4, .int right), (5, .ref fa), (6, .int (bI b)), (7, .int (mWide s2.1 j)), (8, .int (mWhole s2.1 j)), (9, .int (imax 1 (mWhole s2.1 j)))] [.ref fa] σ2 _
  refine zr_call51 (rest := []) (zs_F (As := []) (by omega) okF_J2_isEmpty (by decide +kernel) q2386 q1523 q1525 q56 q1527 hfl9 rfl rfl rfl (Nat.le_of_ble_eq_true rfl) dX4_floats_61) (c_J2_isEmpty (by omega) l1) ?_
  have key99 : zR G yX4_floats cX4_floats 12 (Option.none : Option Jvm.ClassFile.FieldType) [] d 99 [(0, .ref (kA c 1)), (1, .ref (kA c (rB j))), (2, .int least), (3, .int left), (4, .int right), (5, .ref fa), (6, .int (bI b)), (7, .int (mWide s2.1 j)), (8, .int (mWhole s2.1 j)), (9, .int (imax 1 (mWhole s2.1 j)))] [.int (mFlY ps least)] σ2 (fun o σ' => o = .inl none ∧ MSys G σ' (mFl1 s2.1 ps j least left right).1 th s2.2 ∧ PsS G σ' fa (mFl1 s2.1 ps j least left right).2 ∧ zX G (SMF fa) σ σ' (1000 + 2 * KW 24 c j + LB f c j)) := by
    refine zr_istore (ls2 := [(0, .ref (kA c 1)), (1, .ref (kA c (rB j))), (2, .int least), (3, .int left), (4, .int right), (5, .ref fa), (6, .int (bI b)), (7, .int (mWide s2.1 j)), (8, .int (mWhole s2.1 j)), (9, .int (imax 1 (mWhole s2.1 j))), (10, .int (mFlY ps least))]) dX4_floats_99 (Nat.le_of_ble_eq_true rfl) rfl ?_
    obtain ⟨A, hA⟩ : ∃ A, A = mFlA s2.1 ps j least left right := ⟨_, rfl⟩
    refine l_X4_floats (ps := ps) (σ := σ2) (by omega) hG hX2.gd hPs2 25 0 _ σ2 (Nat.lt_succ_of_le (Nat.le_trans (nAp_le ps _) l3)) (zX.rf _ hX2.gd 0) (fun σ3 hX3 => ?_)
    have eA : mFlGo ps left right (mWide s2.1 j) (imax 1 (mWhole s2.1 j)) 25 (mFlY ps least) = A := hA.symm
    rw [eA]
    have hS3 := hS2.keep0 hX2.gd hX3
    have hPs3 := hPs2.keep0 hX2.gd hX3
    have hbF3 : sF σ3 (kA c (rB j)) = some (.inr (5, mBx s2.1 j)) := hE2.2 ▸ hS3.bF hj2
    have hbj3 : zAt G σ3 (kA c (rB j)) (.inr (5, mBx s2.1 j)) := .new hbF3
    have h1r : mFl1 s2.1 ps j least left right = mFl2 s2.1 ps j (mFlX s2.1 ps j left right A) A := by unfold mFl1; rw [← hA]
    rw [h1r]
    have key192 : ∀ (X : Int32) (σ4 : zT), X = mFlX s2.1 ps j left right A → zX G S0 σ3 σ4 8 → zR G yX4_floats cX4_floats 12 (Option.none : Option Jvm.ClassFile.FieldType) [] d 192 [(0, .ref (kA c 1)), (1, .ref (kA c (rB j))), (2, .int least), (3, .int left), (4, .int right), (5, .ref fa), (6, .int (bI b)), (7, .int (mWide s2.1 j)), (8, .int (mWhole s2.1 j)), (9, .int (imax 1 (mWhole s2.1 j))), (10, .int A)] [.int X] σ4 (fun o σ' => o = .inl none ∧ MSys G σ' (mFl2 s2.1 ps j (mFlX s2.1 ps j left right A) A).1 th s2.2 ∧ PsS G σ' fa (mFl2 s2.1 ps j (mFlX s2.1 ps j left right A) A).2 ∧ zX G (SMF fa) σ σ' (1000 + 2 * KW 24 c j + LB f c j)) := by
      intro X σ4 hXx hX4
      rw [← hXx]
      have hS4 := hS3.keep0 hX3.gd hX4
      have hPs4 := hPs3.keep0 hX3.gd hX4
      have hbF4 : sF σ4 (kA c (rB j)) = some (.inr (5, mBx s2.1 j)) := hE2.2 ▸ hS4.bF hj2
      have hbj4 : zAt G σ4 (kA c (rB j)) (.inr (5, mBx s2.1 j)) := .new hbF4
      have hX04 := (hX02.trans hX3.in).trans hX4.in
      have hS5 : MSys G (sUp σ4 (kA c (rB j)) (.inr (5, mBx (kSetP s2.1 j 0 (X + kF s2.1 j 10)) j))) (kSetP s2.1 j 0 (X + kF s2.1 j 10)) th s2.2 := hE2.2 ▸ hS4.setP (k := 0) hj2 _
      have hX45 : zX G SM σ4 (sUp σ4 (kA c (rB j)) (.inr (5, mBx (kSetP s2.1 j 0 (X + kF s2.1 j 10)) j))) 0 := hE2.2 ▸ hS4.XB hX4.gd hj2 _
      generalize hσ5 : sUp σ4 (kA c (rB j)) (.inr (5, mBx (kSetP s2.1 j 0 (X + kF s2.1 j 10)) j)) = σ5 at hS5 hX45
      have hbF5 : sF σ5 (kA c (rB j)) = some (.inr (5, mBx (kSetP s2.1 j 0 (X + kF s2.1 j 10)) j)) := hE2.2 ▸ hS5.bF hj2
      have hbj5 : zAt G σ5 (kA c (rB j)) (.inr (5, mBx (kSetP s2.1 j 0 (X + kF s2.1 j 10)) j)) := .new hbF5
      have hov9 : zC G I_X5_over (d - 1) [.ref (kA (kSetP s2.1 j 0 (X + kF s2.1 j 10)) (rB j))] σ5 (.inl (some (.int (mOver (kSetP s2.1 j 0 (X + kF s2.1 j 10)) j 8)))) σ5 := c_X5_over hS5 hj2
      have hov8 : zC G I_X5_over (d - 1) [.ref (kA s2.1 (rB j))] σ5 (.inl (some (.int (mOver s2.1 j 8)))) σ5 := hov9
      have hov5 : zC G I_X5_over (d - 1) [.ref (kA c (rB j))] σ5 (.inl (some (.int (mOver s2.1 j 8)))) σ5 := hE2.2 ▸ hov8
      have hS6 : MSys G (sUp σ5 (kA c (rB j)) (.inr (5, mBx (kSetP (kSetP s2.1 j 0 (X + kF s2.1 j 10)) j 1 (A + mOver s2.1 j 8)) j))) (kSetP (kSetP s2.1 j 0 (X + kF s2.1 j 10)) j 1 (A + mOver s2.1 j 8)) th s2.2 := hE2.2 ▸ hS5.setP (k := 1) hj2 _
      have hX56 : zX G SM σ5 (sUp σ5 (kA c (rB j)) (.inr (5, mBx (kSetP (kSetP s2.1 j 0 (X + kF s2.1 j 10)) j 1 (A + mOver s2.1 j 8)) j))) 0 := hE2.2 ▸ hS5.XB hX45.gd hj2 _
      generalize hσ6 : sUp σ5 (kA c (rB j)) (.inr (5, mBx (kSetP (kSetP s2.1 j 0 (X + kF s2.1 j 10)) j 1 (A + mOver s2.1 j 8)) j)) = σ6 at hS6 hX56
      have hbj6 : zAt G σ6 (kA c (rB j)) (.inr (5, mBx (kSetP (kSetP s2.1 j 0 (X + kF s2.1 j 10)) j 1 (A + mOver s2.1 j 8)) j)) := hE2.2 ▸ hS6.bx (i := j) hj2
      have hX46 := hX45.trans hX56
      have hPs6 := hPs4.keepM hX4.gd hX46
      obtain ⟨mod6, xs6, m1, m2, m3, m4⟩ := hPs6
      obtain ⟨fl6, hfl6⟩ := m1.A
      have hsv : kF s2.1 j 16 = 110 ∨ kF s2.1 j 16 = 108 ∨ kF s2.1 j 16 = 114 := hS2.val hj2 16
      refine zr_istore (ls2 := [(0, .ref (kA c 1)), (1, .ref (kA c (rB j))), (2, .int least), (3, .int left), (4, .int right), (5, .ref fa), (6, .int (bI b)), (7, .int (mWide s2.1 j)), (8, .int (mWhole s2.1 j)), (9, .int (imax 1 (mWhole s2.1 j))), (10, .int A), (11, .int X)]) dX4_floats_192 (Nat.le_of_ble_eq_true rfl) rfl ?_
      refine zr_aload_n dX4_floats_194 rfl rfl ?_
      refine zr_iload dX4_floats_195 rfl ?_
      refine zr_aload_n dX4_floats_197 rfl rfl ?_
      refine zr_get (k := 11) (v := .int (kF s2.1 j 10)) in_X5 hbj4 rfl (Nat.le_of_ble_eq_true rfl) q2115 (.inl rfl) rfl dX4_floats_198 ?_
      refine zr_iadd dX4_floats_201 ?_
      refine zr_put (k := 27) (fs' := (mBx (kSetP s2.1 j 0 (X + kF s2.1 j 10)) j)) zt_X5 hbF4 rfl (Nat.le_of_ble_eq_true rfl) q2147 (.inl rfl) rfl rfl rfl (Nat.le_of_ble_eq_true rfl) (mBx_P0 _ _ _) dX4_floats_202 ?_
      rw [hσ5]
      refine zr_aload_n dX4_floats_205 rfl rfl ?_
      refine zr_iload dX4_floats_206 rfl ?_
      refine zr_aload_n dX4_floats_208 rfl rfl ?_
      refine zr_call1 (rest := [.int A, .ref (kA c (rB j))]) (zs_V (As := []) (by omega) ok_X5_over q2377 q2378 q2379 q78 q2380 rfl hbj5 rfl rfl rfl (Nat.le_of_ble_eq_true rfl) dX4_floats_209) hov5 ?_
      refine zr_iadd dX4_floats_212 ?_
      refine zr_put (k := 28) (fs' := (mBx (kSetP (kSetP s2.1 j 0 (X + kF s2.1 j 10)) j 1 (A + mOver s2.1 j 8)) j)) zt_X5 hbF5 rfl (Nat.le_of_ble_eq_true rfl) q2149 (.inl rfl) rfl rfl rfl (Nat.le_of_ble_eq_true rfl) (mBx_P1 _ _ _) dX4_floats_213 ?_
      rw [hσ6]
      refine zr_aload dX4_floats_216 rfl ?_
      refine zr_new (ci := 13) (0) zt_X13 q2391 q2430 q98 rfl df_X13 dX4_floats_218 ?_
      have hXn := zX.new S0 hX46.gd 0 (by omega) (.inr (13, d0_X13)) 5
      have hbj7 := hXn.at hX46.gd hbj6 (fun h => h)
      refine zr_dup dX4_floats_221 rfl ?_
      refine zr_aload_n dX4_floats_222 rfl rfl ?_
      refine zr_get (k := 20) (v := .int (kF s2.1 j 16)) in_X5 hbj7 rfl (Nat.le_of_ble_eq_true rfl) q2133 (.inl rfl) rfl dX4_floats_223 ?_
      refine zr_iload dX4_floats_226 rfl ?_
      refine zr_iload dX4_floats_228 rfl ?_
      refine zr_iload dX4_floats_230 rfl ?_
      refine zr_iadd dX4_floats_232 ?_
      refine zr_iload dX4_floats_233 rfl ?_
      refine zr_iload dX4_floats_235 rfl ?_
      refine zr_iload dX4_floats_237 rfl ?_
      refine zr_iadd dX4_floats_239 ?_
      refine zr_callv (rest := [.ref (sZ σ6), .ref fa]) (zs_IN (As := [.int (kF s2.1 j 16), .int X, .int (X + (mWide s2.1 j)), .int A, .int (A + (mWhole s2.1 j))]) (by omega) ok_X13_init q2431 q2432 q98 q2433 rfl rfl rfl (Nat.le_of_ble_eq_true rfl) dX4_floats_240) (c_X13_init hsv (by omega) (sF_newS _ _ _ _)) ?_
      have hXu : zX G S0 σ6 (sUp (sNew σ6 0 (.inr (13, d0_X13)) 5) (sZ σ6) (.inr (13, pV (kF s2.1 j 16, X, X + mWide s2.1 j, A, A + mWhole s2.1 j)))) 9 := hXn.upN (sF_newS _ _ _ _) (Nat.le_refl _)
      have hqf : sF (sUp (sNew σ6 0 (.inr (13, d0_X13)) 5) (sZ σ6) (.inr (13, pV (kF s2.1 j 16, X, X + mWide s2.1 j, A, A + mWhole s2.1 j)))) (sZ σ6) = some (.inr (13, pV (kF s2.1 j 16, X, X + mWide s2.1 j, A, A + mWhole s2.1 j))) := sF_upS _ _ _
      have hqt : sT (sUp (sNew σ6 0 (.inr (13, d0_X13)) 5) (sZ σ6) (.inr (13, pV (kF s2.1 j 16, X, X + mWide s2.1 j, A, A + mWhole s2.1 j)))) (sZ σ6) = 0 := (show sT (sNew σ6 0 (.inr (13, d0_X13)) 5) (sZ σ6) = 0 from sT_newS _ _ _ _)
      show zR G yX4_floats cX4_floats 12 (Option.none : Option Jvm.ClassFile.FieldType) [] d 243 [(0, .ref (kA c 1)), (1, .ref (kA c (rB j))), (2, .int least), (3, .int left), (4, .int right), (5, .ref fa), (6, .int (bI b)), (7, .int (mWide s2.1 j)), (8, .int (mWhole s2.1 j)), (9, .int (imax 1 (mWhole s2.1 j))), (10, .int A), (11, .int X)] [.ref (sZ σ6), .ref fa] (sUp (sNew σ6 0 (.inr (13, d0_X13)) 5) (sZ σ6) (.inr (13, pV (kF s2.1 j 16, X, X + mWide s2.1 j, A, A + mWhole s2.1 j)))) _
      generalize hσ7 : sUp (sNew σ6 0 (.inr (13, d0_X13)) 5) (sZ σ6) (.inr (13, pV (kF s2.1 j 16, X, X + mWide s2.1 j, A, A + mWhole s2.1 j))) = σ7 at hXu hqf hqt ⊢
      generalize hq : sZ σ6 = q at hqf hqt ⊢
      have m7 := hXu.L hX46.gd m1 (fun h => h) (fun h => h)
      obtain ⟨fl7, hfl7⟩ := m7.A
      have hps7 : Ps24 G σ7 xs6 ps := fun j q z hq hz => by
        obtain ⟨b1, b2, b3⟩ := m4 j q z hq hz
        exact ⟨hXu.f hX46.gd b1 (fun h => h), (hXu.t hX46.gd b1).trans b2, b3⟩
      have hel : ∀ y9 : Nat, (∃ fs, zAt G σ7 y9 (.inr (13, fs))) → zEl G σ7 y9 := fun y9 ⟨fs, h⟩ => ⟨_, _, _, _, _, h, rfl, q2872⟩
      obtain ⟨_, σ8, ⟨rfl, hL8, hX8⟩, hC8⟩ := c_add (d := d - 1) (x := q) (by omega) hG hXu.gd m7 (by omega) (hel _ ⟨_, .new hqf⟩) (fun y9 hy9 => by
        obtain ⟨j9, hj9⟩ := List.mem_iff_getElem?.mp hy9
        have hlt : j9 < ps.length := by rw [← m2]; exact (List.getElem?_eq_some_iff.mp hj9).1
        exact hel _ ⟨_, .new (hps7 j9 y9 _ hj9 (List.getElem?_eq_getElem hlt)).1⟩)
      refine zr_call51 (rest := []) (zs_F (As := [.ref q]) (by omega) okF_J2_add (by decide +kernel) q2452 q355 q357 q56 q359 hfl7 rfl rfl rfl (Nat.le_of_ble_eq_true rfl) dX4_floats_243) hC8 ?_
      refine zr_pop dX4_floats_248 rfl ?_
      have hS7 := hS6.keep0 hX46.gd hXu
      have hS8 := hS7.keep hXu.gd hX8 (fun s h1 h2 h3 => by unfold dT at h3; omega)
      have hP8 := PsS.add (z := (kF s2.1 j 16, X, X + mWide s2.1 j, A, A + mWhole s2.1 j)) hXu.gd m2 h24 hps7 hqf hqt hsv hX8 hL8
      have hXa : zX G (SMF fa) σ σ6 _ := (hX04.trans hX46).mono (fun s h => Or.inl h)
      have hXb : zX G (SMF fa) σ σ8 _ := (hXa.trans hXu.in).trans (hX8.mono (fun s h => Or.inr h))
      exact zr_vret rfl dX4_floats_249 (⟨rfl, hS8, hP8, hXb.le (by omega)⟩)
    refine zr_aload_n dX4_floats_156 rfl rfl ?_
    refine zr_get (k := 20) (v := .int (kF s2.1 j 16)) in_X5 hbj3 rfl (Nat.le_of_ble_eq_true rfl) q2133 (.inl rfl) rfl dX4_floats_157 ?_
    refine zr_bipush (v := 108) dX4_floats_160 (by decide) ?_
    refine zr_icmp_ne (tgt := 178) dX4_floats_162 (by decide) (fun h1 => ?_) (fun h1 => ?_)
    · obtain ⟨_, σ4, ⟨rfl, hX4⟩, hC4⟩ := c_X4_rightEdge (e := right) (y := A) (h := imax 1 (mWhole s2.1 j)) (d := d - 1) (by omega) hG hX3.gd hPs3
      refine zr_aload dX4_floats_178 rfl ?_
      refine zr_iload dX4_floats_180 rfl ?_
      refine zr_iload dX4_floats_182 rfl ?_
      refine zr_iload dX4_floats_184 rfl ?_
      refine zr_call1 (rest := []) (zs_S (As := [.ref fa, .int right, .int A, .int (imax 1 (mWhole s2.1 j))]) (by omega) ok_X4_rightEdge q2396 q2397 q77 q2398 rfl rfl (Nat.le_of_ble_eq_true rfl) dX4_floats_186) hC4 ?_
      refine zr_iload dX4_floats_189 rfl ?_
      refine zr_isub dX4_floats_191 ?_
      exact key192 _ σ4 (by unfold mFlX; rw [if_neg h1]) hX4
    · obtain ⟨_, σ4, ⟨rfl, hX4⟩, hC4⟩ := c_X4_leftEdge (e := left) (y := A) (h := imax 1 (mWhole s2.1 j)) (d := d - 1) (by omega) hG hX3.gd hPs3
      refine zr_aload dX4_floats_165 rfl ?_
      refine zr_iload_n dX4_floats_167 rfl rfl ?_
      refine zr_iload dX4_floats_168 rfl ?_
      refine zr_iload dX4_floats_170 rfl ?_
      refine zr_call1 (rest := []) (zs_S (As := [.ref fa, .int left, .int A, .int (imax 1 (mWhole s2.1 j))]) (by omega) ok_X4_leftEdge q2418 q2419 q77 q2420 rfl rfl (Nat.le_of_ble_eq_true rfl) dX4_floats_172) hC4 ?_
      refine zr_goto (tgt := 192) dX4_floats_175 (by decide) ?_
      exact key192 _ σ4 (by unfold mFlX; rw [if_pos (by first | exact h1 | exact Decidable.not_not.mp h1)]) hX4
  refine zr_ifeqB (tgt := 73) dX4_floats_66 (by decide) (fun h1 => ?_) (fun h1 => ?_)
  · have hpl : 0 < ps.length := by
      cases ps with
      | nil => exfalso; have : xs = [] := List.eq_nil_of_length_eq_zero l2; rw [this] at h1; first | cases h1 | exact h1 rfl
      | cons => exact Nat.succ_pos _
    obtain ⟨q, hq⟩ : ∃ q, xs[ps.length - 1]? = some q := ⟨_, List.getElem?_eq_getElem (by omega)⟩
    obtain ⟨z, hz⟩ : ∃ z, ps[ps.length - 1]? = some z := ⟨_, List.getElem?_eq_getElem (by omega)⟩
    have hqz : zAt G σ2 q (.inr (13, pV z)) := .new (l4 _ q z hq hz).1
    have e9 : mFlY ps least = imax least z.2.2.2.1 := by unfold mFlY; rw [hz]
    rw [e9] at key99
    refine zr_iload_n dX4_floats_73 rfl rfl ?_
    refine zr_aload dX4_floats_74 rfl ?_
    refine zr_aload dX4_floats_76 rfl ?_
    refine zr_call51 (rest := [.ref fa, .int least]) (zs_F (As := []) (by omega) okF_J2_size (by decide +kernel) q2388 q162 q164 q56 q166 hfl9 rfl rfl rfl (Nat.le_of_ble_eq_true rfl) dX4_floats_78) (c_size (m := ps.length) (by omega) l1 l2) ?_
    refine zr_iconst (v := 1) dX4_floats_83 (by decide) ?_
    refine zr_isub dX4_floats_84 ?_
    rw [show nI ps.length - 1 = nI (ps.length - 1) from nI_sub (a := 1) (by omega)]
    refine zr_call51 (rest := [.int least]) (zs_F (As := [.int (nI (ps.length - 1))]) (by omega) okF_J2_get (by decide +kernel) q2390 q1106 q959 q56 q960 hfl9 rfl rfl rfl (Nat.le_of_ble_eq_true rfl) dX4_floats_85) (c_J2_get (by omega) hG l1 hq) ?_
    refine zr_castS hqz rfl q2391 dX4_floats_90 ?_
    refine zr_call1 (rest := [.int least]) (zs_V (As := []) (by omega) ok_X13_top q2392 q2393 q2394 q98 q2395 rfl hqz rfl rfl rfl (Nat.le_of_ble_eq_true rfl) dX4_floats_93) (c_X13_top hqz) ?_
    refine zr_max (by omega) q2329 q376 q60 q377 (Nat.le_of_ble_eq_true rfl) dX4_floats_96 ?_
    exact key99
  · have hps0 : ps = [] := by
      have h9 : xs = [] := List.isEmpty_iff.mp (by first | exact h1 | simpa using h1)
      exact List.eq_nil_of_length_eq_zero (by rw [← l2, h9]; rfl)
    have e9 : mFlY ps least = least := by rw [hps0]; rfl
    rw [e9] at key99
    refine zr_iload_n dX4_floats_69 rfl rfl ?_
    refine zr_goto (tgt := 99) dX4_floats_70 (by decide) ?_
    exact key99
