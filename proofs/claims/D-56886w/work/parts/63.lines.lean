/-! ===== the context: layLines (rows printed by tools/p63.py) ===== -/
/-- how many floats end below a place -/
def nAb : List F5 → Int32 → Nat
  | [], _ => 0
  | z :: r, t => nAb r t + (if t < fEnd z.2.1 z.2.2.2.1 then 1 else 0)
theorem nAb_cons (z : F5) (r : List F5) (t : Int32) : nAb (z :: r) t = nAb r t + (if t < fEnd z.2.1 z.2.2.2.1 then 1 else 0) := rfl
theorem nAb_le (fs : List F5) (top : Int32) : nAb fs top ≤ fs.length := by
  induction fs with
  | nil => exact Nat.le_refl _
  | cons z r ih => rw [nAb_cons, List.length_cons]; split <;> omega
theorem nAb_mono {a b : Int32} (hab : a < b) (fs : List F5) : nAb fs b ≤ nAb fs a := by
  induction fs with
  | nil => exact Nat.le_refl _
  | cons y r ih =>
    rw [nAb_cons, nAb_cons]
    by_cases hy : b < fEnd y.2.1 y.2.2.2.1
    · rw [if_pos hy, if_pos (Int32.lt_trans hab hy)]; omega
    · rw [if_neg hy]; omega
theorem nAb_lt {a b : Int32} (hab : a < b) {z : F5} (h1 : a < fEnd z.2.1 z.2.2.2.1) (h2 : ¬ b < fEnd z.2.1 z.2.2.2.1) (fs : List F5) (hz : z ∈ fs) : nAb fs b < nAb fs a := by
  induction fs with
  | nil => cases hz
  | cons y r ih =>
    rw [nAb_cons, nAb_cons]
    rcases List.mem_cons.mp hz with h | h
    · have := nAb_mono hab r
      rw [← h, if_neg h2, if_pos h1]; omega
    · have := ih h
      by_cases hy : b < fEnd y.2.1 y.2.2.2.1
      · rw [if_pos hy, if_pos (Int32.lt_trans hab hy)]; omega
      · rw [if_neg hy]; omega
theorem ed_next (top h : Int32) : ∀ (fs : List F5) (p : Int32 × Int32 × Int32), (fs.foldl (edS top h) p).2.2 = p.2.2 ∨ ∃ z, z ∈ fs ∧ fIn z.2.1 z.2.2.2.1 top (top + h) = true ∧ (fs.foldl (edS top h) p).2.2 = fEnd z.2.1 z.2.2.2.1 := by
  intro fs
  induction fs with
  | nil => intro p; exact Or.inl rfl
  | cons z r ih =>
    intro p
    rw [List.foldl_cons]
    rcases ih (edS top h p z) with h1 | ⟨z1, m1, m2, m3⟩
    · by_cases hz : fIn z.2.1 z.2.2.2.1 top (top + h) = true
      · have e : (edS top h p z).2.2 = imin p.2.2 (fEnd z.2.1 z.2.2.2.1) := by unfold edS; rw [if_pos hz]
        rw [h1, e]
        unfold imin
        split
        · first | exact Or.inl rfl | exact Or.inr ⟨z, List.mem_cons_self, hz, rfl⟩
        · first | exact Or.inl rfl | exact Or.inr ⟨z, List.mem_cons_self, hz, rfl⟩
      · have e : edS top h p z = p := if_neg hz
        rw [h1, e]
        exact Or.inl rfl
    · exact Or.inr ⟨z1, List.mem_cons_of_mem _ m1, m2, m3⟩
/-- a place too narrow: the next one has fewer floats below it -/
theorem ed_less {fs : List F5} {top h left right : Int32} (hn : (cEd fs top h left right).2.2 < 2147483647) : nAb fs (cEd fs top h left right).2.2 < nAb fs top := by
  unfold cEd at hn ⊢
  rcases ed_next top h fs (left, right, 2147483647) with h1 | ⟨z, m1, m2, m3⟩
  · rw [h1] at hn; exact absurd (show (2147483647 : Int32) < 2147483647 from hn) (by decide)
  · rw [m3]
    unfold fIn at m2
    have h2 : top < fEnd z.2.1 z.2.2.2.1 := of_decide_eq_true ((Bool.and_eq_true _ _).mp m2).2
    exact nAb_lt h2 h2 (fun h9 => Int32.lt_irrefl h9) fs m1
/-- the lines of a text: (lines, top) -/
def lyGo (fs : List F5) (al x y lf inner : Int32) : Nat → List Int32 → Int32 → List (Int32 × Int32 × Int32) → List (Int32 × Int32 × Int32) × Int32
  | 0, _, top, acc => (acc, top)
  | _ + 1, [], top, acc => (acc, top)
  | f + 1, w0 :: r, top, acc =>
    if (cEd fs top 10 lf (lf + inner)).2.1 - (cEd fs top 10 lf (lf + inner)).1 < w0 ∧ (cEd fs top 10 lf (lf + inner)).2.2 < 2147483647 then lyGo fs al x y lf inner f (w0 :: r) (cEd fs top 10 lf (lf + inner)).2.2 acc
    else lyGo fs al x y lf inner f ((w0 :: r).drop (lnGo ((cEd fs top 10 lf (lf + inner)).2.1 - (cEd fs top 10 lf (lf + inner)).1) r w0 1).2) (top + 10)
      (acc ++ [((cEd fs top 10 lf (lf + inner)).1 + lnShift al (imax 0 ((cEd fs top 10 lf (lf + inner)).2.1 - (cEd fs top 10 lf (lf + inner)).1 - (lnGo ((cEd fs top 10 lf (lf + inner)).2.1 - (cEd fs top 10 lf (lf + inner)).1) r w0 1).1)) - x, top - y, nI (lnGo ((cEd fs top 10 lf (lf + inner)).2.1 - (cEd fs top 10 lf (lf + inner)).1) r w0 1).2)])
/-- Lower.next() tells the place that Narrow told (to be proved: getCause is synchronized) -/
def zNext (G : zG) : Prop := ∀ (σ : zT) (d q n : Nat) (nx : Int32), 6 ≤ d → zGd G σ → sF σ q = some (.inr (10, [.ref n, .null, .null, .ref (zc G 5), .null, .int 0])) → zAt G σ n (.inr (8, [.null, .null, .null, .ref (zc G 4), .null, .int 0, .int nx])) → zC G I_X10_next d [.ref q] σ (.inl (some (.int nx))) σ
/-- the new list of lines -/
def LnS (G : zG) (σ : zT) (la o : Nat) (ls : List (Int32 × Int32 × Int32)) : Prop := ∃ (mod : Int32) (xs : List Nat), zL G σ (dT la) la mod xs ∧ xs.length = ls.length ∧ ∀ (j q : Nat) (z : Int32 × Int32 × Int32), xs[j]? = some q → ls[j]? = some z → sF σ q = some (.inr (11, [.int z.1, .int z.2.1, .int z.2.2])) ∧ sT σ q = o
theorem LnS.keep0 {G : zG} {σ σ1 : zT} {n la o : Nat} {ls : List (Int32 × Int32 × Int32)} (h : LnS G σ la o ls) (hw : zGd G σ) (hX : zX G S0 σ σ1 n) : LnS G σ1 la o ls := by
  obtain ⟨mod, xs, l1, l2, l3⟩ := h
  refine ⟨mod, xs, hX.L hw l1 (fun h => h) (fun h => h), l2, fun j q z hq hz => ?_⟩
  obtain ⟨m1, m2⟩ := l3 j q z hq hz
  exact ⟨hX.f hw m1 (fun h => h), (hX.t hw m1).trans m2⟩
set_option maxHeartbeats 4000000 in
theorem l_X7_layLines {G : zG} {σ : zT} {d : Nat} {c : zCS} {i cx ly fa p la N : Nat} {x y : Int32} {fs : List F5} {Q : zO → zT → Prop} (hNx : zNext G) (hd : 12 ≤ d) (hG : zOk G) (hw : zGd G σ) (hS : CSys G σ c) (hi : i < kN c) (hcx : zAt G σ cx (.inr (7, [.ref ly, .ref fa, .ref p]))) (hF : FlS G σ fa fs) (hla : sZ σ ≤ la) : ∀ (f : Nat) (ys : List Int32) (fst m : Nat) (top : Int32) (acc : List (Int32 × Int32 × Int32)) (σ1 : zT), (kWd c i).drop fst = ys → fst ≤ (kWd c i).length → 25 * ys.length + nAb fs top < f → acc.length + ys.length ≤ 20 → zX G S0 σ σ1 m → m + 200 * f ≤ N → LnS G σ1 la (rO i) acc → (∀ σ2 x6, zX G S0 σ σ2 N → LnS G σ2 la (rO i) (lyGo fs (kF c i 23) x y (x + kF c i 12) (kInner c i) f ys top acc).1 → (lyGo fs (kF c i 23) x y (x + kF c i 12) (kInner c i) f ys top acc).1.length ≤ 20 → zR G yX7_layLines cX7_layLines 8 (Option.none : Option Jvm.ClassFile.FieldType) [(34, 98, 101, 222)] d 113 [(0, .ref cx), (1, .ref (kA c (rB i))), (2, .int x), (3, .int y), (4, .ref la), (5, .int (lyGo fs (kF c i 23) x y (x + kF c i 12) (kInner c i) f ys top acc).2), (6, .int x6)] [] σ2 Q) → zR G yX7_layLines cX7_layLines 8 (Option.none : Option Jvm.ClassFile.FieldType) [(34, 98, 101, 222)] d 20 [(0, .ref cx), (1, .ref (kA c (rB i))), (2, .int x), (3, .int y), (4, .ref la), (5, .int top), (6, .int (nI fst))] [] σ1 Q := by
  intro f
  induction f with
  | zero => intro ys fst m top acc σ1 _ _ h; omega
  | succ f ih =>
    intro ys fst m top acc σ1 hy hk hf hac hX hN hLn kQ
    have hS1 := hS.keep0 hw hX
    have hF1 := hF.keep0 hw hX
    have hcx1 := hX.at hw hcx (fun h => h)
    have h20 := (hS.wd hi).1
    refine zr_iload dX7_layLines_20 rfl ?_
    refine zr_aload_n dX7_layLines_22 rfl rfl ?_
    refine zr_getN (k := 5) (v := .ref (kA c (rW i))) in_X2 (hS1.bx hi) rfl (Nat.le_of_ble_eq_true rfl) q240 (.inl rfl) rfl dX7_layLines_23 ?_
    refine zr_call51 (rest := [.int (nI fst)]) (zs_F (As := []) (by omega) okF_J2_size (by decide +kernel) q1349 q162 q164 q56 q166 (.new (hS1.wdL hi).choose_spec.choose_spec.choose_spec.1) rfl rfl rfl (Nat.le_of_ble_eq_true rfl) dX7_layLines_26) (c_size (by omega) (hS1.wdL hi) (List.length_map _)) ?_
    cases ys with
    | nil =>
      have hkl := drop_nil hy hk
      refine zr_icmp_ge (tgt := 113) dX7_layLines_31 (by decide) (fun _ => ?_) (fun h9 => absurd (by rw [hkl]; exact Int32.le_refl _) h9)
      exact kQ σ1 _ (hX.le (by omega)) hLn (by show acc.length ≤ 20; omega)
    | cons w0 r =>
      obtain ⟨hx, hy2, hkl, hm⟩ := drop_cons hy
      refine zr_icmp_ge (tgt := 113) dX7_layLines_31 (by decide) (fun h9 => absurd h9 (nI_ge hkl (by omega))) (fun _ => ?_)
      refine zr_aload_n dX7_layLines_34 rfl rfl ?_
      refine zr_aload_n dX7_layLines_35 rfl rfl ?_
      refine zr_iload dX7_layLines_36 rfl ?_
      refine zr_iload_n dX7_layLines_38 rfl rfl ?_
      refine zr_aload_n dX7_layLines_39 rfl rfl ?_
      refine zr_getN (k := 12) (v := .int (kF c i 12)) in_X2 (hS1.bx hi) rfl (Nat.le_of_ble_eq_true rfl) q258 (.inl rfl) rfl dX7_layLines_40 ?_
      refine zr_iadd dX7_layLines_43 ?_
      refine zr_iload dX7_layLines_44 rfl ?_
      obtain ⟨o1, σ2, ⟨hX1, hQ1⟩, hC⟩ := c_X7_line (left := x + kF c i 12) (top := top) (d := d - 1) (by omega) hG hX.gd hS1 hi hcx1 hF1 hy
      have hX2 := hX.trans hX1
      have hLn2 := hLn.keep0 hX.gd hX1
      by_cases hc : (cEd fs top 10 (x + kF c i 12) (x + kF c i 12 + kInner c i)).2.1 - (cEd fs top 10 (x + kF c i 12) (x + kF c i 12 + kInner c i)).1 < w0 ∧ (cEd fs top 10 (x + kF c i 12) (x + kF c i 12 + kInner c i)).2.2 < 2147483647
      · rw [if_pos hc] at hQ1
        obtain ⟨q, nn, rfl, hq, hqn, hqz⟩ := hQ1
        refine zr_callX (rest := []) (zs_VX (As := [.ref (kA c (rB i)), .int (nI fst), .int (x + (kF c i 12)), .int top]) (by omega) ok_X7_line q1350 q1352 qs22 q91 q1353 rfl hcx1 rfl rfl rfl (Nat.le_of_ble_eq_true rfl) dX7_layLines_46) hC ?_
        refine zx_catch [] _ [] rfl (fun _ h => by cases h) (by decide) (by decide) rfl q1347 q1438 ?_
        refine zr_astore (ls2 := [(0, .ref cx), (1, .ref (kA c (rB i))), (2, .int x), (3, .int y), (4, .ref la), (5, .int top), (6, .int (nI fst)), (7, .ref q)]) dX7_layLines_101 (Nat.le_of_ble_eq_true rfl) rfl ?_
        refine zr_aload dX7_layLines_103 rfl ?_
        refine zr_call1 (rest := []) (zs_V (As := []) (by omega) ok_X10_next q1490 q1491 q1492 q95 q1493 rfl (.new hq) rfl rfl rfl (Nat.le_of_ble_eq_true rfl) dX7_layLines_105) (hNx _ _ _ _ _ (by omega) hX2.gd hq hqn) ?_
        refine zr_istore (ls2 := [(0, .ref cx), (1, .ref (kA c (rB i))), (2, .int x), (3, .int y), (4, .ref la), (5, .int (cEd fs top 10 (x + kF c i 12) (x + kF c i 12 + kInner c i)).2.2), (6, .int (nI fst)), (7, .ref q)]) dX7_layLines_108 (Nat.le_of_ble_eq_true rfl) rfl ?_
        refine zr_goto (tgt := 20) dX7_layLines_110 (by decide) ?_
        refine zr_sub (ls2 := [(0, .ref cx), (1, .ref (kA c (rB i))), (2, .int x), (3, .int y), (4, .ref la), (5, .int (cEd fs top 10 (x + kF c i 12) (x + kF c i 12 + kInner c i)).2.2), (6, .int (nI fst))]) [0, 1, 2, 3, 4, 5, 6] rfl ?_
        refine ih (w0 :: r) fst _ _ acc σ2 hy hk ?_ hac hX2 (by omega) hLn2 (fun σ3 x6 q1 q2 q3 => ?_)
        · have := ed_less hc.2
          omega
        · have e9 : lyGo fs (kF c i 23) x y (x + kF c i 12) (kInner c i) (f + 1) (w0 :: r) top acc = lyGo fs (kF c i 23) x y (x + kF c i 12) (kInner c i) f (w0 :: r) (cEd fs top 10 (x + kF c i 12) (x + kF c i 12 + kInner c i)).2.2 acc := by rw [lyGo]; exact if_pos hc
          have k9 := kQ σ3 x6 q1
          rw [e9] at k9
          exact k9 q2 q3
      · rw [if_neg hc] at hQ1
        obtain ⟨q, rfl, hqF, hqT⟩ := hQ1
        have hq : zAt G σ2 q _ := .new hqF
        refine zr_call1 (rest := []) (zs_VX (As := [.ref (kA c (rB i)), .int (nI fst), .int (x + (kF c i 12)), .int top]) (by omega) ok_X7_line q1350 q1352 qs22 q91 q1353 rfl hcx1 rfl rfl rfl (Nat.le_of_ble_eq_true rfl) dX7_layLines_46) hC ?_
        refine zr_astore (ls2 := [(0, .ref cx), (1, .ref (kA c (rB i))), (2, .int x), (3, .int y), (4, .ref la), (5, .int top), (6, .int (nI fst)), (7, .ref q)]) dX7_layLines_49 (Nat.le_of_ble_eq_true rfl) rfl ?_
        refine zr_aload dX7_layLines_51 rfl ?_
        refine zr_new (ci := 11) (rO i) zt_X11 q1456 q1457 q96 rfl df_X11 dX7_layLines_53 ?_
        have hrO : rO i < 10002 + 2 * sZ σ2 := by unfold rO; have := hS.le; omega
        have hXe := zX.new S0 hX1.gd (rO i) hrO (.inr (11, d0_X11)) 3
        have hqe := hXe.at hX1.gd hq (fun h => h)
        refine zr_dup dX7_layLines_56 rfl ?_
        refine zr_aload dX7_layLines_57 rfl ?_
        refine zr_call1 (rest := [.ref (sZ σ2), .ref (sZ σ2), .ref la]) (zs_V (As := []) (by omega) ok_X11_x q1476 q1477 q1478 q96 q1479 rfl hqe rfl rfl rfl (Nat.le_of_ble_eq_true rfl) dX7_layLines_59) (c_X11_x hqe) ?_
        refine zr_iload_n dX7_layLines_62 rfl rfl ?_
        refine zr_isub dX7_layLines_63 ?_
        refine zr_aload dX7_layLines_64 rfl ?_
        refine zr_call1 (rest := [.int (((cEd fs top 10 (x + kF c i 12) (x + kF c i 12 + kInner c i)).1 + lnShift (kF c i 23) (imax 0 ((cEd fs top 10 (x + kF c i 12) (x + kF c i 12 + kInner c i)).2.1 - (cEd fs top 10 (x + kF c i 12) (x + kF c i 12 + kInner c i)).1 - (lnGo ((cEd fs top 10 (x + kF c i 12) (x + kF c i 12 + kInner c i)).2.1 - (cEd fs top 10 (x + kF c i 12) (x + kF c i 12 + kInner c i)).1) r w0 1).1))) - x), .ref (sZ σ2), .ref (sZ σ2), .ref la]) (zs_V (As := []) (by omega) ok_X11_y q1480 q1481 q1482 q96 q1483 rfl hqe rfl rfl rfl (Nat.le_of_ble_eq_true rfl) dX7_layLines_66) (c_X11_y hqe) ?_
        refine zr_iload_n dX7_layLines_69 rfl rfl ?_
        refine zr_isub dX7_layLines_70 ?_
        refine zr_aload dX7_layLines_71 rfl ?_
        refine zr_call1 (rest := [.int (top - y), .int (((cEd fs top 10 (x + kF c i 12) (x + kF c i 12 + kInner c i)).1 + lnShift (kF c i 23) (imax 0 ((cEd fs top 10 (x + kF c i 12) (x + kF c i 12 + kInner c i)).2.1 - (cEd fs top 10 (x + kF c i 12) (x + kF c i 12 + kInner c i)).1 - (lnGo ((cEd fs top 10 (x + kF c i 12) (x + kF c i 12 + kInner c i)).2.1 - (cEd fs top 10 (x + kF c i 12) (x + kF c i 12 + kInner c i)).1) r w0 1).1))) - x), .ref (sZ σ2), .ref (sZ σ2), .ref la]) (zs_V (As := []) (by omega) ok_X11_words q1484 q1485 q1486 q96 q1487 rfl hqe rfl rfl rfl (Nat.le_of_ble_eq_true rfl) dX7_layLines_73) (c_X11_words hqe) ?_
        refine zr_callv (rest := [.ref (sZ σ2), .ref la]) (zs_IN (As := [.int (((cEd fs top 10 (x + kF c i 12) (x + kF c i 12 + kInner c i)).1 + lnShift (kF c i 23) (imax 0 ((cEd fs top 10 (x + kF c i 12) (x + kF c i 12 + kInner c i)).2.1 - (cEd fs top 10 (x + kF c i 12) (x + kF c i 12 + kInner c i)).1 - (lnGo ((cEd fs top 10 (x + kF c i 12) (x + kF c i 12 + kInner c i)).2.1 - (cEd fs top 10 (x + kF c i 12) (x + kF c i 12 + kInner c i)).1) r w0 1).1))) - x), .int (top - y), .int (nI (lnGo ((cEd fs top 10 (x + kF c i 12) (x + kF c i 12 + kInner c i)).2.1 - (cEd fs top 10 (x + kF c i 12) (x + kF c i 12 + kInner c i)).1) r w0 1).2)]) (by omega) ok_X11_init q1462 q1463 q96 q1464 rfl rfl rfl (Nat.le_of_ble_eq_true rfl) dX7_layLines_76) (c_X11_init (by omega) (sF_newS _ _ _ _)) ?_
        have hXu : zX G S0 σ2 (sUp (sNew σ2 (rO i) (.inr (11, d0_X11)) 3) (sZ σ2) (.inr (11, [.int ((cEd fs top 10 (x + kF c i 12) (x + kF c i 12 + kInner c i)).1 + lnShift (kF c i 23) (imax 0 ((cEd fs top 10 (x + kF c i 12) (x + kF c i 12 + kInner c i)).2.1 - (cEd fs top 10 (x + kF c i 12) (x + kF c i 12 + kInner c i)).1 - (lnGo ((cEd fs top 10 (x + kF c i 12) (x + kF c i 12 + kInner c i)).2.1 - (cEd fs top 10 (x + kF c i 12) (x + kF c i 12 + kInner c i)).1) r w0 1).1)) - x), .int (top - y), .int (nI (lnGo ((cEd fs top 10 (x + kF c i 12) (x + kF c i 12 + kInner c i)).2.1 - (cEd fs top 10 (x + kF c i 12) (x + kF c i 12 + kInner c i)).1) r w0 1).2)]))) (3 + 4) := hXe.upN (sF_newS _ _ _ _) (Nat.le_refl _)
        have hnl : sF (sUp (sNew σ2 (rO i) (.inr (11, d0_X11)) 3) (sZ σ2) (.inr (11, [.int ((cEd fs top 10 (x + kF c i 12) (x + kF c i 12 + kInner c i)).1 + lnShift (kF c i 23) (imax 0 ((cEd fs top 10 (x + kF c i 12) (x + kF c i 12 + kInner c i)).2.1 - (cEd fs top 10 (x + kF c i 12) (x + kF c i 12 + kInner c i)).1 - (lnGo ((cEd fs top 10 (x + kF c i 12) (x + kF c i 12 + kInner c i)).2.1 - (cEd fs top 10 (x + kF c i 12) (x + kF c i 12 + kInner c i)).1) r w0 1).1)) - x), .int (top - y), .int (nI (lnGo ((cEd fs top 10 (x + kF c i 12) (x + kF c i 12 + kInner c i)).2.1 - (cEd fs top 10 (x + kF c i 12) (x + kF c i 12 + kInner c i)).1) r w0 1).2)]))) (sZ σ2) = some (.inr (11, [.int ((cEd fs top 10 (x + kF c i 12) (x + kF c i 12 + kInner c i)).1 + lnShift (kF c i 23) (imax 0 ((cEd fs top 10 (x + kF c i 12) (x + kF c i 12 + kInner c i)).2.1 - (cEd fs top 10 (x + kF c i 12) (x + kF c i 12 + kInner c i)).1 - (lnGo ((cEd fs top 10 (x + kF c i 12) (x + kF c i 12 + kInner c i)).2.1 - (cEd fs top 10 (x + kF c i 12) (x + kF c i 12 + kInner c i)).1) r w0 1).1)) - x), .int (top - y), .int (nI (lnGo ((cEd fs top 10 (x + kF c i 12) (x + kF c i 12 + kInner c i)).2.1 - (cEd fs top 10 (x + kF c i 12) (x + kF c i 12 + kInner c i)).1) r w0 1).2)])) := sF_upS _ _ _
        have hnt : sT (sUp (sNew σ2 (rO i) (.inr (11, d0_X11)) 3) (sZ σ2) (.inr (11, [.int ((cEd fs top 10 (x + kF c i 12) (x + kF c i 12 + kInner c i)).1 + lnShift (kF c i 23) (imax 0 ((cEd fs top 10 (x + kF c i 12) (x + kF c i 12 + kInner c i)).2.1 - (cEd fs top 10 (x + kF c i 12) (x + kF c i 12 + kInner c i)).1 - (lnGo ((cEd fs top 10 (x + kF c i 12) (x + kF c i 12 + kInner c i)).2.1 - (cEd fs top 10 (x + kF c i 12) (x + kF c i 12 + kInner c i)).1) r w0 1).1)) - x), .int (top - y), .int (nI (lnGo ((cEd fs top 10 (x + kF c i 12) (x + kF c i 12 + kInner c i)).2.1 - (cEd fs top 10 (x + kF c i 12) (x + kF c i 12 + kInner c i)).1) r w0 1).2)]))) (sZ σ2) = rO i := (show sT (sNew σ2 (rO i) (.inr (11, d0_X11)) 3) (sZ σ2) = rO i from sT_newS _ _ _ _)
        generalize hσ4 : (sUp (sNew σ2 (rO i) (.inr (11, d0_X11)) 3) (sZ σ2) (.inr (11, [.int ((cEd fs top 10 (x + kF c i 12) (x + kF c i 12 + kInner c i)).1 + lnShift (kF c i 23) (imax 0 ((cEd fs top 10 (x + kF c i 12) (x + kF c i 12 + kInner c i)).2.1 - (cEd fs top 10 (x + kF c i 12) (x + kF c i 12 + kInner c i)).1 - (lnGo ((cEd fs top 10 (x + kF c i 12) (x + kF c i 12 + kInner c i)).2.1 - (cEd fs top 10 (x + kF c i 12) (x + kF c i 12 + kInner c i)).1) r w0 1).1)) - x), .int (top - y), .int (nI (lnGo ((cEd fs top 10 (x + kF c i 12) (x + kF c i 12 + kInner c i)).2.1 - (cEd fs top 10 (x + kF c i 12) (x + kF c i 12 + kInner c i)).1) r w0 1).2)]))) = σ4 at hXu hnl hnt ⊢
        obtain ⟨mod, xs, l1, l2, l3⟩ := hLn2.keep0 hX1.gd hXu
        obtain ⟨fl, hfl⟩ := l1.A
        have hel0 : ∀ y9, y9 ∈ xs → zEl G σ4 y9 := by
          intro y9 hy9
          obtain ⟨j9, hj9⟩ := List.mem_iff_getElem?.mp hy9
          have hlt : j9 < acc.length := by rw [← l2]; exact (List.getElem?_eq_some_iff.mp hj9).1
          exact ⟨_, _, _, _, _, .new (l3 j9 y9 _ hj9 (List.getElem?_eq_getElem hlt)).1, rfl, q2870⟩
        obtain ⟨_, σ5, ⟨rfl, l5, hX5⟩, hC5⟩ := c_add (d := d - 1) (x := sZ σ2) (by omega) hG hXu.gd l1 (by omega) ⟨_, _, _, _, _, .new hnl, rfl, q2870⟩ hel0
        have hX24 := hX2.trans hXu
        have hX45 := zX.dyn hw hX24 hX5 (by unfold dT; omega)
        have hla4 := hX24.sz
        have hS5 := hS.keep0 hw hX45
        have hcx5 := hX45.at hw hcx (fun h => h)
        have hq5 := zAt.new (G := G) (hX5.f hXu.gd (hXu.f hX1.gd hqF (fun h => h)) (by rw [hXu.t hX1.gd hqF, hqT]; unfold dT; omega))
        have hm1 := (lnGo_m ((cEd fs top 10 (x + kF c i 12) (x + kF c i 12 + kInner c i)).2.1 - (cEd fs top 10 (x + kF c i 12) (x + kF c i 12 + kInner c i)).1) r w0 1).1
        have hm2 := (lnGo_m ((cEd fs top 10 (x + kF c i 12) (x + kF c i 12 + kInner c i)).2.1 - (cEd fs top 10 (x + kF c i 12) (x + kF c i 12 + kInner c i)).1) r w0 1).2
        refine zr_call51 (rest := []) (zs_F (As := [.ref (sZ σ2)]) (by omega) okF_J2_add (by decide +kernel) q1489 q355 q357 q56 q359 hfl rfl rfl rfl (Nat.le_of_ble_eq_true rfl) dX7_layLines_79) hC5 ?_
        refine zr_pop dX7_layLines_84 rfl ?_
        refine zr_iload dX7_layLines_85 rfl ?_
        refine zr_aload dX7_layLines_87 rfl ?_
        refine zr_call1 (rest := [.int (nI fst)]) (zs_V (As := []) (by omega) ok_X11_words q1484 q1485 q1486 q96 q1487 rfl hq5 rfl rfl rfl (Nat.le_of_ble_eq_true rfl) dX7_layLines_89) (c_X11_words hq5) ?_
        refine zr_iadd dX7_layLines_92 ?_
        refine zr_eqi (z := (nI (fst + (lnGo ((cEd fs top 10 (x + kF c i 12) (x + kF c i 12 + kInner c i)).2.1 - (cEd fs top 10 (x + kF c i 12) (x + kF c i 12 + kInner c i)).1) r w0 1).2))) (nI_add _ _) ?_
        refine zr_istore (ls2 := [(0, .ref cx), (1, .ref (kA c (rB i))), (2, .int x), (3, .int y), (4, .ref la), (5, .int top), (6, .int (nI (fst + (lnGo ((cEd fs top 10 (x + kF c i 12) (x + kF c i 12 + kInner c i)).2.1 - (cEd fs top 10 (x + kF c i 12) (x + kF c i 12 + kInner c i)).1) r w0 1).2))), (7, .ref q)]) dX7_layLines_93 (Nat.le_of_ble_eq_true rfl) rfl ?_
        refine zr_iinc (v := (top + 10)) (ls2 := [(0, .ref cx), (1, .ref (kA c (rB i))), (2, .int x), (3, .int y), (4, .ref la), (5, .int (top + 10)), (6, .int (nI (fst + (lnGo ((cEd fs top 10 (x + kF c i 12) (x + kF c i 12 + kInner c i)).2.1 - (cEd fs top 10 (x + kF c i 12) (x + kF c i 12 + kInner c i)).1) r w0 1).2))), (7, .ref q)]) dX7_layLines_95 rfl rfl (Nat.le_of_ble_eq_true rfl) rfl ?_
        refine zr_goto (tgt := 20) dX7_layLines_98 (by decide) ?_
        refine zr_sub (ls2 := [(0, .ref cx), (1, .ref (kA c (rB i))), (2, .int x), (3, .int y), (4, .ref la), (5, .int (top + 10)), (6, .int (nI (fst + (lnGo ((cEd fs top 10 (x + kF c i 12) (x + kF c i 12 + kInner c i)).2.1 - (cEd fs top 10 (x + kF c i 12) (x + kF c i 12 + kInner c i)).1) r w0 1).2)))]) [0, 1, 2, 3, 4, 5, 6] rfl ?_
        refine ih ((w0 :: r).drop (lnGo ((cEd fs top 10 (x + kF c i 12) (x + kF c i 12 + kInner c i)).2.1 - (cEd fs top 10 (x + kF c i 12) (x + kF c i 12 + kInner c i)).1) r w0 1).2) (fst + (lnGo ((cEd fs top 10 (x + kF c i 12) (x + kF c i 12 + kInner c i)).2.1 - (cEd fs top 10 (x + kF c i 12) (x + kF c i 12 + kInner c i)).1) r w0 1).2) _ (top + 10) (acc ++ [((cEd fs top 10 (x + kF c i 12) (x + kF c i 12 + kInner c i)).1 + lnShift (kF c i 23) (imax 0 ((cEd fs top 10 (x + kF c i 12) (x + kF c i 12 + kInner c i)).2.1 - (cEd fs top 10 (x + kF c i 12) (x + kF c i 12 + kInner c i)).1 - (lnGo ((cEd fs top 10 (x + kF c i 12) (x + kF c i 12 + kInner c i)).2.1 - (cEd fs top 10 (x + kF c i 12) (x + kF c i 12 + kInner c i)).1) r w0 1).1)) - x, top - y, nI (lnGo ((cEd fs top 10 (x + kF c i 12) (x + kF c i 12 + kInner c i)).2.1 - (cEd fs top 10 (x + kF c i 12) (x + kF c i 12 + kInner c i)).1) r w0 1).2)]) σ5 ?_ ?_ ?_ ?_ hX45 ?_ ⟨_, _, l5, by rw [List.length_append, List.length_append, l2]; rfl, fun j9 q9 z9 e1 e2 => ?_⟩ (fun σ6 x6 q1 q2 q3 => ?_)
        · rw [← hy, List.drop_drop]
        · have : (w0 :: r).length = (kWd c i).length - fst := by rw [← hy, List.length_drop]
          rw [List.length_cons] at this
          omega
        · have := nAb_le fs (top + 10)
          obtain ⟨-, -, -, -, h24, -⟩ := hF
          rw [List.length_drop]
          rw [List.length_cons] at hf ⊢
          omega
        · simp only [List.length_append, List.length_drop, List.length_cons, List.length_nil] at hac ⊢
          omega
        · omega
        · by_cases hj : j9 < xs.length
          · rw [List.getElem?_append_left hj] at e1
            rw [List.getElem?_append_left (by omega)] at e2
            obtain ⟨m1, m2⟩ := l3 j9 q9 z9 e1 e2
            have hns : ¬ (sT σ4 q9 = dT la ∨ sT σ4 q9 = dT la + 1) := by rw [m2]; unfold rO dT; have := hS.le; omega
            exact ⟨hX5.f hXu.gd m1 hns, (hX5.t hXu.gd m1).trans m2⟩
          · rw [List.getElem?_append_right (by omega)] at e1 e2
            have hz0 : j9 - xs.length = 0 := by
              have := (List.getElem?_eq_some_iff.mp e1).1
              rw [List.length_singleton] at this
              omega
            rw [hz0] at e1
            rw [← l2, hz0] at e2
            cases e1
            cases e2
            have hns : ¬ (sT σ4 (sZ σ2) = dT la ∨ sT σ4 (sZ σ2) = dT la + 1) := by rw [hnt]; unfold rO dT; have := hS.le; omega
            exact ⟨hX5.f hXu.gd hnl hns, (hX5.t hXu.gd hnl).trans hnt⟩
        · have e9 : lyGo fs (kF c i 23) x y (x + kF c i 12) (kInner c i) (f + 1) (w0 :: r) top acc = lyGo fs (kF c i 23) x y (x + kF c i 12) (kInner c i) f ((w0 :: r).drop (lnGo ((cEd fs top 10 (x + kF c i 12) (x + kF c i 12 + kInner c i)).2.1 - (cEd fs top 10 (x + kF c i 12) (x + kF c i 12 + kInner c i)).1) r w0 1).2) (top + 10) (acc ++ [((cEd fs top 10 (x + kF c i 12) (x + kF c i 12 + kInner c i)).1 + lnShift (kF c i 23) (imax 0 ((cEd fs top 10 (x + kF c i 12) (x + kF c i 12 + kInner c i)).2.1 - (cEd fs top 10 (x + kF c i 12) (x + kF c i 12 + kInner c i)).1 - (lnGo ((cEd fs top 10 (x + kF c i 12) (x + kF c i 12 + kInner c i)).2.1 - (cEd fs top 10 (x + kF c i 12) (x + kF c i 12 + kInner c i)).1) r w0 1).1)) - x, top - y, nI (lnGo ((cEd fs top 10 (x + kF c i 12) (x + kF c i 12 + kInner c i)).2.1 - (cEd fs top 10 (x + kF c i 12) (x + kF c i 12 + kInner c i)).1) r w0 1).2)]) := by rw [lyGo]; exact if_neg hc
          have k9 := kQ σ6 x6 q1
          rw [e9] at k9
          exact k9 q2 q3
