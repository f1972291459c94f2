/-! ===== pages: walk, its constructor (rows printed by tools/p91.py) ===== -/
def lnY (c : zCS) (i k : Nat) : Int32 := ((kLn c i).getD k (0, 0, 0)).2.1
def pgHl (c : zCS) (h : Int32) (i : Nat) (y : Int32) (s : PgT) (k : Nat) : Bool := decide (k = 0) && (decide (1 < (kLn c i).length) && pLow h (gT s) (y + lnY c i 1 + 10))
def pgLn (c : zCS) (h : Int32) (i : Nat) (y : Int32) (s : PgT) (k : Nat) : PgT := pgPut c h s i k (y + lnY c i k) (y + lnY c i k + 10) (pgHl c h i y s k)
def pgKid (c : zCS) (W : PgT → Nat → Int32 → PgT) (y : Int32) (s : PgT) (j : Nat) : PgT := if kFlow c j = true then W s j (y + kP c j 1) else s
def pgWk (c : zCS) (h : Int32) : Nat → PgT → Nat → Int32 → PgT
  | 0, s, _, _ => s
  | f + 1, s, i, y =>
    if kText c i = true then (List.range (kLn c i).length).foldl (pgLn c h i y) s
    else if (kItems c i || (kCh c i).isEmpty) = true then (if (!kRoot c i && decide (0 < kP c i 3)) = true then pgPut c h s i 0 y (y + kP c i 3) false else s)
    else (kCh c i).foldl (pgKid c (pgWk c h f) y) s
theorem pgWk_t {c : zCS} {h : Int32} {f : Nat} {s : PgT} {i : Nat} {y : Int32} (h1 : kText c i = true) : pgWk c h (f + 1) s i y = (List.range (kLn c i).length).foldl (pgLn c h i y) s := if_pos h1
theorem pgWk_i {c : zCS} {h : Int32} {f : Nat} {s : PgT} {i : Nat} {y : Int32} (h1 : kText c i = false) (h2 : (kItems c i || (kCh c i).isEmpty) = true) : pgWk c h (f + 1) s i y = if (!kRoot c i && decide (0 < kP c i 3)) = true then pgPut c h s i 0 y (y + kP c i 3) false else s := by
  show (if kText c i = true then _ else if _ then _ else _) = _
  rw [if_neg (by rw [h1]; decide), if_pos h2]
theorem pgWk_k {c : zCS} {h : Int32} {f : Nat} {s : PgT} {i : Nat} {y : Int32} (h1 : kText c i = false) (h2 : (kItems c i || (kCh c i).isEmpty) = false) : pgWk c h (f + 1) s i y = (kCh c i).foldl (pgKid c (pgWk c h f) y) s := by
  show (if kText c i = true then _ else if _ then _ else _) = _
  rw [if_neg (by rw [h1]; decide), if_neg (by rw [h2]; decide)]
def uA (c : zCS) (i : Nat) : Nat := 1 + (kLn c i).length
theorem gU_put (c : zCS) (h : Int32) (s : PgT) (i k : Nat) (y bo : Int32) (hl : Bool) : (gU (pgPut c h s i k y bo hl)).length = (gU s).length + 1 := by
  show (gU s ++ [_]).length = _
  rw [List.length_append, List.length_singleton]
theorem PgS.keep {G : zG} {S : Nat → Prop} {σ σ1 : zT} {c : zCS} {h : Int32} {pa ul bg n : Nat} {s : PgT} (hP : PgS G σ c h pa ul bg s) (hw : zGd G σ) (hX : zX G S σ σ1 n) (hs : ∀ t, 2000 ≤ t → t < 2005 → ¬ S t) : PgS G σ1 c h pa ul bg s :=
  ⟨hP.1.keep hw hX (hs _ (by omega) (by omega)), hP.2.1.keep hw hX (hs _ (by omega) (by omega)), hP.2.2.keep hw hX (hs _ (by omega) (by omega)) (hs _ (by omega) (by omega)) (hs _ (by omega) (by omega))⟩
theorem range_at {n k x : Nat} (h : (List.range n)[k]? = some x) : x = k := by
  obtain ⟨hk, e⟩ := List.getElem?_eq_some_iff.mp h
  rw [List.getElem_range] at e
  exact e.symm
theorem nI_z {k : Nat} (hk : k ≤ 1000000) (h : nI k = 0) : k = 0 := by
  have := nI_clamp (n := k) (by omega)
  rw [h] at this
  exact this.symm
theorem PG_tX {G : zG} {σ : zT} {c : zCS} {i : Nat} (hS : CSys G σ c) (hi : i < kN c) : ∃ (mod : Int32) (xs : List Nat), zL G σ (rL i) (kA c (rL i)) mod xs ∧ xs.length = (kLn c i).length ∧ (kLn c i).length ≤ 1000000 ∧ ∀ k, k < (kLn c i).length → ∃ q v0 v2, xs[k]? = some q ∧ sF σ q = some (.inr (11, [.int v0, .int (lnY c i k), .int v2])) := by
  obtain ⟨mod, xs, l1, l2, l3⟩ := (hS.2.2.1 i hi).2.2.2.2
  refine ⟨mod, xs, l1, l2, ?_, fun k hk => ?_⟩
  · obtain ⟨_, cap, _, _, _, h1, h2, _⟩ := l1; omega
  · obtain ⟨q, hq⟩ : ∃ q, xs[k]? = some q := ⟨_, List.getElem?_eq_getElem (by omega)⟩
    obtain ⟨z, hz⟩ : ∃ z, (kLn c i)[k]? = some z := ⟨_, List.getElem?_eq_getElem hk⟩
    refine ⟨q, z.1, z.2.2, hq, ?_⟩
    have e : lnY c i k = z.2.1 := by unfold lnY; rw [List.getD_eq_getElem?_getD, hz]; rfl
    rw [e]
    exact (l3 k q z hq hz).1
set_option maxHeartbeats 4000000 in
theorem l_X16_txt {G : zG} {σ : zT} {d : Nat} {c : zCS} {h y : Int32} {pa ul bg i M N : Nat} {Q : zO → zT → Prop} (hd : 14 ≤ d) (hG : zOk G) (hw : zGd G σ) (hS : CSys G σ c) (hi : i < kN c) (hT : kText c i = true) (hM : M ≤ 1000) : ∀ (ys : List Nat) (k m : Nat) (s : PgT) (σ1 : zT), (List.range (kLn c i).length).drop k = ys → k ≤ (kLn c i).length → zX G SP σ σ1 m → m + ys.length * (60 + 2 * M) ≤ N → PgS G σ1 c h pa ul bg s → (gU s).length + ys.length ≤ M → (∀ σ2, PgS G σ2 c h pa ul bg (ys.foldl (pgLn c h i y) s) → zX G SP σ σ2 N → Q (.inl none) σ2) → zR G yX16_walk cX16_walk 7 (Option.none : Option Jvm.ClassFile.FieldType) [] d 18 [(0, .ref pa), (1, .ref (kA c (rB i))), (2, .int y), (3, .ref (kA c (rL i))), (4, .int (nI k))] [] σ1 Q := by
  intro ys
  induction ys with
  | nil =>
    intro k m s σ1 hy hk hX hN hP hU kQ
    have hS1 := hS.keep hw hX SP_C
    obtain ⟨mod, xs, l1, l2, l3, l4⟩ := PG_tX hS1 hi
    obtain ⟨fl_l, hfll⟩ := l1.A
    have hkl := drop_nil hy (by rw [List.length_range]; exact hk)
    rw [List.length_range] at hkl
    refine zr_iload dX16_walk_18 rfl ?_
    refine zr_aload_n dX16_walk_20 rfl rfl ?_
    refine zr_call51 (rest := [.int (nI k)]) (zs_F (As := []) (by omega) okF_J2_size (by decide +kernel) q1948 q162 q164 q56 q166 hfll rfl rfl rfl (Nat.le_of_ble_eq_true rfl) dX16_walk_21) (c_size (by omega) l1 l2) ?_
    refine zr_icmp_ge (tgt := 116) dX16_walk_26 (by decide) (fun _ => ?_) (fun h9 => absurd (by rw [hkl]; exact Int32.le_refl _) h9)
    refine zr_goto (tgt := 232) dX16_walk_116 (by decide) ?_
    exact zr_vret rfl dX16_walk_232 (kQ σ1 hP (hX.le (by omega)))
  | cons x ys ih =>
    intro k m s σ1 hy hk hX hN hP hU kQ
    have hS1 := hS.keep hw hX SP_C
    obtain ⟨mod, xs, l1, l2, l3, l4⟩ := PG_tX hS1 hi
    obtain ⟨fl_l, hfll⟩ := l1.A
    obtain ⟨hx, hy2, hkl, hm⟩ := drop_cons hy
    rw [List.length_range] at hkl
    have hxk := range_at hx
    subst hxk
    obtain ⟨q, v0, v2, hq, hqf⟩ := l4 x hkl
    have hqz : zAt G σ1 q (.inr (11, [.int v0, .int (lnY c i x), .int v2])) := .new hqf
    rw [List.length_cons] at hU hN
    have hN2 : (ys.length + 1) * (60 + 2 * M) = ys.length * (60 + 2 * M) + (60 + 2 * M) := Nat.succ_mul _ _
    have hfold : ∀ s, List.foldl (pgLn c h i y) s (x :: ys) = ys.foldl (pgLn c h i y) (pgLn c h i y s x) := fun _ => rfl
    simp only [hfold] at kQ
    refine zr_iload dX16_walk_18 rfl ?_
    refine zr_aload_n dX16_walk_20 rfl rfl ?_
    refine zr_call51 (rest := [.int (nI x)]) (zs_F (As := []) (by omega) okF_J2_size (by decide +kernel) q1948 q162 q164 q56 q166 hfll rfl rfl rfl (Nat.le_of_ble_eq_true rfl) dX16_walk_21) (c_size (by omega) l1 l2) ?_
    refine zr_icmp_ge (tgt := 116) dX16_walk_26 (by decide) (fun h9 => absurd h9 (Int32.not_le.mpr ((nI_ltI (by omega) (by omega)).mpr hkl))) (fun _ => ?_)
    refine zr_iload_n dX16_walk_29 rfl rfl ?_
    refine zr_aload_n dX16_walk_30 rfl rfl ?_
    refine zr_iload dX16_walk_31 rfl ?_
    refine zr_call51 (rest := [.int y]) (zs_F (As := [.int (nI x)]) (by omega) okF_J2_get (by decide +kernel) q1940 q1106 q959 q56 q960 hfll rfl rfl rfl (Nat.le_of_ble_eq_true rfl) dX16_walk_33) (c_J2_get (by omega) hG l1 hq) ?_
    refine zr_castS hqz rfl q1949 dX16_walk_38 ?_
    refine zr_call1 (rest := [.int y]) (zs_V (As := []) (by omega) ok_X11_y q1950 q1481 q1482 q96 q1483 rfl hqz rfl rfl rfl (Nat.le_of_ble_eq_true rfl) dX16_walk_41) (c_X11_y hqz) ?_
    refine zr_iadd dX16_walk_44 ?_
    refine zr_istore (ls2 := [(0, .ref pa), (1, .ref (kA c (rB i))), (2, .int y), (3, .ref (kA c (rL i))), (4, .int (nI x)), (5, .int (y + (lnY c i x)))]) dX16_walk_45 (Nat.le_of_ble_eq_true rfl) rfl ?_
    have key92 : ∀ z : Int32, z = bI (pgHl c h i y s x) → zR G yX16_walk cX16_walk 7 (Option.none : Option Jvm.ClassFile.FieldType) [] d 92 [(0, .ref pa), (1, .ref (kA c (rB i))), (2, .int y), (3, .ref (kA c (rL i))), (4, .int (nI x)), (5, .int (y + (lnY c i x)))] [.int z] σ1 Q := by
      intro z hz
      subst hz
      refine zr_istore (ls2 := [(0, .ref pa), (1, .ref (kA c (rB i))), (2, .int y), (3, .ref (kA c (rL i))), (4, .int (nI x)), (5, .int (y + (lnY c i x))), (6, .int (bI (pgHl c h i y s x)))]) dX16_walk_92 (Nat.le_of_ble_eq_true rfl) rfl ?_
      refine zr_aload_n dX16_walk_94 rfl rfl ?_
      refine zr_aload_n dX16_walk_95 rfl rfl ?_
      refine zr_iload dX16_walk_96 rfl ?_
      refine zr_iload dX16_walk_98 rfl ?_
      refine zr_iload dX16_walk_100 rfl ?_
      refine zr_bipush (v := 10) dX16_walk_102 (by decide) ?_
      refine zr_iadd dX16_walk_104 ?_
      refine zr_iload dX16_walk_105 rfl ?_
      obtain ⟨_, σ2, ⟨rfl, hP2, hX2⟩, hC2⟩ := c_X16_put (d := d - 1) (y := y + lnY c i x) (bo := y + lnY c i x + 10) (k := x) (hl := pgHl c h i y s x) (by omega) hG hX.gd hS1 hi (fun _ => hkl) hP (by omega)
      refine zr_callv (rest := []) (zs_V (As := [.ref (kA c (rB i)), .int (nI x), .int (y + (lnY c i x)), .int ((y + (lnY c i x)) + 10), .int (bI (pgHl c h i y s x))]) (by omega) ok_X16_put q1955 q1957 qs34 q101 q1958 rfl (.new hP.1.1) rfl rfl rfl (Nat.le_of_ble_eq_true rfl) dX16_walk_107) hC2 ?_
      refine zr_iinc (v := nI x + 1) (ls2 := [(0, .ref pa), (1, .ref (kA c (rB i))), (2, .int y), (3, .ref (kA c (rL i))), (4, .int (nI x + 1)), (5, .int (y + (lnY c i x))), (6, .int (bI (pgHl c h i y s x)))]) dX16_walk_110 rfl rfl (Nat.le_of_ble_eq_true rfl) rfl ?_
      rw [show nI x + 1 = nI (x + 1) from nI_1 x]
      refine zr_goto (tgt := 18) dX16_walk_113 (by decide) ?_
      refine zr_sub (ls2 := [(0, .ref pa), (1, .ref (kA c (rB i))), (2, .int y), (3, .ref (kA c (rL i))), (4, .int (nI (x + 1)))]) [0, 1, 2, 3, 4] rfl ?_
      refine ih (x + 1) _ _ σ2 hy2 hkl (hX.trans hX2) (by omega) hP2 (by rw [gU_put]; omega) kQ
    refine zr_iload dX16_walk_47 rfl ?_
    refine zr_if_ne (tgt := 91) dX16_walk_49 (by decide) (fun h1 => ?_) (fun h1 => ?_)
    · refine zr_iconst (v := 0) dX16_walk_91 (by decide) ?_
      exact key92 _ (by unfold pgHl; rw [decide_eq_false (fun e => h1 (by rw [e]; rfl))]; rfl)
    · have hx0 : x = 0 := nI_z (by omega) (by first | exact h1 | exact Decidable.not_not.mp h1)
      refine zr_aload_n dX16_walk_52 rfl rfl ?_
      refine zr_call51 (rest := []) (zs_F (As := []) (by omega) okF_J2_size (by decide +kernel) q1948 q162 q164 q56 q166 hfll rfl rfl rfl (Nat.le_of_ble_eq_true rfl) dX16_walk_53) (c_size (by omega) l1 l2) ?_
      refine zr_iconst (v := 1) dX16_walk_58 (by decide) ?_
      refine zr_icmp_le (tgt := 91) dX16_walk_59 (by decide) (fun h2 => ?_) (fun h2 => ?_)
      · refine zr_iconst (v := 0) dX16_walk_91 (by decide) ?_
        have hn1 : ¬ 1 < (kLn c i).length := Nat.not_lt.mpr ((nI_leI (by omega) (by omega)).mp (show nI (kLn c i).length ≤ nI 1 from h2))
        exact key92 _ (by unfold pgHl; rw [decide_eq_false hn1, Bool.false_and, Bool.and_false]; rfl)
      · have hn1 : 1 < (kLn c i).length := Nat.lt_of_not_le (fun h => h2 (show nI (kLn c i).length ≤ nI 1 from (nI_leI (by omega) (by omega)).mpr h))
        obtain ⟨q1, u0, u2, hq1, hqf1⟩ := l4 1 hn1
        have hqz1 : zAt G σ1 q1 (.inr (11, [.int u0, .int (lnY c i 1), .int u2])) := .new hqf1
        refine zr_aload_n dX16_walk_62 rfl rfl ?_
        refine zr_iload_n dX16_walk_63 rfl rfl ?_
        refine zr_aload_n dX16_walk_64 rfl rfl ?_
        refine zr_iconst (v := 1) dX16_walk_65 (by decide) ?_
        refine zr_call51 (rest := [.int y, .ref pa]) (zs_F (As := [.int 1]) (by omega) okF_J2_get (by decide +kernel) q1940 q1106 q959 q56 q960 hfll rfl rfl rfl (Nat.le_of_ble_eq_true rfl) dX16_walk_66) (c_J2_get (i := 1) (by omega) hG l1 hq1) ?_
        refine zr_castS hqz1 rfl q1949 dX16_walk_71 ?_
        refine zr_call1 (rest := [.int y, .ref pa]) (zs_V (As := []) (by omega) ok_X11_y q1950 q1481 q1482 q96 q1483 rfl hqz1 rfl rfl rfl (Nat.le_of_ble_eq_true rfl) dX16_walk_74) (c_X11_y hqz1) ?_
        refine zr_iadd dX16_walk_77 ?_
        refine zr_bipush (v := 10) dX16_walk_78 (by decide) ?_
        refine zr_iadd dX16_walk_80 ?_
        refine zr_call1 (rest := []) (zs_V (As := [.int ((y + (lnY c i 1)) + 10)]) (by omega) ok_X16_isLower q1951 q1953 qs33 q101 q1954 rfl (.new hP.1.1) rfl rfl rfl (Nat.le_of_ble_eq_true rfl) dX16_walk_81) (c_X16_isLower hP.1) ?_
        refine zr_ifeqB (tgt := 91) dX16_walk_84 (by decide) (fun h3 => ?_) (fun h3 => ?_)
        · refine zr_iconst (v := 0) dX16_walk_91 (by decide) ?_
          exact key92 _ (by unfold pgHl; rw [h3, Bool.and_false, Bool.and_false]; rfl)
        · refine zr_iconst (v := 1) dX16_walk_87 (by decide) ?_
          refine zr_goto (tgt := 92) dX16_walk_88 (by decide) ?_
          exact key92 _ (by unfold pgHl; rw [h3, decide_eq_true hn1, decide_eq_true hx0]; rfl)
abbrev HWK (G : zG) (c : zCS) (h : Int32) (pa ul bg M f d : Nat) : Prop := ∀ (σ : zT) (s : PgT) (i : Nat) (y : Int32), zGd G σ → CSys G σ c → i < kN c → kN c ≤ f + i → PgS G σ c h pa ul bg s → (gU s).length + tsum c (uA c) f i ≤ M → zCall G I_X16_walk d [.ref pa, .ref (kA c (rB i)), .int y] σ (fun o σ' => o = .inl none ∧ PgS G σ' c h pa ul bg (pgWk c h f s i y) ∧ (gU (pgWk c h f s i y)).length ≤ (gU s).length + tsum c (uA c) f i ∧ zX G SP σ σ' (tsum c (uA c) f i * (60 + 2 * M)))
theorem SP_0 : ¬ SP 0 := by unfold SP; omega
set_option maxHeartbeats 4000000 in
theorem l_X16_kids {G : zG} {σ : zT} {d f : Nat} {c : zCS} {h y : Int32} {pa ul bg i it M N L : Nat} {Q : zO → zT → Prop} (hd : 14 ≤ d) (hG : zOk G) (hw : zGd G σ) (hS : CSys G σ c) (hi : i < kN c) (hf : kN c ≤ f + 1 + i) (hit : sZ σ ≤ it) (hWK : HWK G c h pa ul bg M f (d - 1)) : ∀ (ys : List Nat) (k m : Nat) (lr : Int32) (s : PgT) (σ1 : zT), (kCh c i).drop k = ys → k ≤ (kCh c i).length → zX G SP σ σ1 m → m + (ys.map (tsum c (uA c) f)).sum * (60 + 2 * M) ≤ N → PgS G σ1 c h pa ul bg s → (gU s).length + (ys.map (tsum c (uA c) f)).sum ≤ L → L ≤ M → sF σ1 it = some (.inr (21, [.int (nI k), .int lr, .int (kM c (rC i)), .ref (kA c (rC i))])) → sT σ1 it = 0 → (∀ σ2, PgS G σ2 c h pa ul bg (ys.foldl (pgKid c (pgWk c h f) y) s) → (gU (ys.foldl (pgKid c (pgWk c h f) y) s)).length ≤ L → zX G SP σ σ2 N → Q (.inl none) σ2) → zR G yX16_walk cX16_walk 7 (Option.none : Option Jvm.ClassFile.FieldType) [] d 185 [(0, .ref pa), (1, .ref (kA c (rB i))), (2, .int y), (3, .ref it)] [] σ1 Q := by
  intro ys
  induction ys with
  | nil =>
    intro k m lr s σ1 hy hk hX hN hP hU hLM hI hT kQ
    have hS1 := hS.keep hw hX SP_C
    have hL1 := hS1.chL hi
    have hkl := drop_nil hy hk
    rw [List.map_nil, List.sum_nil] at hU hN
    refine zr_aload_n dX16_walk_185 rfl rfl ?_
    refine zr_call51 (rest := []) (zs_F (As := []) (by omega) okF_J23_hasNext (by decide +kernel) q1988 q927 q929 q84 q931 (.new hI) rfl rfl rfl (Nat.le_of_ble_eq_true rfl) dX16_walk_186) (c_hasNext0 hL1 hI (by rw [List.length_map]; exact hkl)) ?_
    refine zr_if_eq (tgt := 232) dX16_walk_191 (by decide) (fun _ => ?_) (fun h9 => absurd (rfl) h9)
    exact zr_vret rfl dX16_walk_232 (kQ σ1 hP (by rw [List.foldl_nil]; omega) (hX.le (by omega)))
  | cons j ys ih =>
    intro k m lr s σ1 hy hk hX hN hP hU hLM hI hT kQ
    have hS1 := hS.keep hw hX SP_C
    have hL1 := hS1.chL hi
    obtain ⟨hx, hy2, hkl, hm⟩ := drop_cons hy
    have hj := hS.ch hi hm
    rw [List.map_cons, List.sum_cons] at hU hN
    rw [Nat.add_mul] at hN
    have hX2 := hX.upN (gs := [.int (nI (k + 1)), .int (nI k), .int (kM c (rC i)), .ref (kA c (rC i))]) hI hit
    have hX12 : zX G (fun s => s = 0) σ1 (sUp σ1 it (.inr (21, [.int (nI (k + 1)), .int (nI k), .int (kM c (rC i)), .ref (kA c (rC i))]))) 0 := zX.up hX.gd hI hT
    have hI2 : sF (sUp σ1 it (.inr (21, [.int (nI (k + 1)), .int (nI k), .int (kM c (rC i)), .ref (kA c (rC i))]))) it = _ := sF_upS _ _ _
    have hT2 : sT (sUp σ1 it (.inr (21, [.int (nI (k + 1)), .int (nI k), .int (kM c (rC i)), .ref (kA c (rC i))]))) it = 0 := hT
    generalize hσ2 : sUp σ1 it (.inr (21, [.int (nI (k + 1)), .int (nI k), .int (kM c (rC i)), .ref (kA c (rC i))])) = σ2 at hX2 hX12 hI2 hT2
    have hS2 := hS.keep hw hX2 SP_C
    have hP2 := hP.keep hX.gd hX12 (fun t h1 h2 h3 => by rw [h3] at h1; omega)
    have hfold : ∀ s, List.foldl (pgKid c (pgWk c h f) y) s (j :: ys) = ys.foldl (pgKid c (pgWk c h f) y) (pgKid c (pgWk c h f) y s j) := fun _ => rfl
    simp only [hfold] at kQ
    refine zr_aload_n dX16_walk_185 rfl rfl ?_
    refine zr_call51 (rest := []) (zs_F (As := []) (by omega) okF_J23_hasNext (by decide +kernel) q1988 q927 q929 q84 q931 (.new hI) rfl rfl rfl (Nat.le_of_ble_eq_true rfl) dX16_walk_186) (c_hasNext1 hL1 hI (by rw [List.length_map]; exact hkl)) ?_
    refine zr_if_eq (tgt := 232) dX16_walk_191 (by decide) (fun h9 => absurd h9 (by decide)) (fun _ => ?_)
    refine zr_aload_n dX16_walk_194 rfl rfl ?_
    refine zr_call51 (rest := []) (zs_F (As := []) (by omega) okF_J23_next (by decide +kernel) q1990 q1044 q1046 q84 q1048 (.new hI) rfl rfl rfl (Nat.le_of_ble_eq_true rfl) dX16_walk_195) (c_J23_next (by omega) hG hL1 hI (map_at (fun j => kA c (rB j)) hx)) ?_
    rw [hσ2]
    refine zr_castS (hS2.bx hj.2) rfl q1941 dX16_walk_200 ?_
    refine zr_astore (ls2 := [(0, .ref pa), (1, .ref (kA c (rB i))), (2, .int y), (3, .ref it), (4, .ref (kA c (rB j)))]) dX16_walk_203 (Nat.le_of_ble_eq_true rfl) rfl ?_
    refine zr_aload dX16_walk_205 rfl ?_
    refine zr_call1 (rest := []) (zs_V (As := []) (by omega) ok_X2_isInFlow q1991 q1214 q1215 q57 q1216 rfl (hS2.bx hj.2) rfl rfl rfl (Nat.le_of_ble_eq_true rfl) dX16_walk_207) (c_X2_isInFlow (by omega) hS2 hj.2) ?_
    refine zr_ifeqB (tgt := 229) dX16_walk_210 (by decide) (fun h1 => ?_) (fun h1 => ?_)
    · refine zr_goto (tgt := 185) dX16_walk_229 (by decide) ?_
      refine zr_sub (ls2 := [(0, .ref pa), (1, .ref (kA c (rB i))), (2, .int y), (3, .ref it)]) [0, 1, 2, 3] rfl ?_
      have e9 : pgKid c (pgWk c h f) y s j = s := if_neg (by rw [h1]; decide)
      rw [e9] at kQ
      exact ih (k + 1) _ _ s σ2 hy2 hkl hX2 (by omega) hP2 (by omega) hLM hI2 hT2 kQ
    · refine zr_aload_n dX16_walk_213 rfl rfl ?_
      refine zr_aload dX16_walk_214 rfl ?_
      refine zr_iload_n dX16_walk_216 rfl rfl ?_
      refine zr_aload dX16_walk_217 rfl ?_
      refine zr_getN (k := 24) (v := .ref (kA c (rP j))) in_X2 (hS2.bx hj.2) rfl (Nat.le_of_ble_eq_true rfl) q291 (.inl rfl) rfl dX16_walk_219 ?_
      refine zr_getN (k := 1) (v := .int (kP c j 1)) in_X3 (hS2.pl hj.2) rfl (Nat.le_of_ble_eq_true rfl) q194 (.inl rfl) rfl dX16_walk_222 ?_
      refine zr_iadd dX16_walk_225 ?_
      have e9 : pgKid c (pgWk c h f) y s j = pgWk c h f s j (y + kP c j 1) := if_pos h1
      rw [e9] at kQ
      obtain ⟨_, σ3, ⟨rfl, hP3, hU3, hX3⟩, hC3⟩ := hWK σ2 s j (y + kP c j 1) hX2.gd hS2 hj.2 (by omega) hP2 (by omega)
      have hI3 := hX3.f hX2.gd hI2 (by rw [hT2]; exact SP_0)
      have hT3 := (hX3.t hX2.gd hI2).trans hT2
      refine zr_callv (rest := []) (zs_V (As := [.ref (kA c (rB j)), .int (y + (kP c j 1))]) (by omega) ok_X16_walk q1942 q1944 qs32 q101 q1945 rfl (.new hP2.1.1) rfl rfl rfl (Nat.le_of_ble_eq_true rfl) dX16_walk_226) hC3 ?_
      refine zr_goto (tgt := 185) dX16_walk_229 (by decide) ?_
      refine zr_sub (ls2 := [(0, .ref pa), (1, .ref (kA c (rB i))), (2, .int y), (3, .ref it)]) [0, 1, 2, 3] rfl ?_
      exact ih (k + 1) _ _ _ σ3 hy2 hkl (hX2.trans hX3) (by omega) hP3 (by omega) hLM hI3 hT3 kQ
theorem gU_txt (c : zCS) (h : Int32) (i : Nat) (y : Int32) : ∀ (ys : List Nat) (s : PgT), (gU (ys.foldl (pgLn c h i y) s)).length = (gU s).length + ys.length := by
  intro ys
  induction ys with
  | nil => intro s; rfl
  | cons x ys ih =>
    intro s
    show (gU (ys.foldl (pgLn c h i y) (pgLn c h i y s x))).length = _
    rw [ih]
    show (gU (pgPut _ _ _ _ _ _ _ _)).length + _ = _
    rw [gU_put, List.length_cons]
    omega
set_option maxHeartbeats 4000000 in
theorem c_X16_walk {G : zG} {c : zCS} {h : Int32} {pa ul bg M : Nat} (hG : zOk G) (hM : M ≤ 1000) : ∀ (f d : Nat), 30 + f ≤ d → HWK G c h pa ul bg M f d := by
  intro f
  induction f with
  | zero => intro d hd σ s i y hw hS hi hf; omega
  | succ f ih =>
    intro d hd σ s i y hw hS hi hf hP hU
    refine zCall_of (ls := [(0, .ref pa), (1, .ref (kA c (rB i))), (2, .int y)]) (by decide) (Nat.le_of_ble_eq_true rfl) rfl ?_
    have hle := hS.le
    have hpos : 60 + 2 * M ≤ (tsum c (uA c) (f + 1) i) * (60 + 2 * M) := Nat.le_mul_of_pos_left _ (by rw [tsum_succ]; unfold uA; omega)
    obtain ⟨fl_c, hflc⟩ := (hS.chL hi).A
    refine zr_aload_n dX16_walk_0 rfl rfl ?_
    refine zr_call1 (rest := []) (zs_V (As := []) (by omega) ok_X2_isText q1946 q1147 q1148 q57 q1149 rfl (hS.bx hi) rfl rfl rfl (Nat.le_of_ble_eq_true rfl) dX16_walk_1) (c_X2_isText (by omega) hS hi) ?_
    refine zr_ifeqB (tgt := 119) dX16_walk_4 (by decide) (fun h1 => ?_) (fun h1 => ?_)
    · refine zr_aload_n dX16_walk_119 rfl rfl ?_
      refine zr_call1 (rest := []) (zs_V (As := []) (by omega) ok_X2_isItems q1982 q1223 q1224 q57 q1225 rfl (hS.bx hi) rfl rfl rfl (Nat.le_of_ble_eq_true rfl) dX16_walk_120) (c_X2_isItems (by omega) hS hi) ?_
      have key138 : (kItems c i || (kCh c i).isEmpty) = true → zR G yX16_walk cX16_walk 7 (Option.none : Option Jvm.ClassFile.FieldType) [] d 138 [(0, .ref pa), (1, .ref (kA c (rB i))), (2, .int y)] [] σ (fun o σ' => o = .inl none ∧ PgS G σ' c h pa ul bg (pgWk c h (f + 1) s i y) ∧ (gU (pgWk c h (f + 1) s i y)).length ≤ (gU s).length + tsum c (uA c) (f + 1) i ∧ zX G SP σ σ' (tsum c (uA c) (f + 1) i * (60 + 2 * M))) := by
        intro h2
        rw [pgWk_i h1 h2]
        refine zr_aload_n dX16_walk_138 rfl rfl ?_
        refine zr_call1 (rest := []) (zs_V (As := []) (by omega) ok_X2_isRoot q1963 q1129 q1130 q57 q1131 rfl (hS.bx hi) rfl rfl rfl (Nat.le_of_ble_eq_true rfl) dX16_walk_139) (c_X2_isRoot (by omega) hS hi) ?_
        refine zr_ifneB (tgt := 232) dX16_walk_142 (by decide) (fun h3 => ?_) (fun h3 => ?_)
        · rw [if_neg (by rw [h3]; exact nofun)]
          exact zr_vret rfl dX16_walk_232 (⟨rfl, hP, by omega, zX.rf _ hw _⟩)
        · refine zr_aload_n dX16_walk_145 rfl rfl ?_
          refine zr_getN (k := 24) (v := .ref (kA c (rP i))) in_X2 (hS.bx hi) rfl (Nat.le_of_ble_eq_true rfl) q291 (.inl rfl) rfl dX16_walk_146 ?_
          refine zr_getN (k := 3) (v := .int (kP c i 3)) in_X3 (hS.pl hi) rfl (Nat.le_of_ble_eq_true rfl) q205 (.inl rfl) rfl dX16_walk_149 ?_
          refine zr_if_le (tgt := 232) dX16_walk_152 (by decide) (fun h4 => ?_) (fun h4 => ?_)
          · rw [if_neg (by rw [decide_eq_false (Int32.not_lt.mpr h4), Bool.and_false]; decide)]
            exact zr_vret rfl dX16_walk_232 (⟨rfl, hP, by omega, zX.rf _ hw _⟩)
          · rw [if_pos (by rw [h3, decide_eq_true (Int32.not_le.mp h4)]; rfl)]
            have htx : 1 ≤ tsum c (uA c) (f + 1) i := by rw [tsum_succ]; unfold uA; omega
            obtain ⟨_, σ2, ⟨rfl, hP2, hX2⟩, hC2⟩ := c_X16_put (d := d - 1) (y := y) (bo := y + kP c i 3) (k := 0) (hl := false) (by omega) hG hw hS hi (fun h9 => absurd h9 (by rw [h1]; decide)) hP (by omega)
            refine zr_aload_n dX16_walk_155 rfl rfl ?_
            refine zr_aload_n dX16_walk_156 rfl rfl ?_
            refine zr_iconst (v := 0) dX16_walk_157 (by decide) ?_
            refine zr_iload_n dX16_walk_158 rfl rfl ?_
            refine zr_iload_n dX16_walk_159 rfl rfl ?_
            refine zr_aload_n dX16_walk_160 rfl rfl ?_
            refine zr_getN (k := 24) (v := .ref (kA c (rP i))) in_X2 (hS.bx hi) rfl (Nat.le_of_ble_eq_true rfl) q291 (.inl rfl) rfl dX16_walk_161 ?_
            refine zr_getN (k := 3) (v := .int (kP c i 3)) in_X3 (hS.pl hi) rfl (Nat.le_of_ble_eq_true rfl) q205 (.inl rfl) rfl dX16_walk_164 ?_
            refine zr_iadd dX16_walk_167 ?_
            refine zr_iconst (v := 0) dX16_walk_168 (by decide) ?_
            refine zr_callv (rest := []) (zs_V (As := [.ref (kA c (rB i)), .int 0, .int y, .int (y + (kP c i 3)), .int 0]) (by omega) ok_X16_put q1955 q1957 qs34 q101 q1958 rfl (.new hP.1.1) rfl rfl rfl (Nat.le_of_ble_eq_true rfl) dX16_walk_169) hC2 ?_
            refine zr_goto (tgt := 232) dX16_walk_172 (by decide) ?_
            exact zr_vret rfl dX16_walk_232 (⟨rfl, hP2, by rw [gU_put]; omega, hX2.le (by omega)⟩)
      refine zr_ifneB (tgt := 138) dX16_walk_123 (by decide) (fun h2 => ?_) (fun h2 => ?_)
      · exact key138 (by rw [h2]; rfl)
      · refine zr_aload_n dX16_walk_126 rfl rfl ?_
        refine zr_getN (k := 4) (v := .ref (kA c (rC i))) in_X2 (hS.bx hi) rfl (Nat.le_of_ble_eq_true rfl) q236 (.inl rfl) rfl dX16_walk_127 ?_
        refine zr_call51 (rest := []) (zs_F (As := []) (by omega) okF_J2_isEmpty (by decide +kernel) q1984 q1523 q1525 q56 q1527 hflc rfl rfl rfl (Nat.le_of_ble_eq_true rfl) dX16_walk_130) (c_J2_isEmpty (by omega) (hS.chL hi)) ?_
        have hem : ((kCh c i).map (fun j => kA c (rB j))).isEmpty = (kCh c i).isEmpty := by cases kCh c i <;> rfl
        rw [hem]
        refine zr_ifeqB (tgt := 175) dX16_walk_135 (by decide) (fun h3 => ?_) (fun h3 => ?_)
        · rw [pgWk_k h1 (by rw [h2, h3]; rfl)]
          refine zr_aload_n dX16_walk_175 rfl rfl ?_
          refine zr_getN (k := 4) (v := .ref (kA c (rC i))) in_X2 (hS.bx hi) rfl (Nat.le_of_ble_eq_true rfl) q236 (.inl rfl) rfl dX16_walk_176 ?_
          refine zr_call51 (rest := []) (zs_F (As := []) (by omega) okF_J2_iterator (by decide +kernel) q1986 q832 q834 q56 q836 hflc rfl rfl rfl (Nat.le_of_ble_eq_true rfl) dX16_walk_179) (c_J2_iterator (by omega) hw.1 (hS.chL hi)) ?_
          refine zr_astore_n (ls2 := [(0, .ref pa), (1, .ref (kA c (rB i))), (2, .int y), (3, .ref (sZ σ))]) dX16_walk_184 rfl (Nat.le_of_ble_eq_true rfl) rfl ?_
          have hX1 : zX G SP σ (sNew σ 0 (.inr (21, [.int 0, .int (-1), .int (kM c (rC i)), .ref (kA c (rC i))])) 4) 8 := zX.new SP hw 0 (by omega) _ 4
          have hX10 : zX G S0 σ (sNew σ 0 (.inr (21, [.int 0, .int (-1), .int (kM c (rC i)), .ref (kA c (rC i))])) 4) 8 := zX.new S0 hw 0 (by omega) _ 4
          have hts := tsum_succ c (uA c) f i
          have hua : uA c i = 1 + (kLn c i).length := rfl
          have htm : tsum c (uA c) (f + 1) i * (60 + 2 * M) = (uA c i) * (60 + 2 * M) + ((kCh c i).map (tsum c (uA c) f)).sum * (60 + 2 * M) := by rw [hts, Nat.add_mul]
          have hpu : 60 + 2 * M ≤ uA c i * (60 + 2 * M) := Nat.le_mul_of_pos_left _ (by omega)
          refine l_X16_kids (σ := σ) (f := f) (M := M) (L := (gU s).length + tsum c (uA c) (f + 1) i) (N := tsum c (uA c) (f + 1) i * (60 + 2 * M)) (by omega) hG hw hS hi (by omega) (Nat.le_refl _) (ih (d - 1) (by omega)) _ 0 8 (-1) s _ rfl (Nat.zero_le _) hX1 (by rw [List.drop_zero]; omega) (hP.keep hw hX10 (fun _ _ _ h => h)) (by rw [List.drop_zero]; omega) hU (sF_newS _ _ _ _) (sT_newS _ _ _ _) (fun σ2 h4 h5 x2 => ?_)
          rw [List.drop_zero] at h4 h5
          exact ⟨rfl, h4, h5, x2⟩
        · exact key138 (by rw [h3, Bool.or_true])
    · rw [pgWk_t h1]
      refine zr_aload_n dX16_walk_7 rfl rfl ?_
      refine zr_getN (k := 24) (v := .ref (kA c (rP i))) in_X2 (hS.bx hi) rfl (Nat.le_of_ble_eq_true rfl) q291 (.inl rfl) rfl dX16_walk_8 ?_
      refine zr_getN (k := 5) (v := .ref (kA c (rL i))) in_X3 (hS.pl hi) rfl (Nat.le_of_ble_eq_true rfl) q209 (.inl rfl) rfl dX16_walk_11 ?_
      refine zr_astore_n (ls2 := [(0, .ref pa), (1, .ref (kA c (rB i))), (2, .int y), (3, .ref (kA c (rL i)))]) dX16_walk_14 rfl (Nat.le_of_ble_eq_true rfl) rfl ?_
      refine zr_iconst (v := 0) dX16_walk_15 (by decide) ?_
      refine zr_istore (ls2 := [(0, .ref pa), (1, .ref (kA c (rB i))), (2, .int y), (3, .ref (kA c (rL i))), (4, .int 0)]) dX16_walk_16 (Nat.le_of_ble_eq_true rfl) rfl ?_
      have ht : 1 + (kLn c i).length ≤ tsum c (uA c) (f + 1) i := by rw [tsum_succ]; exact Nat.le_add_right _ _
      have ht2 := Nat.mul_le_mul_right (60 + 2 * M) ht
      rw [Nat.add_mul] at ht2
      refine l_X16_txt (σ := σ) (M := M) (N := tsum c (uA c) (f + 1) i * (60 + 2 * M)) (by omega) hG hw hS hi h1 hM _ 0 0 s σ rfl (Nat.zero_le _) (zX.rf _ hw _) (by rw [List.drop_zero, List.length_range]; omega) hP (by rw [List.drop_zero, List.length_range]; omega) (fun σ2 h2 x2 => ?_)
      rw [List.drop_zero] at h2
      exact ⟨rfl, h2, by rw [gU_txt, List.length_range]; omega, x2⟩
