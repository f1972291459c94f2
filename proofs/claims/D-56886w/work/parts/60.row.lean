/-! ===== the layout: layRow (rows printed by tools/p60.py) ===== -/
theorem KEq.nn {c c' : zCS} (h : KEq c c') {i : Nat} (hi : i < kN c) : i < kN c' := by rw [h.n]; exact hi
theorem KW_eq {c c' : zCS} (h : KEq c c') : ∀ (f i : Nat), KW f c' i = KW f c i := by
  intro f
  induction f with
  | zero => intro i; rfl
  | succ f ih => intro i; rw [KW_succ, KW_succ, h.ch i]; simp only [ih]
theorem kLift_eq {c c' : zCS} (h : KEq c c') (i : Nat) : kLifted c' i = kLifted c i := by unfold kLifted kRoot; rw [h.par, h.f i 17 (by decide)]
/-- what laying a box may cost (what is lifted out of it is laid by itself) -/
def LB : Nat → zCS → Nat → Nat
  | 0, _, _ => 0
  | f + 1, c, i => 7000 + 5000 * (kWd c i).length + ((kCh c i).map (fun j => if kLifted c j = true then 0 else LB f c j + 4 * KW 24 c j + 2000)).sum
/-- what a child may cost -/
def LX (f : Nat) (c : zCS) (j : Nat) : Nat := if kLifted c j = true then 0 else LB f c j + 4 * KW 24 c j + 2000
theorem LB_eq {c c' : zCS} (h : KEq c c') : ∀ (f i : Nat), LB f c' i = LB f c i := by
  intro f
  induction f with
  | zero => intro i; rfl
  | succ f ih => intro i; unfold LB; rw [h.ch i, h.wd i]; simp only [ih, KW_eq h, kLift_eq h]
theorem zC.at2 {G : zG} {I : zI} {d x y : Nat} {v : Value} {as : List Value} {σ σ' : zT} {o : zO} (hx : x = y) (h : zC G I d (v :: .ref x :: as) σ o σ') : zC G I d (v :: .ref y :: as) σ o σ' := hx ▸ h
abbrev LayT : Type := zCS × Int32 → Nat → Int32 → zCS × Int32
def rwA (c : zCS) (p : (Nat → Int32) × Int32) (q : Nat × Nat) : (Nat → Int32) × Int32 := (upd p.1 q.1 (cW c q.2 false), p.2 - (cW c q.2 false + kSides c q.2))
def cRowW (c : zCS) (i : Nat) : Nat → Int32 :=
  if 0 < ((nums (kItemsOf c i) 0).foldl (rwA c) (fun _ => 0, kInner c i)).2 then cGrow c (kItemsOf c i) ((nums (kItemsOf c i) 0).foldl (rwA c) (fun _ => 0, kInner c i)).2 ((nums (kItemsOf c i) 0).foldl (rwA c) (fun _ => 0, kInner c i)).1
  else if ((nums (kItemsOf c i) 0).foldl (rwA c) (fun _ => 0, kInner c i)).2 < 0 then cShrink c (kItemsOf c i) (kInner c i) ((nums (kItemsOf c i) 0).foldl (rwA c) (fun _ => 0, kInner c i)).1
  else ((nums (kItemsOf c i) 0).foldl (rwA c) (fun _ => 0, kInner c i)).1
def rowB (L : LayT) (i : Nat) (g : Nat → Int32) (s : (zCS × Int32) × Int32 × Int32) (q : Nat × Nat) : (zCS × Int32) × Int32 × Int32 :=
  ((cPut (L s.1 q.2 (g q.1)).1 q.2 s.2.1 (kF (L s.1 q.2 (g q.1)).1 i 12), (L s.1 q.2 (g q.1)).2), s.2.1 + (g q.1 + kSides (cPut (L s.1 q.2 (g q.1)).1 q.2 s.2.1 (kF (L s.1 q.2 (g q.1)).1 i 12)) q.2),
    imax s.2.2 (kP (cPut (L s.1 q.2 (g q.1)).1 q.2 s.2.1 (kF (L s.1 q.2 (g q.1)).1 i 12)) q.2 3 + kEnds (cPut (L s.1 q.2 (g q.1)).1 q.2 s.2.1 (kF (L s.1 q.2 (g q.1)).1 i 12)) q.2))
def cStrs (c : zCS) (es : List Nat) (h : Int32) : zCS := es.foldl (fun c j => cStr c j h) c
def rowE (L : LayT) (s : zCS × Int32) (i : Nat) : (zCS × Int32) × Int32 × Int32 := (nums (kItemsOf s.1 i) 0).foldl (rowB L i (cRowW s.1 i)) (s, kF s.1 i 12, 0)
def cRow (L : LayT) (s : zCS × Int32) (i : Nat) : zCS × Int32 := (cSH (cStrs (rowE L s i).1.1 (kItemsOf s.1 i) (rowE L s i).2.2) i (rowE L s i).2.2, (rowE L s i).1.2)
theorem dT_ne {l a : Nat} (h : l ≠ a) : dT l ≠ dT a ∧ dT l + 1 ≠ dT a := by unfold dT; omega
theorem SC_big {t : Nat} (h : 1000 ≤ t) : ¬ SC t := fun h1 => by have := h1.2; omega
theorem SC_0 : ¬ SC 0 := fun h1 => by have := h1.1; omega
theorem zX.dynT {G : zG} {S : Nat → Prop} {σ σ1 σ2 : zT} {n m t : Nat} (hw : zGd G σ) (h : zX G S σ σ1 n) (h2 : zX G (ST t) σ1 σ2 m) (ht : 10000 + 2 * sZ σ ≤ t) : zX G S σ σ2 (n + m) := zX.dyn hw h (h2.mono (fun _ h => Or.inl h)) ht

set_option maxHeartbeats 4000000 in
theorem l_X6_rowA {G : zG} {σ : zT} {d f i : Nat} {c0 : zCS} {l wa ly : Nat} {mod : Int32} {es : List Nat} {L : LayT} {chk : Bool} {Q : zO → zT → Prop} (hd : 87 ≤ d) (hG : zOk G) (hw : zGd G σ) (hi : i < kN c0) (hL : zL G σ (dT l) l mod (es.map (fun j => kA c0 (rB j)))) (hes : ∀ j, j ∈ es → j < kN c0 ∧ kN c0 ≤ f + j) (hel : es.length ≤ 24) (hS : CSys G σ c0) (hwa : sZ σ ≤ wa) {N : Nat} : ∀ (ys : List Nat) (k n : Nat) (p : (Nat → Int32) × Int32) (σ1 : zT), es.drop k = ys → k ≤ es.length → zX G S0 σ σ1 n → n + (ys.map (fun j => KW 24 c0 j)).sum ≤ N → sF σ1 wa = some (aI G es.length p.1) → sT σ1 wa = dT wa → (∀ σ2 x, zX G S0 σ σ2 N → sF σ2 wa = some (aI G es.length ((nums ys k).foldl (rwA c0) p).1) → sT σ2 wa = dT wa → zR G yX6_layRow cX6_layRow 9 (Option.none : Option Jvm.ClassFile.FieldType) [] d 79 [(0, .ref ly), (1, .ref (kA c0 (rB i))), (2, .ref l), (3, .ref wa), (4, .int ((nums ys k).foldl (rwA c0) p).2), (5, .int x)] [] σ2 Q) → zR G yX6_layRow cX6_layRow 9 (Option.none : Option Jvm.ClassFile.FieldType) [] d 23 [(0, .ref ly), (1, .ref (kA c0 (rB i))), (2, .ref l), (3, .ref wa), (4, .int p.2), (5, .int (nI k))] [] σ1 Q := by
  intro ys
  induction ys with
  | nil =>
    intro k n p σ1 hy hk hX hN hA hT kQ
    have hkl := drop_nil hy hk
    refine zr_iload dX6_layRow_23 rfl ?_
    refine zr_aload_n dX6_layRow_25 rfl rfl ?_
    refine zr_alenI (v := nI es.length) (.new hA) rfl dX6_layRow_26 ?_
    refine zr_icmp_ge (tgt := 79) dX6_layRow_27 (by decide) (fun _ => ?_) (fun h9 => absurd (by rw [hkl]; exact Int32.le_refl _) h9)
    exact kQ σ1 _ (hX.le (by simpa using hN)) hA hT
  | cons j ys ih =>
    intro k n p σ1 hy hk hX hN hA hT kQ
    obtain ⟨hx, hy2, hkl, hm⟩ := drop_cons hy
    obtain ⟨hj, hjf⟩ := hes j hm
    have hS1 := hS.keep0 hw hX
    have hL1 := hX.L hw hL (fun h => h) (fun h => h)
    have hbj := hS1.bx hj
    obtain ⟨fl, hfl⟩ := hL1.A
    rw [List.map_cons, List.sum_cons] at hN
    obtain ⟨_, σ3, ⟨rfl, hX3⟩, hC⟩ := c_W (d := d - 1) false (by omega) hG hX.gd hS1 hj
    have hA3 := hX3.f hX.gd hA (fun h => h)
    have hT3 := (hX3.t hX.gd hA).trans hT
    have hS3 := hS1.keep0 hX.gd hX3
    have hL3 := hX3.L hX.gd hL1 (fun h => h) (fun h => h)
    obtain ⟨fl3, hfl3⟩ := hL3.A
    have e0 : upd p.1 k (cW c0 j false) k = cW c0 j false := if_pos rfl
    refine zr_iload dX6_layRow_23 rfl ?_
    refine zr_aload_n dX6_layRow_25 rfl rfl ?_
    refine zr_alenI (v := nI es.length) (.new hA) rfl dX6_layRow_26 ?_
    refine zr_icmp_ge (tgt := 79) dX6_layRow_27 (by decide) (fun h9 => absurd h9 (nI_ge hkl (by omega))) (fun _ => ?_)
    refine zr_aload_n dX6_layRow_30 rfl rfl ?_
    refine zr_iload dX6_layRow_31 rfl ?_
    refine zr_aload_n dX6_layRow_33 rfl rfl ?_
    refine zr_iload dX6_layRow_34 rfl ?_
    refine zr_call51 (rest := [.int (nI k), .ref wa]) (zs_F (As := [.int (nI k)]) (by omega) okF_J2_get (by decide +kernel) q1103 q1106 q959 q56 q960 hfl rfl rfl rfl (Nat.le_of_ble_eq_true rfl) dX6_layRow_36) (c_J2_get (by omega) hG hL1 (map_at (fun j => kA c0 (rB j)) hx)) ?_
    refine zr_castS hbj rfl q1112 dX6_layRow_41 ?_
    refine zr_iconst (v := 0) dX6_layRow_44 (by decide) ?_
    refine zr_call1 (rest := [.int (nI k), .ref wa]) (zs_SN (As := [.ref (kA c0 (rB j)), .int 0]) (by omega) ok_X1_contentWidth q1139 q1140 q53 q1141 rfl rfl (Nat.le_of_ble_eq_true rfl) dX6_layRow_45) hC ?_
    refine zr_iast (f2 := upd p.1 k (cW c0 j false)) hA3 (vp_in_nI (by omega) (by omega)) (by rw [nI_clamp (by omega)]) dX6_layRow_48 ?_
    have hX4 : zX G S0 σ (sUp σ3 wa (aI G es.length (upd p.1 k (cW c0 j false)))) (n + KW 24 c0 j) := (hX.trans hX3).upNA hA3 hwa
    have hA4 : sF (sUp σ3 wa (aI G es.length (upd p.1 k (cW c0 j false)))) wa = some (aI G es.length (upd p.1 k (cW c0 j false))) := sF_upS _ _ _
    have hS4 := hS.keep0 hw hX4
    have hL4 := hX4.L hw hL (fun h => h) (fun h => h)
    have hbj4 := hS4.bx hj
    obtain ⟨fl4, hfl4⟩ := hL4.A
    refine zr_iload dX6_layRow_49 rfl ?_
    refine zr_aload_n dX6_layRow_51 rfl rfl ?_
    refine zr_iload dX6_layRow_52 rfl ?_
    refine zr_iald (v := .int (cW c0 j false)) (.new hA4) (vp_in_nI (by omega) (by omega)) (by rw [nI_clamp (by omega), e0]) dX6_layRow_54 ?_
    refine zr_aload_n dX6_layRow_55 rfl rfl ?_
    refine zr_iload dX6_layRow_56 rfl ?_
    refine zr_call51 (rest := [.int (cW c0 j false), .int p.2]) (zs_F (As := [.int (nI k)]) (by omega) okF_J2_get (by decide +kernel) q1103 q1106 q959 q56 q960 hfl4 rfl rfl rfl (Nat.le_of_ble_eq_true rfl) dX6_layRow_58) (c_J2_get (by omega) hG hL4 (map_at (fun j => kA c0 (rB j)) hx)) ?_
    refine zr_castS hbj4 rfl q1112 dX6_layRow_63 ?_
    refine zr_call1 (rest := [.int (cW c0 j false), .int p.2]) (zs_V (As := []) (by omega) ok_X2_sides q1181 q1164 q1165 q57 q1166 rfl hbj4 rfl rfl rfl (Nat.le_of_ble_eq_true rfl) dX6_layRow_66) (c_X2_sides (by omega) hS4 hj) ?_
    refine zr_iadd dX6_layRow_69 ?_
    refine zr_isub dX6_layRow_70 ?_
    refine zr_istore (ls2 := [(0, .ref ly), (1, .ref (kA c0 (rB i))), (2, .ref l), (3, .ref wa), (4, .int (p.2 - ((cW c0 j false) + (kSides c0 j)))), (5, .int (nI k))]) dX6_layRow_71 (Nat.le_of_ble_eq_true rfl) rfl ?_
    refine zr_iinc (v := ((nI k) + 1)) (ls2 := [(0, .ref ly), (1, .ref (kA c0 (rB i))), (2, .ref l), (3, .ref wa), (4, .int (p.2 - ((cW c0 j false) + (kSides c0 j)))), (5, .int ((nI k) + 1))]) dX6_layRow_73 rfl rfl (Nat.le_of_ble_eq_true rfl) rfl ?_
    rw [show nI k + 1 = nI (k + 1) from nI_1 k]
    refine zr_goto (tgt := 23) dX6_layRow_76 (by decide) ?_
    exact ih (k + 1) _ (rwA c0 p (k, j)) _ hy2 (by omega) hX4 (by omega) hA4 hT3 kQ
set_option maxHeartbeats 4000000 in
theorem l_X6_rowB {G : zG} {σ : zT} {d f i : Nat} {c0 : zCS} {l wa ly : Nat} {mod : Int32} {es : List Nat} {L : LayT} {chk : Bool} {free : Int32} {Q : zO → zT → Prop} (hd : 87 ≤ d) (hG : zOk G) (hw : zGd G σ) (hi : i < kN c0) (hL : zL G σ (dT l) l mod (es.map (fun j => kA c0 (rB j)))) (hes : ∀ j, j ∈ es → j < kN c0 ∧ kN c0 ≤ f + j) (hel : es.length ≤ 24) {g : Nat → Int32} (hA0 : sF σ wa = some (aI G es.length g)) (hT0 : sT σ wa = dT wa) (hLay : ∀ (σ : zT) (c : zCS) (n : Int32) (j : Nat) (wd : Int32), zGd G σ → LY G σ c ly chk n → j < kN c → kN c ≤ f + j → zCall G I_X6_lay (d - 1) [.ref ly, .ref (kA c (rB j)), .int wd] σ (fun o σ' => ∃ c', o = .inl none ∧ KEq c c' ∧ kZ c' = (L (kZ c, n) j wd).1 ∧ LY G σ' c' ly chk (L (kZ c, n) j wd).2 ∧ zX G SC σ σ' (LB f c j))) {N : Nat} : ∀ (ys : List Nat) (k m : Nat) (c : zCS) (n x hi9 : Int32) (σ1 : zT), es.drop k = ys → k ≤ es.length → KEq c0 c → zX G SC σ σ1 m → m + (ys.map (fun j => LB f c0 j)).sum ≤ N → LY G σ1 c ly chk n → (∀ σ2 c2 x2, KEq c0 c2 → zX G SC σ σ2 N → kZ c2 = ((nums ys k).foldl (rowB L i g) ((kZ c, n), x, hi9)).1.1 → LY G σ2 c2 ly chk ((nums ys k).foldl (rowB L i g) ((kZ c, n), x, hi9)).1.2 → zR G yX6_layRow cX6_layRow 9 (Option.none : Option Jvm.ClassFile.FieldType) [] d 206 [(0, .ref ly), (1, .ref (kA c0 (rB i))), (2, .ref l), (3, .ref wa), (4, .int free), (5, .int ((nums ys k).foldl (rowB L i g) ((kZ c, n), x, hi9)).2.2), (6, .int ((nums ys k).foldl (rowB L i g) ((kZ c, n), x, hi9)).2.1), (7, .int x2)] [] σ2 Q) → zR G yX6_layRow cX6_layRow 9 (Option.none : Option Jvm.ClassFile.FieldType) [] d 122 [(0, .ref ly), (1, .ref (kA c0 (rB i))), (2, .ref l), (3, .ref wa), (4, .int free), (5, .int hi9), (6, .int x), (7, .int (nI k))] [] σ1 Q := by
  intro ys
  induction ys with
  | nil =>
    intro k m c n x hi9 σ1 hy hk hE hX hN hY kQ
    have hkl := drop_nil hy hk
    have hA := hX.f hw hA0 (by rw [hT0]; exact SC_big (by unfold dT; omega))
    refine zr_iload dX6_layRow_122 rfl ?_
    refine zr_aload_n dX6_layRow_124 rfl rfl ?_
    refine zr_alenI (v := nI es.length) (.new hA) rfl dX6_layRow_125 ?_
    refine zr_icmp_ge (tgt := 206) dX6_layRow_126 (by decide) (fun _ => ?_) (fun h9 => absurd (by rw [hkl]; exact Int32.le_refl _) h9)
    exact kQ σ1 c _ hE (hX.le (by simpa using hN)) rfl hY
  | cons j ys ih =>
    intro k m c n x hi9 σ1 hy hk hE hX hN hY kQ
    obtain ⟨hx, hy2, hkl, hm⟩ := drop_cons hy
    obtain ⟨hj, hjf⟩ := hes j hm
    have hA := hX.f hw hA0 (by rw [hT0]; exact SC_big (by unfold dT; omega))
    have hL1 := hX.L hw hL (SC_big (by unfold dT; omega)) (SC_big (by unfold dT; omega))
    obtain ⟨fl, hfl⟩ := hL1.A
    rw [List.map_cons, List.sum_cons] at hN
    have hS1 := hY.1
    have hbj : zAt G σ1 (kA c0 (rB j)) (.inr (2, kBx c j)) := hE.b j ▸ hS1.bx (hE.nn hj)
    refine zr_iload dX6_layRow_122 rfl ?_
    refine zr_aload_n dX6_layRow_124 rfl rfl ?_
    refine zr_alenI (v := nI es.length) (.new hA) rfl dX6_layRow_125 ?_
    refine zr_icmp_ge (tgt := 206) dX6_layRow_126 (by decide) (fun h9 => absurd h9 (nI_ge hkl (by omega))) (fun _ => ?_)
    refine zr_aload_n dX6_layRow_129 rfl rfl ?_
    refine zr_iload dX6_layRow_130 rfl ?_
    refine zr_call51 (rest := []) (zs_F (As := [.int (nI k)]) (by omega) okF_J2_get (by decide +kernel) q1103 q1106 q959 q56 q960 hfl rfl rfl rfl (Nat.le_of_ble_eq_true rfl) dX6_layRow_132) (c_J2_get (by omega) hG hL1 (map_at (fun j => kA c0 (rB j)) hx)) ?_
    refine zr_castS hbj rfl q1112 dX6_layRow_137 ?_
    refine zr_astore (ls2 := [(0, .ref ly), (1, .ref (kA c0 (rB i))), (2, .ref l), (3, .ref wa), (4, .int free), (5, .int hi9), (6, .int x), (7, .int (nI k)), (8, .ref (kA c0 (rB j)))]) dX6_layRow_140 (Nat.le_of_ble_eq_true rfl) rfl ?_
    refine zr_aload_n dX6_layRow_142 rfl rfl ?_
    refine zr_aload dX6_layRow_143 rfl ?_
    refine zr_aload_n dX6_layRow_145 rfl rfl ?_
    refine zr_iload dX6_layRow_146 rfl ?_
    refine zr_iald (v := .int (g k)) (.new hA) (vp_in_nI (by omega) (by omega)) (by rw [nI_clamp (by omega)]) dX6_layRow_148 ?_
    obtain ⟨_, σ3, ⟨c3, rfl, hE3, hz3, hY3, hX3⟩, hC⟩ := hLay σ1 c n j (g k) hX.gd hY (hE.nn hj) (by rw [hE.n]; exact hjf)
    have hC' := zC.at2 (hE.b j) hC
    have hE03 := hE.trans hE3
    have hX4 := hX.trans hX3
    have hS3 := hY3.1
    have hA3 := hX4.f hw hA0 (by rw [hT0]; exact SC_big (by unfold dT; omega))
    refine zr_callv (rest := []) (zs_V (As := [.ref (kA c0 (rB j)), .int (g k)]) (by omega) ok_X6_lay q1113 q1115 qs10 q83 q1116 rfl hY.lf rfl rfl rfl (Nat.le_of_ble_eq_true rfl) dX6_layRow_149) hC' ?_
    have hbi3 : zAt G σ3 (kA c0 (rB i)) (.inr (2, kBx c3 i)) := hE03.b i ▸ hS3.bx (hE03.nn hi)
    refine zr_aload_n dX6_layRow_152 rfl rfl ?_
    refine zr_aload dX6_layRow_153 rfl ?_
    refine zr_iload dX6_layRow_155 rfl ?_
    refine zr_aload_n dX6_layRow_157 rfl rfl ?_
    refine zr_getN (k := 12) (v := .int (kF c3 i 12)) in_X2 hbi3 rfl (Nat.le_of_ble_eq_true rfl) q259 (.inl rfl) rfl dX6_layRow_158 ?_
    obtain ⟨_, σ4, ⟨rfl, hY4, hX5⟩, hC4⟩ := c_X6_put (d := d - 1) (x := x) (y := kF c3 i 12) (by omega) hX4.gd hY3 (hE03.nn hj)
    have hC4' := zC.at2 (hE03.b j) hC4
    have hE4 := hE03.trans (KEq.Put c3 j x (kF c3 i 12))
    have hX6 := hX4.trans hX5
    have hS4 := hY4.1
    have hA4 := hX6.f hw hA0 (by rw [hT0]; exact SC_big (by unfold dT; omega))
    generalize hc4 : cPut c3 j x (kF c3 i 12) = c4 at hE4 hY4 hS4
    refine zr_callv (rest := []) (zs_V (As := [.ref (kA c0 (rB j)), .int x, .int (kF c3 i 12)]) (by omega) ok_X6_put q1201 q1203 qs15 q83 q1204 rfl hY3.lf rfl rfl rfl (Nat.le_of_ble_eq_true rfl) dX6_layRow_161) hC4' ?_
    have hbj4 : zAt G σ4 (kA c0 (rB j)) (.inr (2, kBx c4 j)) := hE4.b j ▸ hS4.bx (hE4.nn hj)
    refine zr_iload dX6_layRow_164 rfl ?_
    refine zr_aload_n dX6_layRow_166 rfl rfl ?_
    refine zr_iload dX6_layRow_167 rfl ?_
    refine zr_iald (v := .int (g k)) (.new hA4) (vp_in_nI (by omega) (by omega)) (by rw [nI_clamp (by omega)]) dX6_layRow_169 ?_
    refine zr_aload dX6_layRow_170 rfl ?_
    refine zr_call1 (rest := [.int (g k), .int x]) (zs_V (As := []) (by omega) ok_X2_sides q1181 q1164 q1165 q57 q1166 rfl hbj4 rfl rfl rfl (Nat.le_of_ble_eq_true rfl) dX6_layRow_172) (zC.at1 (hE4.b j) (c_X2_sides (by omega) hS4 (hE4.nn hj))) ?_
    refine zr_iadd dX6_layRow_175 ?_
    refine zr_iadd dX6_layRow_176 ?_
    refine zr_istore (ls2 := [(0, .ref ly), (1, .ref (kA c0 (rB i))), (2, .ref l), (3, .ref wa), (4, .int free), (5, .int hi9), (6, .int (x + ((g k) + (kSides c4 j)))), (7, .int (nI k)), (8, .ref (kA c0 (rB j)))]) dX6_layRow_177 (Nat.le_of_ble_eq_true rfl) rfl ?_
    refine zr_iload dX6_layRow_179 rfl ?_
    refine zr_aload dX6_layRow_181 rfl ?_
    refine zr_getN (k := 24) (v := .ref (kA c4 (rP j))) in_X2 hbj4 rfl (Nat.le_of_ble_eq_true rfl) q290 (.inl rfl) rfl dX6_layRow_183 ?_
    refine zr_getN (k := 3) (v := .int (kP c4 j 3)) in_X3 (CSys.pl (c := c4) hS4 (hE4.nn hj)) rfl (Nat.le_of_ble_eq_true rfl) q204 (.inl rfl) rfl dX6_layRow_186 ?_
    refine zr_aload dX6_layRow_189 rfl ?_
    refine zr_call1 (rest := [.int (kP c4 j 3), .int hi9]) (zs_V (As := []) (by omega) ok_X2_ends q1230 q1231 q1232 q57 q1233 rfl hbj4 rfl rfl rfl (Nat.le_of_ble_eq_true rfl) dX6_layRow_191) (zC.at1 (hE4.b j) (c_X2_ends (by omega) hS4 (hE4.nn hj))) ?_
    refine zr_iadd dX6_layRow_194 ?_
    refine zr_max (by omega) q1239 q376 q60 q377 (Nat.le_of_ble_eq_true rfl) dX6_layRow_195 ?_
    refine zr_istore (ls2 := [(0, .ref ly), (1, .ref (kA c0 (rB i))), (2, .ref l), (3, .ref wa), (4, .int free), (5, .int (imax hi9 ((kP c4 j 3) + (kEnds c4 j)))), (6, .int (x + ((g k) + (kSides c4 j)))), (7, .int (nI k)), (8, .ref (kA c0 (rB j)))]) dX6_layRow_198 (Nat.le_of_ble_eq_true rfl) rfl ?_
    refine zr_iinc (v := ((nI k) + 1)) (ls2 := [(0, .ref ly), (1, .ref (kA c0 (rB i))), (2, .ref l), (3, .ref wa), (4, .int free), (5, .int (imax hi9 ((kP c4 j 3) + (kEnds c4 j)))), (6, .int (x + ((g k) + (kSides c4 j)))), (7, .int ((nI k) + 1)), (8, .ref (kA c0 (rB j)))]) dX6_layRow_200 rfl rfl (Nat.le_of_ble_eq_true rfl) rfl ?_
    rw [show nI k + 1 = nI (k + 1) from nI_1 k]
    refine zr_goto (tgt := 122) dX6_layRow_203 (by decide) ?_
    refine zr_sub (ls2 := [(0, .ref ly), (1, .ref (kA c0 (rB i))), (2, .ref l), (3, .ref wa), (4, .int free), (5, .int (imax hi9 ((kP c4 j 3) + (kEnds c4 j)))), (6, .int (x + ((g k) + (kSides c4 j)))), (7, .int (nI (k + 1)))]) [0, 1, 2, 3, 4, 5, 6, 7] rfl ?_
    have e9 : rowB L i g ((kZ c, n), x, hi9) (k, j) = ((kZ c4, (L (kZ c, n) j (g k)).2), x + (g k + kSides c4 j), imax hi9 (kP c4 j 3 + kEnds c4 j)) := by
      unfold rowB
      show ((cPut (L (kZ c, n) j (g k)).1 j x (kF (L (kZ c, n) j (g k)).1 i 12), (L (kZ c, n) j (g k)).2), x + (g k + kSides (cPut (L (kZ c, n) j (g k)).1 j x (kF (L (kZ c, n) j (g k)).1 i 12)) j), imax hi9 (kP (cPut (L (kZ c, n) j (g k)).1 j x (kF (L (kZ c, n) j (g k)).1 i 12)) j 3 + kEnds (cPut (L (kZ c, n) j (g k)).1 j x (kF (L (kZ c, n) j (g k)).1 i 12)) j)) = _
      rw [← hz3, ← hc4]
      rfl
    refine ih (k + 1) _ c4 _ _ _ σ4 hy2 (by omega) hE4 hX6 (by rw [LB_eq hE]; omega) hY4 ?_
    intro σ5 c5 x5 q1 q2 q3 q4
    have k9 := kQ σ5 c5 x5 q1 q2
    rw [show nums (j :: ys) k = (k, j) :: nums ys (k + 1) from rfl, List.foldl_cons, e9] at k9
    exact k9 q3 q4
theorem cCW_Z (c : zCS) : ∀ (f i : Nat) (l : Bool), cCW f (kZ c) i l = cCW f c i l := by
  intro f
  induction f with
  | zero => intro i l; rfl
  | succ f ih => intro i l; unfold cCW; simp only [ih]; rfl
theorem cW_Z (c : zCS) : cW (kZ c) = cW c := by funext i l; exact cCW_Z c 24 i l
theorem rwA_Z (c : zCS) : rwA (kZ c) = rwA c := by funext p q; unfold rwA; rw [cW_Z]; rfl
theorem shBd_Z (c : zCS) : shBd (kZ c) = shBd c := by funext g f q; unfold shBd; rw [cW_Z]
theorem lsW_Z (c : zCS) : lsW (kZ c) = lsW c := rfl
theorem ls1_Z (c : zCS) : ls1 (kZ c) = ls1 c := rfl
theorem cLose_Z (c : zCS) : cLose (kZ c) = cLose c := rfl
theorem shP_Z (c : zCS) : shP (kZ c) = shP c := rfl
theorem shQ_Z (c : zCS) : shQ (kZ c) = shQ c := rfl
theorem cGrow_Z (c : zCS) : cGrow (kZ c) = cGrow c := rfl
theorem kItemsOf_Z (c : zCS) : kItemsOf (kZ c) = kItemsOf c := rfl
theorem kInner_Z (c : zCS) : kInner (kZ c) = kInner c := rfl
theorem shLoop_Z (c : zCS) (es : List Nat) (bd : Nat → Int32) (inner : Int32) : ∀ (f : Nat) (b : Nat → Bool) (g : Nat → Int32), shLoop (kZ c) es bd inner f b g = shLoop c es bd inner f b g := by
  intro f
  induction f with
  | zero => intro b g; rfl
  | succ f ih => intro b g; unfold shLoop; rw [shP_Z, shQ_Z, cLose_Z]; simp only [ih]
theorem cShrink_Z (c : zCS) : cShrink (kZ c) = cShrink c := by
  funext es inner g
  unfold cShrink
  rw [shBd_Z]
  simp only [shLoop_Z]
theorem cRowW_Z (c : zCS) : cRowW (kZ c) = cRowW c := by
  funext i
  unfold cRowW
  rw [rwA_Z, cGrow_Z, cShrink_Z, kItemsOf_Z, kInner_Z]

theorem kZ_Str (c : zCS) (j : Nat) (h : Int32) : kZ (cStr c j h) = cStr (kZ c) j h := by
  unfold cStr
  by_cases e : kF c j 7 = -1
  · have e' : kF (kZ c) j 7 = -1 := e
    rw [if_pos e, if_pos e']
    rfl
  · have e' : ¬ kF (kZ c) j 7 = -1 := e
    rw [if_neg e, if_neg e']
theorem sum_three {l : List Nat} {a b : Nat → Nat} {k : Nat} : (l.map (fun j => a j + 4 * b j + k)).sum = (l.map a).sum + 4 * (l.map b).sum + k * l.length := by
  induction l with
  | nil => simp
  | cons x r ih => rw [List.map_cons, List.sum_cons, List.map_cons, List.sum_cons, List.map_cons, List.sum_cons, List.length_cons, ih, Nat.mul_add, Nat.mul_add]; omega
def LBS (f : Nat) (c : zCS) (i : Nat) : Nat := ((kCh c i).map (LX f c)).sum
theorem LB_succ (f : Nat) (c : zCS) (i : Nat) : LB (f + 1) c i = 7000 + 5000 * (kWd c i).length + LBS f c i := rfl
theorem LX_eq {c c' : zCS} (h : KEq c c') (f i : Nat) : LX f c' i = LX f c i := by unfold LX; rw [kLift_eq h, LB_eq h, KW_eq h]
theorem LX_nl {f j : Nat} {c : zCS} (h : kLifted c j = false) : LX f c j = LB f c j + 4 * KW 24 c j + 2000 := if_neg (by rw [h]; decide)
theorem kFloat_nl {c : zCS} {j : Nat} (h : kFloat c j = true) : kLifted c j = false := by
  unfold kFloat at h
  cases hl : kLifted c j with
  | false => rfl
  | true => rw [hl] at h; simp at h
theorem kFlow_nl {c : zCS} {j : Nat} (h : kFlow c j = true) : kLifted c j = false := by
  unfold kFlow at h
  cases hl : kLifted c j with
  | false => rfl
  | true => rw [hl] at h; simp at h
theorem sum_filter_if {p : Nat → Bool} {a : Nat → Nat} : ∀ l : List Nat, (l.map (fun j => if p j = true then 0 else a j)).sum = ((l.filter (fun j => !p j)).map a).sum := by
  intro l
  induction l with
  | nil => rfl
  | cons x r ih =>
    rw [List.map_cons, List.sum_cons, ih, List.filter_cons]
    cases hp : p x with
    | false => rw [if_neg (by decide), if_pos (by decide), List.map_cons, List.sum_cons]
    | true => rw [if_pos rfl, if_neg (by decide), Nat.zero_add]
theorem LBS_items (f : Nat) (c : zCS) (i : Nat) : LBS f c i = ((kItemsOf c i).map (fun j => LB f c j + 4 * KW 24 c j + 2000)).sum := sum_filter_if (kCh c i)
theorem LY.upI {G : zG} {σ : zT} {c : zCS} {ly : Nat} {chk : Bool} {n : Int32} (h : LY G σ c ly chk n) {a : Nat} {fs gs : List Value} (ha : sF σ a = some (.inr (21, fs))) : LY G (sUp σ a (.inr (21, gs))) c ly chk n := by
  refine ⟨h.1.upO ha (by decide) (by decide) rfl rfl rfl rfl rfl rfl h.1.2.2.2 ?_ (fun j hj => ?_) (fun j hj => ?_), ?_, h.2.2⟩
  · rw [sF_upN _ _ _ (sF_ne h.1.1.1 ha (zE_ne (by decide)))]; exact h.1.1.1
  · rw [sF_upN _ _ _ (sF_ne (h.1.bF hj) ha (zE_ne (by decide)))]; exact h.1.bF hj
  · rw [sF_upN _ _ _ (sF_ne (h.1.pF hj) ha (zE_ne (by decide)))]; exact h.1.pF hj
  · rw [sF_upN _ _ _ (sF_ne h.2.1 ha (zE_ne (by decide)))]; exact h.2.1
set_option maxHeartbeats 4000000 in
theorem l_X6_rowS {G : zG} {σ : zT} {d : Nat} {c0 : zCS} {l it ly : Nat} {mod n : Int32} {es : List Nat} {chk : Bool} {hi9 : Int32} {Q : zO → zT → Prop} {i wa : Nat} {free x : Int32} (hd : 20 ≤ d) (hG : zOk G) (hw : zGd G σ) (hL : zL G σ (dT l) l mod (es.map (fun j => kA c0 (rB j)))) (hes : ∀ j, j ∈ es → j < kN c0) (hit : sZ σ ≤ it) : ∀ (ys : List Nat) (k : Nat) (lr : Int32) (c : zCS) (σ1 : zT) (m : Nat), es.drop k = ys → k ≤ es.length → KEq c0 c → zX G SC σ σ1 m → LY G σ1 c ly chk n → sF σ1 it = some (.inr (21, [.int (nI k), .int lr, .int mod, .ref l])) → sT σ1 it = 0 → (∀ σ2 c2, KEq c0 c2 → zX G SC σ σ2 m → kZ c2 = cStrs (kZ c) ys hi9 → LY G σ2 c2 ly chk n → zR G yX6_layRow cX6_layRow 9 (Option.none : Option Jvm.ClassFile.FieldType) [] d 247 [(0, .ref ly), (1, .ref (kA c0 (rB i))), (2, .ref l), (3, .ref wa), (4, .int free), (5, .int hi9), (6, .int x), (7, .ref it)] [] σ2 Q) → zR G yX6_layRow cX6_layRow 9 (Option.none : Option Jvm.ClassFile.FieldType) [] d 214 [(0, .ref ly), (1, .ref (kA c0 (rB i))), (2, .ref l), (3, .ref wa), (4, .int free), (5, .int hi9), (6, .int x), (7, .ref it)] [] σ1 Q := by
  intro ys
  induction ys with
  | nil =>
    intro k lr c σ1 m hy hk hE hX hY hI hT kQ
    have hL1 := hX.L hw hL (SC_big (by unfold dT; omega)) (SC_big (by unfold dT; omega))
    have hkl := drop_nil hy hk
    refine zr_aload dX6_layRow_214 rfl ?_
    refine zr_call51 (rest := []) (zs_F (As := []) (by omega) okF_J23_hasNext (by decide +kernel) q1189 q927 q929 q84 q931 (.new hI) rfl rfl rfl (Nat.le_of_ble_eq_true rfl) dX6_layRow_216) (c_hasNext0 hL1 hI (by rw [List.length_map]; exact hkl)) ?_
    refine zr_if_eq (tgt := 247) dX6_layRow_221 (by decide) (fun _ => ?_) (fun h9 => absurd (rfl) h9)
    exact kQ σ1 c hE hX rfl hY
  | cons j ys ih =>
    intro k lr c σ1 m hy hk hE hX hY hI hT kQ
    have hL1 := hX.L hw hL (SC_big (by unfold dT; omega)) (SC_big (by unfold dT; omega))
    obtain ⟨hx, hy2, hkl, hm⟩ := drop_cons hy
    have hj := hes j hm
    have hX2 := hX.upN (gs := [.int (nI (k + 1)), .int (nI k), .int mod, .ref l]) hI hit
    have hX12 : zX G S0 σ1 (sUp σ1 it (.inr (21, [.int (nI (k + 1)), .int (nI k), .int mod, .ref l]))) 0 ∨ True := Or.inr trivial
    have hY2 : LY G (sUp σ1 it (.inr (21, [.int (nI (k + 1)), .int (nI k), .int mod, .ref l]))) c ly chk n := hY.upI hI
    have hS2 := hY2.1
    have hbj : zAt G (sUp σ1 it (.inr (21, [.int (nI (k + 1)), .int (nI k), .int mod, .ref l]))) (kA c0 (rB j)) (.inr (2, kBx c j)) := hE.b j ▸ hS2.bx (hE.nn hj)
    obtain ⟨_, σ3, ⟨rfl, hY3, hX3⟩, hC⟩ := c_X6_stretch (d := d - 1) (v := hi9) (by omega) hX2.gd hY2 (hE.nn hj)
    have hC' := zC.at2 (hE.b j) hC
    have hE3 := hE.trans (KEq.Str c j hi9)
    have hI3 := hX3.f hX2.gd (sF_upS _ _ _) (by rw [show sT (sUp σ1 it (.inr (21, [.int (nI (k + 1)), .int (nI k), .int mod, .ref l]))) it = 0 from hT]; exact SC_0)
    have hT3 := (hX3.t hX2.gd (sF_upS _ _ _)).trans hT
    refine zr_aload dX6_layRow_214 rfl ?_
    refine zr_call51 (rest := []) (zs_F (As := []) (by omega) okF_J23_hasNext (by decide +kernel) q1189 q927 q929 q84 q931 (.new hI) rfl rfl rfl (Nat.le_of_ble_eq_true rfl) dX6_layRow_216) (c_hasNext1 hL1 hI (by rw [List.length_map]; exact hkl)) ?_
    refine zr_if_eq (tgt := 247) dX6_layRow_221 (by decide) (fun h9 => absurd h9 (by decide)) (fun _ => ?_)
    refine zr_aload dX6_layRow_224 rfl ?_
    refine zr_call51 (rest := []) (zs_F (As := []) (by omega) okF_J23_next (by decide +kernel) q1191 q1044 q1046 q84 q1048 (.new hI) rfl rfl rfl (Nat.le_of_ble_eq_true rfl) dX6_layRow_226) (c_J23_next (by omega) hG hL1 hI (map_at (fun j => kA c0 (rB j)) hx)) ?_
    refine zr_castS hbj rfl q1112 dX6_layRow_231 ?_
    refine zr_astore (ls2 := [(0, .ref ly), (1, .ref (kA c0 (rB i))), (2, .ref l), (3, .ref wa), (4, .int free), (5, .int hi9), (6, .int x), (7, .ref it), (8, .ref (kA c0 (rB j)))]) dX6_layRow_234 (Nat.le_of_ble_eq_true rfl) rfl ?_
    refine zr_aload_n dX6_layRow_236 rfl rfl ?_
    refine zr_aload dX6_layRow_237 rfl ?_
    refine zr_iload dX6_layRow_239 rfl ?_
    refine zr_callv (rest := []) (zs_V (As := [.ref (kA c0 (rB j)), .int hi9]) (by omega) ok_X6_stretch q1240 q1242 qs17 q83 q1243 rfl hY2.lf rfl rfl rfl (Nat.le_of_ble_eq_true rfl) dX6_layRow_241) hC' ?_
    refine zr_goto (tgt := 214) dX6_layRow_244 (by decide) ?_
    refine zr_sub (ls2 := [(0, .ref ly), (1, .ref (kA c0 (rB i))), (2, .ref l), (3, .ref wa), (4, .int free), (5, .int hi9), (6, .int x), (7, .ref it)]) [0, 1, 2, 3, 4, 5, 6, 7] rfl ?_
    refine ih (k + 1) _ (cStr c j hi9) σ3 m hy2 (by omega) hE3 ((hX2.trans hX3).le (by omega)) hY3 hI3 hT3 (fun σ4 c4 q1 q2 q3 q4 => kQ σ4 c4 q1 q2 ?_ q4)
    rw [q3, kZ_Str]
    rfl
set_option maxHeartbeats 4000000 in
theorem c_X6_layRow {G : zG} {σ : zT} {d f i : Nat} {c : zCS} {ly : Nat} {n : Int32} {L : LayT} {chk : Bool} (hd : 88 ≤ d) (hG : zOk G) (hw : zGd G σ) (hi : i < kN c) (hf : kN c ≤ f + 1 + i) (hY : LY G σ c ly chk n) (hLay : ∀ (σ : zT) (c : zCS) (n : Int32) (j : Nat) (wd : Int32), zGd G σ → LY G σ c ly chk n → j < kN c → kN c ≤ f + j → zCall G I_X6_lay (d - 1) [.ref ly, .ref (kA c (rB j)), .int wd] σ (fun o σ' => ∃ c', o = .inl none ∧ KEq c c' ∧ kZ c' = (L (kZ c, n) j wd).1 ∧ LY G σ' c' ly chk (L (kZ c, n) j wd).2 ∧ zX G SC σ σ' (LB f c j))) : zCall G I_X6_layRow d [.ref ly, .ref (kA c (rB i))] σ ((fun o σ' => ∃ c', o = .inl none ∧ KEq c c' ∧ kZ c' = (cRow L (kZ c, n) i).1 ∧ LY G σ' c' ly chk (cRow L (kZ c, n) i).2 ∧ zX G SC σ σ' (4000 + LBS f c i))) := by
  refine zCall_of (ls := [(0, .ref ly), (1, .ref (kA c (rB i)))]) (by decide) (Nat.le_of_ble_eq_true rfl) rfl ?_
  have hS := hY.1
  obtain ⟨_, σ1, ⟨l, mod, rfl, hl, hL1, hX1⟩, hC⟩ := c_X1_items (d := d - 1) (by omega) hG hw hS hi
  have hS1 := hS.keep0 hw hX1
  have hY1 := hY.keep0 hw hX1
  obtain ⟨fl, hfl⟩ := hL1.A
  have hchl := hS.chl hi
  have hfl2 := List.length_filter_le (fun j => !kLifted c j) (kCh c i)
  have hel : (kItemsOf c i).length ≤ 24 := Nat.le_trans hfl2 hchl
  have hes : ∀ j, j ∈ kItemsOf c i → j < kN c ∧ kN c ≤ f + j := fun j hj => by
    have h9 := hS.ch hi (List.mem_filter.mp hj).1
    exact ⟨h9.2, by omega⟩
  have hes1 : ∀ j, j ∈ kItemsOf c i → j < kN c := fun j hj => (hes j hj).1
  have hs1 : ((kItemsOf c i).map (fun j => KW 24 c j)).sum ≤ ((kCh c i).map (fun j => KW 24 c j)).sum := sum_filter_le
  have hs2 : ((kItemsOf c i).map (fun j => LB f c j)).sum ≤ ((kCh c i).map (fun j => LB f c j)).sum := sum_filter_le
  have hs3 : LBS f c i = ((kItemsOf c i).map (fun j => LB f c j)).sum + 4 * ((kItemsOf c i).map (fun j => KW 24 c j)).sum + 2000 * (kItemsOf c i).length := (LBS_items f c i).trans sum_three
  refine zr_aload_n dX6_layRow_0 rfl rfl ?_
  refine zr_call1 (rest := []) (zs_SN (As := [.ref (kA c (rB i))]) (by omega) ok_X1_items q1121 q1122 q53 q1123 rfl rfl (Nat.le_of_ble_eq_true rfl) dX6_layRow_1) hC ?_
  refine zr_astore_n (ls2 := [(0, .ref ly), (1, .ref (kA c (rB i))), (2, .ref l)]) dX6_layRow_4 rfl (Nat.le_of_ble_eq_true rfl) rfl ?_
  refine zr_aload_n dX6_layRow_5 rfl rfl ?_
  refine zr_call51 (rest := []) (zs_F (As := []) (by omega) okF_J2_size (by decide +kernel) q1133 q162 q164 q56 q166 hfl rfl rfl rfl (Nat.le_of_ble_eq_true rfl) dX6_layRow_6) (c_size (by omega) hL1 (List.length_map _)) ?_
  refine zr_newaI (N' := (kItemsOf c i).length) (dT (sZ σ1)) q1302 (nI_pos (by omega)) (nI_clamp (by omega)) (by omega) dX6_layRow_11 ?_
  have hXa := zX.new S0 hX1.gd (dT (sZ σ1)) (by unfold dT; omega) (aI G (kItemsOf c i).length (fun _ => 0)) (kItemsOf c i).length
  have hAa := sF_newS σ1 (dT (sZ σ1)) (aI G (kItemsOf c i).length (fun _ => 0)) (kItemsOf c i).length
  have hTa := sT_newS σ1 (dT (sZ σ1)) (aI G (kItemsOf c i).length (fun _ => 0)) (kItemsOf c i).length
  generalize hσa : sNew σ1 (dT (sZ σ1)) (aI G (kItemsOf c i).length (fun _ => 0)) (kItemsOf c i).length = σa at hXa hAa hTa ⊢
  have hSa := hS1.keep0 hX1.gd hXa
  refine zr_astore_n (ls2 := [(0, .ref ly), (1, .ref (kA c (rB i))), (2, .ref l), (3, .ref (sZ σ1))]) dX6_layRow_13 rfl (Nat.le_of_ble_eq_true rfl) rfl ?_
  refine zr_aload_n dX6_layRow_14 rfl rfl ?_
  refine zr_call1 (rest := []) (zs_V (As := []) (by omega) ok_X2_inner q1134 q1135 q1136 q57 q1137 rfl (hSa.bx hi) rfl rfl rfl (Nat.le_of_ble_eq_true rfl) dX6_layRow_15) (c_X2_inner (by omega) hSa hi) ?_
  refine zr_istore (ls2 := [(0, .ref ly), (1, .ref (kA c (rB i))), (2, .ref l), (3, .ref (sZ σ1)), (4, .int (kInner c i))]) dX6_layRow_18 (Nat.le_of_ble_eq_true rfl) rfl ?_
  refine zr_iconst (v := 0) dX6_layRow_20 (by decide) ?_
  refine zr_istore (ls2 := [(0, .ref ly), (1, .ref (kA c (rB i))), (2, .ref l), (3, .ref (sZ σ1)), (4, .int (kInner c i)), (5, .int 0)]) dX6_layRow_21 (Nat.le_of_ble_eq_true rfl) rfl ?_
  refine l_X6_rowA (f := f) (chk := chk) (L := L) (by omega) hG hX1.gd hi hL1 hes hel hS1 (Nat.le_refl _) (N := (kItemsOf c i).length + 4 + ((kItemsOf c i).map (fun j => KW 24 c j)).sum) (kItemsOf c i) 0 _ (fun _ => 0, kInner c i) σa rfl (Nat.zero_le _) hXa (Nat.le_refl _) hAa hTa (fun σ2 x hX2 hA2 hT2 => ?_)
  have hlw : l ≠ sZ σ1 := by
    have h9 := hL1
    obtain ⟨arr, cap, ff, h1, -⟩ := h9
    exact Nat.ne_of_lt (hX1.gd.1 l _ h1)
  have hS2 := hS1.keep0 hX1.gd hX2
  have hL2 := hX2.L hX1.gd hL1 (fun h => h) (fun h => h)
  have hY2 := hY1.keep0 hX1.gd hX2
  have k110 : ∀ (g : Nat → Int32) (σ3 : zT) (x5 : Int32), g = cRowW c i → zX G S0 σ1 σ3 (28 + ((kItemsOf c i).map (fun j => KW 24 c j)).sum + (1600 + ((kItemsOf c i).map (fun j => KW 24 c j)).sum)) → sF σ3 (sZ σ1) = some (aI G (kItemsOf c i).length g) → sT σ3 (sZ σ1) = dT (sZ σ1) → zR G yX6_layRow cX6_layRow 9 (Option.none : Option Jvm.ClassFile.FieldType) [] d 110 [(0, .ref ly), (1, .ref (kA c (rB i))), (2, .ref l), (3, .ref (sZ σ1)), (4, .int ((nums (kItemsOf c i) 0).foldl (rwA c) (fun _ => 0, kInner c i)).2), (5, .int x5)] [] σ3 (fun o σ' => ∃ c', o = .inl none ∧ KEq c c' ∧ kZ c' = (cRow L (kZ c, n) i).1 ∧ LY G σ' c' ly chk (cRow L (kZ c, n) i).2 ∧ zX G SC σ σ' (4000 + LBS f c i)) := by
    intro g σ3 x5 hg hX3 hA3 hT3
    have hY3 := hY1.keep0 hX1.gd hX3
    have hS3 := hY3.1
    have hL3 := hX3.L hX1.gd hL1 (fun h => h) (fun h => h)
    have hbi : zAt G σ3 (kA c (rB i)) (.inr (2, kBx c i)) := hS3.bx hi
    refine zr_iconst (v := 0) dX6_layRow_110 (by decide) ?_
    refine zr_istore (ls2 := [(0, .ref ly), (1, .ref (kA c (rB i))), (2, .ref l), (3, .ref (sZ σ1)), (4, .int ((nums (kItemsOf c i) 0).foldl (rwA c) (fun _ => 0, kInner c i)).2), (5, .int 0)]) dX6_layRow_111 (Nat.le_of_ble_eq_true rfl) rfl ?_
    refine zr_aload_n dX6_layRow_113 rfl rfl ?_
    refine zr_getN (k := 12) (v := .int (kF c i 12)) in_X2 hbi rfl (Nat.le_of_ble_eq_true rfl) q259 (.inl rfl) rfl dX6_layRow_114 ?_
    refine zr_istore (ls2 := [(0, .ref ly), (1, .ref (kA c (rB i))), (2, .ref l), (3, .ref (sZ σ1)), (4, .int ((nums (kItemsOf c i) 0).foldl (rwA c) (fun _ => 0, kInner c i)).2), (5, .int 0), (6, .int (kF c i 12))]) dX6_layRow_117 (Nat.le_of_ble_eq_true rfl) rfl ?_
    refine zr_iconst (v := 0) dX6_layRow_119 (by decide) ?_
    refine zr_istore (ls2 := [(0, .ref ly), (1, .ref (kA c (rB i))), (2, .ref l), (3, .ref (sZ σ1)), (4, .int ((nums (kItemsOf c i) 0).foldl (rwA c) (fun _ => 0, kInner c i)).2), (5, .int 0), (6, .int (kF c i 12)), (7, .int 0)]) dX6_layRow_120 (Nat.le_of_ble_eq_true rfl) rfl ?_
    refine l_X6_rowB (by omega) hG hX3.gd hi hL3 hes hel hA3 hT3 hLay (N := ((kItemsOf c i).map (fun j => LB f c j)).sum) (kItemsOf c i) 0 0 c n (kF c i 12) 0 σ3 rfl (Nat.zero_le _) (KEq.rf c) (zX.rf _ hX3.gd _) (by omega) hY3 (fun σ4 c4 x4 hE4 hX4 hz4 hY4 => ?_)
    have hE9 : ((nums (kItemsOf c i) 0).foldl (rowB L i g) ((kZ c, n), kF c i 12, 0)) = rowE L (kZ c, n) i := by
      rw [hg]
      show _ = ((nums (kItemsOf (kZ c) i) 0).foldl (rowB L i (cRowW (kZ c) i)) ((kZ c, n), kF (kZ c) i 12, 0))
      rw [cRowW_Z, kItemsOf_Z]
      rfl
    rw [hE9] at hz4 hY4 ⊢
    have hL4 := hX4.L hX3.gd hL3 (SC_big (by unfold dT; omega)) (SC_big (by unfold dT; omega))
    obtain ⟨fl4, hfl4⟩ := hL4.A
    have hXi := zX.new S0 hX4.gd 0 (by omega) (.inr (21, [.int 0, .int (-1), .int mod, .ref l])) 4
    have hY5 := hY4.keep0 hX4.gd hXi
    have hL5 := hXi.L hX4.gd hL4 (fun h => h) (fun h => h)
    refine zr_aload_n dX6_layRow_206 rfl rfl ?_
    refine zr_call51 (rest := []) (zs_F (As := []) (by omega) okF_J2_iterator (by decide +kernel) q1187 q832 q834 q56 q836 hfl4 rfl rfl rfl (Nat.le_of_ble_eq_true rfl) dX6_layRow_207) (c_J2_iterator (by omega) hX4.gd.1 hL4) ?_
    refine zr_astore (ls2 := [(0, .ref ly), (1, .ref (kA c (rB i))), (2, .ref l), (3, .ref (sZ σ1)), (4, .int ((nums (kItemsOf c i) 0).foldl (rwA c) (fun _ => 0, kInner c i)).2), (5, .int (rowE L (kZ c, n) i).2.2), (6, .int (rowE L (kZ c, n) i).2.1), (7, .ref (sZ σ4))]) dX6_layRow_212 (Nat.le_of_ble_eq_true rfl) rfl ?_
    refine l_X6_rowS (by omega) hG hX4.gd hL4 hes1 (Nat.le_refl _) (kItemsOf c i) 0 _ c4 _ 8 rfl (Nat.zero_le _) hE4 (hXi.mono (fun _ h => absurd h (fun h => h))) hY5 (sF_newS _ _ _ _) (sT_newS _ _ _ _) (fun σ5 c5 hE5 hX5 hz5 hY5' => ?_)
    obtain ⟨_, σ6, ⟨rfl, hY6, hX6⟩, hC6⟩ := c_X6_setHeight (d := d - 1) (v := (rowE L (kZ c, n) i).2.2) (by omega) hX5.gd hY5' (hE5.nn hi)
    have hC6' := zC.at2 (hE5.b i) hC6
    refine zr_aload_n dX6_layRow_247 rfl rfl ?_
    refine zr_aload_n dX6_layRow_248 rfl rfl ?_
    refine zr_iload dX6_layRow_249 rfl ?_
    refine zr_callv (rest := []) (zs_V (As := [.ref (kA c (rB i)), .int (rowE L (kZ c, n) i).2.2]) (by omega) ok_X6_setHeight q1244 q1246 qs18 q83 q1247 rfl hY5'.lf rfl rfl rfl (Nat.le_of_ble_eq_true rfl) dX6_layRow_251) hC6' ?_
    have hXt := ((((hX1.trans hX3).mono (S2 := SC) (fun _ h => absurd h (fun h => h))).trans hX4).trans hX5).trans hX6
    have hzz : kZ (cSH c5 i (rowE L (kZ c, n) i).2.2) = (cRow L (kZ c, n) i).1 := by
      show cSH (kZ c5) i (rowE L (kZ c, n) i).2.2 = _
      rw [hz5, hz4]
      rfl
    exact zr_vret rfl dX6_layRow_254 (⟨_, rfl, hE5.trans (KEq.SH _ _ _), hzz, hY6, hXt.le (by omega)⟩)
  refine zr_iload dX6_layRow_79 rfl ?_
  refine zr_if_le (tgt := 95) dX6_layRow_81 (by decide) (fun h1 => ?_) (fun h1 => ?_)
  · refine zr_iload dX6_layRow_95 rfl ?_
    refine zr_if_ge (tgt := 110) dX6_layRow_97 (by decide) (fun h2 => ?_) (fun h2 => ?_)
    · exact k110 _ σ2 x (by unfold cRowW; rw [if_neg (Int32.not_lt.mpr h1), if_neg (Int32.not_lt.mpr h2)]) (hX2.le (by omega)) hA2 hT2
    · have hbi : zAt G σ2 (kA c (rB i)) (.inr (2, kBx c i)) := hS2.bx hi
      obtain ⟨_, σ3, ⟨rfl, hA3, hT3, hX3⟩, hC3⟩ := c_X6_shrink (ly := ly) (inner := kInner c i) (d := d - 1) (by omega) hG hX2.gd hS2 hL2 hes1 hel (by unfold dT; omega) (dT_ne hlw).1 (dT_ne hlw).2 hY2.2.1 hY2.2.2 hA2 hT2
      refine zr_aload_n dX6_layRow_100 rfl rfl ?_
      refine zr_aload_n dX6_layRow_101 rfl rfl ?_
      refine zr_aload_n dX6_layRow_102 rfl rfl ?_
      refine zr_aload_n dX6_layRow_103 rfl rfl ?_
      refine zr_call1 (rest := [.ref (sZ σ1), .ref l, .ref ly]) (zs_V (As := []) (by omega) ok_X2_inner q1134 q1135 q1136 q57 q1137 rfl hbi rfl rfl rfl (Nat.le_of_ble_eq_true rfl) dX6_layRow_104) (c_X2_inner (by omega) hS2 hi) ?_
      refine zr_callv (rest := []) (zs_V (As := [.ref l, .ref (sZ σ1), .int (kInner c i)]) (by omega) ok_X6_shrink q1192 q1194 qs13 q83 q1195 rfl hY2.lf rfl rfl rfl (Nat.le_of_ble_eq_true rfl) dX6_layRow_107) hC3 ?_
      exact k110 _ σ3 x (by unfold cRowW; rw [if_neg (Int32.not_lt.mpr h1), if_pos (Int32.not_le.mp h2)]) ((zX.dynT hX1.gd hX2 hX3 (by unfold dT; omega)).le (by omega)) hA3 hT3
  · obtain ⟨_, σ3, ⟨rfl, hA3, hT3, hX3⟩, hC3⟩ := c_X6_grow (ly := ly) (free := ((nums (kItemsOf c i) 0).foldl (rwA c) (fun _ => 0, kInner c i)).2) (d := d - 1) (by omega) hG hX2.gd hS2 hL2 hes1 hel (by unfold dT; omega) (dT_ne hlw).1 (dT_ne hlw).2 hA2 hT2
    refine zr_aload_n dX6_layRow_84 rfl rfl ?_
    refine zr_aload_n dX6_layRow_85 rfl rfl ?_
    refine zr_aload_n dX6_layRow_86 rfl rfl ?_
    refine zr_iload dX6_layRow_87 rfl ?_
    refine zr_callv (rest := []) (zs_V (As := [.ref l, .ref (sZ σ1), .int ((nums (kItemsOf c i) 0).foldl (rwA c) (fun _ => 0, kInner c i)).2]) (by omega) ok_X6_grow q1182 q1184 qs12 q83 q1185 rfl hY2.lf rfl rfl rfl (Nat.le_of_ble_eq_true rfl) dX6_layRow_89) hC3 ?_
    refine zr_goto (tgt := 110) dX6_layRow_92 (by decide) ?_
    exact k110 _ σ3 x (by unfold cRowW; rw [if_pos (Int32.not_le.mp h1)]) ((zX.dynT hX1.gd hX2 hX3 (by unfold dT; omega)).le (by omega)) hA3 hT3
