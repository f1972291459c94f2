/-! ===== the layout: grow (rows printed by tools/p57.py) ===== -/
/-- the cells with one tag -/
abbrev ST (t : Nat) : Nat → Prop := fun s => s = t
theorem ST_big {t : Nat} (h : 10000 ≤ t) : ∀ s, 1 ≤ s → s < 1000 → ¬ ST t s := fun s _ h2 h3 => by have : s = t := h3; omega
def gr1 (c : zCS) (free sum : Int32) (p : (Nat → Int32) × Int32) (q : Nat × Nat) : (Nat → Int32) × Int32 := (upd p.1 q.1 (p.1 q.1 + free * kF c q.2 13 / sum), p.2 - free * kF c q.2 13 / sum)
def gr2 (c : zCS) (p : (Nat → Int32) × Int32) (q : Nat × Nat) : (Nat → Int32) × Int32 := if p.2 ≤ 0 then p else if kF c q.2 13 ≤ 0 then p else (upd p.1 q.1 (p.1 q.1 + 1), p.2 + (-1))
def gSum (c : zCS) (es : List Nat) : Int32 := es.foldl (fun s j => s + kF c j 13) 0
def cGrow1 (c : zCS) (es : List Nat) (free : Int32) (g : Nat → Int32) : (Nat → Int32) × Int32 := if gSum c es ≤ 0 then (g, if gSum c es = 0 then 0 else free) else (nums es 0).foldl (gr1 c free (gSum c es)) (g, if gSum c es = 0 then 0 else free)
def cGrow (c : zCS) (es : List Nat) (free : Int32) (g : Nat → Int32) : Nat → Int32 := ((nums es 0).foldl (gr2 c) (cGrow1 c es free g)).1
theorem gr2_stop (c : zCS) : ∀ (qs : List (Nat × Nat)) (p : (Nat → Int32) × Int32), p.2 ≤ 0 → qs.foldl (gr2 c) p = p := by
  intro qs
  induction qs with
  | nil => intro p _; rfl
  | cons q r ih => intro p h; rw [List.foldl_cons, show gr2 c p q = p from if_pos h]; exact ih p h

set_option maxHeartbeats 4000000 in
theorem l_X6_grow1 {G : zG} {σ : zT} {d : Nat} {c : zCS} {tl it l wa ly : Nat} {mod free : Int32} {es : List Nat} {Q : zO → zT → Prop} (hd : 6 ≤ d) (hG : zOk G) (hw : zGd G σ) (hS : CSys G σ c) (hL : zL G σ tl l mod (es.map (fun j => kA c (rB j)))) (hes : ∀ j, j ∈ es → j < kN c) (hel : es.length ≤ 24) (hit : sZ σ ≤ it) : ∀ (ys : List Nat) (k : Nat) (lr s : Int32) (σ1 : zT), es.drop k = ys → k ≤ es.length → zX G S0 σ σ1 8 → sF σ1 it = some (.inr (21, [.int (nI k), .int lr, .int mod, .ref l])) → (∀ σ2, zX G S0 σ σ2 8 → zR G yX6_grow cX6_grow 8 (Option.none : Option Jvm.ClassFile.FieldType) [] d 46 [(0, .ref ly), (1, .ref l), (2, .ref wa), (3, .int free), (4, .int (ys.foldl (fun s j => s + kF c j 13) s)), (5, .ref it)] [] σ2 Q) → zR G yX6_grow cX6_grow 8 (Option.none : Option Jvm.ClassFile.FieldType) [] d 11 [(0, .ref ly), (1, .ref l), (2, .ref wa), (3, .int free), (4, .int s), (5, .ref it)] [] σ1 Q := by
  intro ys
  induction ys with
  | nil =>
    intro k lr s σ1 hy hk hX hI kQ
    have hL1 := hX.L hw hL (fun h => h) (fun h => h)
    have hkl := drop_nil hy hk
    refine zr_aload dX6_grow_11 rfl ?_
    refine zr_call51 (rest := []) (zs_F (As := []) (by omega) okF_J23_hasNext (by decide +kernel) q1189 q927 q929 q84 q931 (.new hI) rfl rfl rfl (Nat.le_of_ble_eq_true rfl) dX6_grow_13) (c_hasNext0 hL1 hI (by rw [List.length_map]; exact hkl)) ?_
    refine zr_if_eq (tgt := 46) dX6_grow_18 (by decide) (fun _ => ?_) (fun h9 => absurd (rfl) h9)
    exact kQ σ1 hX
  | cons j ys ih =>
    intro k lr s σ1 hy hk hX hI kQ
    have hL1 := hX.L hw hL (fun h => h) (fun h => h)
    obtain ⟨hx, hy2, hkl, hm⟩ := drop_cons hy
    have hj := hes j hm
    have hX2 := hX.upN (gs := [.int (nI (k + 1)), .int (nI k), .int mod, .ref l]) hI hit
    have hS2 := hS.keep0 hw hX2
    refine zr_aload dX6_grow_11 rfl ?_
    refine zr_call51 (rest := []) (zs_F (As := []) (by omega) okF_J23_hasNext (by decide +kernel) q1189 q927 q929 q84 q931 (.new hI) rfl rfl rfl (Nat.le_of_ble_eq_true rfl) dX6_grow_13) (c_hasNext1 hL1 hI (by rw [List.length_map]; exact hkl)) ?_
    refine zr_if_eq (tgt := 46) dX6_grow_18 (by decide) (fun h9 => absurd h9 (by decide)) (fun _ => ?_)
    refine zr_aload dX6_grow_21 rfl ?_
    refine zr_call51 (rest := []) (zs_F (As := []) (by omega) okF_J23_next (by decide +kernel) q1191 q1044 q1046 q84 q1048 (.new hI) rfl rfl rfl (Nat.le_of_ble_eq_true rfl) dX6_grow_23) (c_J23_next (by omega) hG hL1 hI (map_at (fun j => kA c (rB j)) hx)) ?_
    refine zr_castS (hS2.bx hj) rfl q1112 dX6_grow_28 ?_
    refine zr_astore (ls2 := [(0, .ref ly), (1, .ref l), (2, .ref wa), (3, .int free), (4, .int s), (5, .ref it), (6, .ref (kA c (rB j)))]) dX6_grow_31 (Nat.le_of_ble_eq_true rfl) rfl ?_
    refine zr_iload dX6_grow_33 rfl ?_
    refine zr_aload dX6_grow_35 rfl ?_
    refine zr_getN (k := 13) (v := .int (kF c j 13)) in_X2 (hS2.bx hj) rfl (Nat.le_of_ble_eq_true rfl) q262 (.inl rfl) rfl dX6_grow_37 ?_
    refine zr_iadd dX6_grow_40 ?_
    refine zr_istore (ls2 := [(0, .ref ly), (1, .ref l), (2, .ref wa), (3, .int free), (4, .int (s + (kF c j 13))), (5, .ref it), (6, .ref (kA c (rB j)))]) dX6_grow_41 (Nat.le_of_ble_eq_true rfl) rfl ?_
    refine zr_goto (tgt := 11) dX6_grow_43 (by decide) ?_
    refine zr_sub (ls2 := [(0, .ref ly), (1, .ref l), (2, .ref wa), (3, .int free), (4, .int (s + (kF c j 13))), (5, .ref it)]) [0, 1, 2, 3, 4, 5] rfl ?_
    exact ih (k + 1) _ _ _ hy2 (by omega) hX2 (sF_upS _ _ _) kQ
set_option maxHeartbeats 4000000 in
theorem l_X6_grow2 {G : zG} {σ : zT} {d : Nat} {c : zCS} {tl tw l wa ly : Nat} {mod free : Int32} {es : List Nat} {Q : zO → zT → Prop} (hd : 6 ≤ d) (hG : zOk G) (hw : zGd G σ) (hS : CSys G σ c) (hL : zL G σ tl l mod (es.map (fun j => kA c (rB j)))) (hes : ∀ j, j ∈ es → j < kN c) (hel : es.length ≤ 24) (htw : 10000 ≤ tw) (ht1 : tl ≠ tw) (ht2 : tl + 1 ≠ tw) {s : Int32} (hs : ¬ s ≤ 0) (hs0 : ¬ s = 0) : ∀ (ys : List Nat) (k : Nat) (p : (Nat → Int32) × Int32) (σ1 : zT), es.drop k = ys → k ≤ es.length → zX G (ST tw) σ σ1 8 → sF σ1 wa = some (aI G es.length p.1) → sT σ1 wa = tw → (∀ σ2 x, zX G (ST tw) σ σ2 8 → sF σ2 wa = some (aI G es.length ((nums ys k).foldl (gr1 c free s) p).1) → sT σ2 wa = tw → zR G yX6_grow cX6_grow 8 (Option.none : Option Jvm.ClassFile.FieldType) [] d 116 [(0, .ref ly), (1, .ref l), (2, .ref wa), (3, .int free), (4, .int s), (5, .int ((nums ys k).foldl (gr1 c free s) p).2), (6, .int x)] [] σ2 Q) → zR G yX6_grow cX6_grow 8 (Option.none : Option Jvm.ClassFile.FieldType) [] d 61 [(0, .ref ly), (1, .ref l), (2, .ref wa), (3, .int free), (4, .int s), (5, .int p.2), (6, .int (nI k))] [] σ1 Q := by
  intro ys
  induction ys with
  | nil =>
    intro k p σ1 hy hk hX hA hT kQ
    have hkl := drop_nil hy hk
    refine zr_iload dX6_grow_61 rfl ?_
    refine zr_aload_n dX6_grow_63 rfl rfl ?_
    refine zr_alenI (v := nI es.length) (.new hA) rfl dX6_grow_64 ?_
    refine zr_icmp_ge (tgt := 116) dX6_grow_65 (by decide) (fun _ => ?_) (fun h9 => absurd (by rw [hkl]; exact Int32.le_refl _) h9)
    exact kQ σ1 _ hX hA hT
  | cons j ys ih =>
    intro k p σ1 hy hk hX hA hT kQ
    obtain ⟨hx, hy2, hkl, hm⟩ := drop_cons hy
    have hj := hes j hm
    have hS1 := hS.keep hw hX (ST_big htw)
    have hL1 := hX.L hw hL ht1 ht2
    obtain ⟨fl, hfl⟩ := hL1.A
    refine zr_iload dX6_grow_61 rfl ?_
    refine zr_aload_n dX6_grow_63 rfl rfl ?_
    refine zr_alenI (v := nI es.length) (.new hA) rfl dX6_grow_64 ?_
    refine zr_icmp_ge (tgt := 116) dX6_grow_65 (by decide) (fun h9 => absurd h9 (nI_ge hkl (by omega))) (fun _ => ?_)
    refine zr_iload dX6_grow_68 rfl ?_
    refine zr_if_le (tgt := 116) dX6_grow_70 (by decide) (fun h9 => absurd h9 (hs)) (fun _ => ?_)
    refine zr_iload_n dX6_grow_73 rfl rfl ?_
    refine zr_aload_n dX6_grow_74 rfl rfl ?_
    refine zr_iload dX6_grow_75 rfl ?_
    refine zr_call51 (rest := [.int free]) (zs_F (As := [.int (nI k)]) (by omega) okF_J2_get (by decide +kernel) q1103 q1106 q959 q56 q960 hfl rfl rfl rfl (Nat.le_of_ble_eq_true rfl) dX6_grow_77) (c_J2_get (by omega) hG hL1 (map_at (fun j => kA c (rB j)) hx)) ?_
    refine zr_castS (hS1.bx hj) rfl q1112 dX6_grow_82 ?_
    refine zr_getN (k := 13) (v := .int (kF c j 13)) in_X2 (hS1.bx hj) rfl (Nat.le_of_ble_eq_true rfl) q262 (.inl rfl) rfl dX6_grow_85 ?_
    refine zr_imul dX6_grow_88 ?_
    refine zr_iload dX6_grow_89 rfl ?_
    refine zr_idiv dX6_grow_91 hs0 ?_
    refine zr_istore (ls2 := [(0, .ref ly), (1, .ref l), (2, .ref wa), (3, .int free), (4, .int s), (5, .int p.2), (6, .int (nI k)), (7, .int (free * kF c j 13 / s))]) dX6_grow_92 (Nat.le_of_ble_eq_true rfl) rfl ?_
    refine zr_aload_n dX6_grow_94 rfl rfl ?_
    refine zr_iload dX6_grow_95 rfl ?_
    refine zr_dup2 dX6_grow_97 rfl rfl ?_
    refine zr_iald (v := .int (p.1 k)) (.new hA) (vp_in_nI (by omega) (by omega)) (by rw [nI_clamp (by omega)]) dX6_grow_98 ?_
    refine zr_iload dX6_grow_99 rfl ?_
    refine zr_iadd dX6_grow_101 ?_
    refine zr_iast (f2 := (gr1 c free s p (k, j)).1) hA (vp_in_nI (by omega) (by omega)) (by rw [nI_clamp (by omega)]; rfl) dX6_grow_102 ?_
    skip
    refine zr_iload dX6_grow_103 rfl ?_
    refine zr_iload dX6_grow_105 rfl ?_
    refine zr_isub dX6_grow_107 ?_
    refine zr_istore (ls2 := [(0, .ref ly), (1, .ref l), (2, .ref wa), (3, .int free), (4, .int s), (5, .int (p.2 - (free * kF c j 13 / s))), (6, .int (nI k)), (7, .int (free * kF c j 13 / s))]) dX6_grow_108 (Nat.le_of_ble_eq_true rfl) rfl ?_
    refine zr_iinc (v := ((nI k) + 1)) (ls2 := [(0, .ref ly), (1, .ref l), (2, .ref wa), (3, .int free), (4, .int s), (5, .int (p.2 - (free * kF c j 13 / s))), (6, .int ((nI k) + 1)), (7, .int (free * kF c j 13 / s))]) dX6_grow_110 rfl rfl (Nat.le_of_ble_eq_true rfl) rfl ?_
    rw [show nI k + 1 = nI (k + 1) from nI_1 k]
    refine zr_goto (tgt := 61) dX6_grow_113 (by decide) ?_
    refine zr_sub (ls2 := [(0, .ref ly), (1, .ref l), (2, .ref wa), (3, .int free), (4, .int s), (5, .int (p.2 - (free * kF c j 13 / s))), (6, .int (nI (k + 1)))]) [0, 1, 2, 3, 4, 5, 6] rfl ?_
    exact ih (k + 1) (gr1 c free s p (k, j)) _ hy2 (by omega) (hX.trans (zX.upA hX.gd hA hT)) (sF_upS _ _ _) hT kQ
set_option maxHeartbeats 4000000 in
theorem l_X6_grow3 {G : zG} {σ : zT} {d : Nat} {c : zCS} {tl tw l wa ly : Nat} {mod free : Int32} {es : List Nat} {Q : zO → zT → Prop} (hd : 6 ≤ d) (hG : zOk G) (hw : zGd G σ) (hS : CSys G σ c) (hL : zL G σ tl l mod (es.map (fun j => kA c (rB j)))) (hes : ∀ j, j ∈ es → j < kN c) (hel : es.length ≤ 24) (htw : 10000 ≤ tw) (ht1 : tl ≠ tw) (ht2 : tl + 1 ≠ tw) {s : Int32} : ∀ (ys : List Nat) (k : Nat) (p : (Nat → Int32) × Int32) (σ1 : zT), es.drop k = ys → k ≤ es.length → zX G (ST tw) σ σ1 8 → sF σ1 wa = some (aI G es.length p.1) → sT σ1 wa = tw → (∀ σ2 x, zX G (ST tw) σ σ2 8 → sF σ2 wa = some (aI G es.length ((nums ys k).foldl (gr2 c) p).1) → sT σ2 wa = tw → zR G yX6_grow cX6_grow 8 (Option.none : Option Jvm.ClassFile.FieldType) [] d 165 [(0, .ref ly), (1, .ref l), (2, .ref wa), (3, .int free), (4, .int s), (5, .int ((nums ys k).foldl (gr2 c) p).2), (6, .int x)] [] σ2 Q) → zR G yX6_grow cX6_grow 8 (Option.none : Option Jvm.ClassFile.FieldType) [] d 119 [(0, .ref ly), (1, .ref l), (2, .ref wa), (3, .int free), (4, .int s), (5, .int p.2), (6, .int (nI k))] [] σ1 Q := by
  intro ys
  induction ys with
  | nil =>
    intro k p σ1 hy hk hX hA hT kQ
    have hkl := drop_nil hy hk
    refine zr_iload dX6_grow_119 rfl ?_
    refine zr_aload_n dX6_grow_121 rfl rfl ?_
    refine zr_alenI (v := nI es.length) (.new hA) rfl dX6_grow_122 ?_
    refine zr_icmp_ge (tgt := 165) dX6_grow_123 (by decide) (fun _ => ?_) (fun h9 => absurd (by rw [hkl]; exact Int32.le_refl _) h9)
    exact kQ σ1 _ hX hA hT
  | cons j ys ih =>
    intro k p σ1 hy hk hX hA hT kQ
    obtain ⟨hx, hy2, hkl, hm⟩ := drop_cons hy
    have hj := hes j hm
    have hS1 := hS.keep hw hX (ST_big htw)
    have hL1 := hX.L hw hL ht1 ht2
    obtain ⟨fl, hfl⟩ := hL1.A
    refine zr_iload dX6_grow_119 rfl ?_
    refine zr_aload_n dX6_grow_121 rfl rfl ?_
    refine zr_alenI (v := nI es.length) (.new hA) rfl dX6_grow_122 ?_
    refine zr_icmp_ge (tgt := 165) dX6_grow_123 (by decide) (fun h9 => absurd h9 (nI_ge hkl (by omega))) (fun _ => ?_)
    refine zr_iload dX6_grow_126 rfl ?_
    refine zr_if_le (tgt := 165) dX6_grow_128 (by decide) (fun h1 => ?_) (fun h1 => ?_)
    · have e9 : (nums (j :: ys) k).foldl (gr2 c) p = p := gr2_stop c _ p h1
      have k9 := kQ σ1 (nI k) hX
      rw [e9] at k9
      exact k9 hA hT
    · refine zr_aload_n dX6_grow_131 rfl rfl ?_
      refine zr_iload dX6_grow_132 rfl ?_
      refine zr_call51 (rest := []) (zs_F (As := [.int (nI k)]) (by omega) okF_J2_get (by decide +kernel) q1103 q1106 q959 q56 q960 hfl rfl rfl rfl (Nat.le_of_ble_eq_true rfl) dX6_grow_134) (c_J2_get (by omega) hG hL1 (map_at (fun j => kA c (rB j)) hx)) ?_
      refine zr_castS (hS1.bx hj) rfl q1112 dX6_grow_139 ?_
      refine zr_getN (k := 13) (v := .int (kF c j 13)) in_X2 (hS1.bx hj) rfl (Nat.le_of_ble_eq_true rfl) q262 (.inl rfl) rfl dX6_grow_142 ?_
      refine zr_if_le (tgt := 159) dX6_grow_145 (by decide) (fun h2 => ?_) (fun h2 => ?_)
      · have e9 : gr2 c p (k, j) = p := by unfold gr2; rw [if_neg h1, if_pos h2]
        refine zr_iinc (v := ((nI k) + 1)) (ls2 := [(0, .ref ly), (1, .ref l), (2, .ref wa), (3, .int free), (4, .int s), (5, .int p.2), (6, .int ((nI k) + 1))]) dX6_grow_159 rfl rfl (Nat.le_of_ble_eq_true rfl) rfl ?_
        rw [show nI k + 1 = nI (k + 1) from nI_1 k]
        refine zr_goto (tgt := 119) dX6_grow_162 (by decide) ?_
        refine zr_sub (ls2 := [(0, .ref ly), (1, .ref l), (2, .ref wa), (3, .int free), (4, .int s), (5, .int p.2), (6, .int (nI (k + 1)))]) [0, 1, 2, 3, 4, 5, 6] rfl ?_
        have i9 := ih (k + 1) (gr2 c p (k, j)) σ1 hy2 (by omega) hX
        rw [e9] at i9
        refine i9 hA hT ?_
        intro σ2 x q1 q2 q3
        have k9 := kQ σ2 x q1
        rw [show nums (j :: ys) k = (k, j) :: nums ys (k + 1) from rfl, List.foldl_cons, e9] at k9
        exact k9 q2 q3
      · have e9 : gr2 c p (k, j) = (upd p.1 k (p.1 k + 1), p.2 + (-1)) := by unfold gr2; rw [if_neg h1, if_neg h2]
        refine zr_aload_n dX6_grow_148 rfl rfl ?_
        refine zr_iload dX6_grow_149 rfl ?_
        refine zr_dup2 dX6_grow_151 rfl rfl ?_
        refine zr_iald (v := .int (p.1 k)) (.new hA) (vp_in_nI (by omega) (by omega)) (by rw [nI_clamp (by omega)]) dX6_grow_152 ?_
        refine zr_iconst (v := 1) dX6_grow_153 (by decide) ?_
        refine zr_iadd dX6_grow_154 ?_
        refine zr_iast (f2 := upd p.1 k (p.1 k + 1)) hA (vp_in_nI (by omega) (by omega)) (by rw [nI_clamp (by omega)]) dX6_grow_155 ?_
        refine zr_iinc (v := (p.2 + (-1))) (ls2 := [(0, .ref ly), (1, .ref l), (2, .ref wa), (3, .int free), (4, .int s), (5, .int (p.2 + (-1))), (6, .int (nI k))]) dX6_grow_156 rfl rfl (Nat.le_of_ble_eq_true rfl) rfl ?_
        refine zr_iinc (v := ((nI k) + 1)) (ls2 := [(0, .ref ly), (1, .ref l), (2, .ref wa), (3, .int free), (4, .int s), (5, .int (p.2 + (-1))), (6, .int ((nI k) + 1))]) dX6_grow_159 rfl rfl (Nat.le_of_ble_eq_true rfl) rfl ?_
        rw [show nI k + 1 = nI (k + 1) from nI_1 k]
        refine zr_goto (tgt := 119) dX6_grow_162 (by decide) ?_
        refine zr_sub (ls2 := [(0, .ref ly), (1, .ref l), (2, .ref wa), (3, .int free), (4, .int s), (5, .int (p.2 + (-1))), (6, .int (nI (k + 1)))]) [0, 1, 2, 3, 4, 5, 6] rfl ?_
        have i9 := ih (k + 1) (gr2 c p (k, j)) (sUp σ1 wa (aI G es.length (upd p.1 k (p.1 k + 1)))) hy2 (by omega) (hX.trans (zX.upA hX.gd hA hT))
        rw [e9] at i9
        refine i9 (sF_upS _ _ _) hT ?_
        intro σ2 x q1 q2 q3
        have k9 := kQ σ2 x q1
        rw [show nums (j :: ys) k = (k, j) :: nums ys (k + 1) from rfl, List.foldl_cons, e9] at k9
        exact k9 q2 q3
set_option maxHeartbeats 4000000 in
theorem c_X6_grow {G : zG} {σ : zT} {d : Nat} {c : zCS} {tl tw l wa ly : Nat} {mod free : Int32} {es : List Nat} (hd : 7 ≤ d) (hG : zOk G) (hw : zGd G σ) (hS : CSys G σ c) (hL : zL G σ tl l mod (es.map (fun j => kA c (rB j)))) (hes : ∀ j, j ∈ es → j < kN c) (hel : es.length ≤ 24) (htw : 10000 ≤ tw) (ht1 : tl ≠ tw) (ht2 : tl + 1 ≠ tw) {g : Nat → Int32} (hA : sF σ wa = some (aI G es.length g)) (hT : sT σ wa = tw) : zCall G I_X6_grow d [.ref ly, .ref l, .ref wa, .int free] σ ((fun o σ' => o = .inl none ∧ sF σ' wa = some (aI G es.length (cGrow c es free g)) ∧ sT σ' wa = tw ∧ zX G (ST tw) σ σ' 8)) := by
  refine zCall_of (ls := [(0, .ref ly), (1, .ref l), (2, .ref wa), (3, .int free)]) (by decide) (Nat.le_of_ble_eq_true rfl) rfl ?_
  obtain ⟨fl, hfl⟩ := hL.A
  refine zr_iconst (v := 0) dX6_grow_0 (by decide) ?_
  refine zr_istore (ls2 := [(0, .ref ly), (1, .ref l), (2, .ref wa), (3, .int free), (4, .int 0)]) dX6_grow_1 (Nat.le_of_ble_eq_true rfl) rfl ?_
  refine zr_aload_n dX6_grow_3 rfl rfl ?_
  refine zr_call51 (rest := []) (zs_F (As := []) (by omega) okF_J2_iterator (by decide +kernel) q1187 q832 q834 q56 q836 hfl rfl rfl rfl (Nat.le_of_ble_eq_true rfl) dX6_grow_4) (c_J2_iterator (by omega) hw.1 hL) ?_
  refine zr_astore (ls2 := [(0, .ref ly), (1, .ref l), (2, .ref wa), (3, .int free), (4, .int 0), (5, .ref (sZ σ))]) dX6_grow_9 (Nat.le_of_ble_eq_true rfl) rfl ?_
  refine l_X6_grow1 (it := sZ σ) (by omega) hG hw hS hL hes hel (Nat.le_refl _) es 0 _ _ _ rfl (Nat.zero_le _) (zX.new _ hw _ (by omega) _ _) (sF_newS _ _ _ _) (fun σ1 hX1 => ?_)
  have hA1 := hX1.f hw hA (fun h => h)
  have hT1 := (hX1.t hw hA).trans hT
  have hX1' := hX1.mono (S2 := ST tw) (fun _ h => absurd h (fun h => h))
  have k3 : ∀ (p : (Nat → Int32) × Int32) (σ2 : zT) (x : Int32), p = cGrow1 c es free g → zX G (ST tw) σ σ2 8 → sF σ2 wa = some (aI G es.length p.1) → sT σ2 wa = tw → zR G yX6_grow cX6_grow 8 (Option.none : Option Jvm.ClassFile.FieldType) [] d 116 [(0, .ref ly), (1, .ref l), (2, .ref wa), (3, .int free), (4, .int (gSum c es)), (5, .int p.2), (6, .int x)] [] σ2 (fun o σ' => o = .inl none ∧ sF σ' wa = some (aI G es.length (cGrow c es free g)) ∧ sT σ' wa = tw ∧ zX G (ST tw) σ σ' 8) := by
    intro p σ2 x hp hX2 hA2 hT2
    refine zr_iconst (v := 0) dX6_grow_116 (by decide) ?_
    refine zr_istore (ls2 := [(0, .ref ly), (1, .ref l), (2, .ref wa), (3, .int free), (4, .int (gSum c es)), (5, .int p.2), (6, .int 0)]) dX6_grow_117 (Nat.le_of_ble_eq_true rfl) rfl ?_
    refine zr_sub (ls2 := [(0, .ref ly), (1, .ref l), (2, .ref wa), (3, .int free), (4, .int (gSum c es)), (5, .int p.2), (6, .int 0)]) [0, 1, 2, 3, 4, 5, 6] rfl ?_
    refine l_X6_grow3 (by omega) hG hw hS hL hes hel htw ht1 ht2 es 0 p σ2 rfl (Nat.zero_le _) hX2 hA2 hT2 (fun σ3 x3 hX3 hA3 hT3 => ?_)
    subst hp
    exact zr_vret rfl dX6_grow_165 (⟨rfl, hA3, hT3, hX3⟩)
  have k2 : ∀ z, z = (if gSum c es = 0 then (0 : Int32) else free) → zR G yX6_grow cX6_grow 8 (Option.none : Option Jvm.ClassFile.FieldType) [] d 56 [(0, .ref ly), (1, .ref l), (2, .ref wa), (3, .int free), (4, .int (gSum c es)), (5, .ref (sZ σ))] [.int z] σ1 (fun o σ' => o = .inl none ∧ sF σ' wa = some (aI G es.length (cGrow c es free g)) ∧ sT σ' wa = tw ∧ zX G (ST tw) σ σ' 8) := by
    intro z hz
    refine zr_istore (ls2 := [(0, .ref ly), (1, .ref l), (2, .ref wa), (3, .int free), (4, .int (gSum c es)), (5, .int z)]) dX6_grow_56 (Nat.le_of_ble_eq_true rfl) rfl ?_
    refine zr_iconst (v := 0) dX6_grow_58 (by decide) ?_
    refine zr_istore (ls2 := [(0, .ref ly), (1, .ref l), (2, .ref wa), (3, .int free), (4, .int (gSum c es)), (5, .int z), (6, .int 0)]) dX6_grow_59 (Nat.le_of_ble_eq_true rfl) rfl ?_
    refine zr_sub (ls2 := [(0, .ref ly), (1, .ref l), (2, .ref wa), (3, .int free), (4, .int (gSum c es)), (5, .int z), (6, .int 0)]) [0, 1, 2, 3, 4, 5, 6] rfl ?_
    by_cases h5 : gSum c es ≤ 0
    · have e5 : cGrow1 c es free g = (g, z) := by unfold cGrow1; rw [if_pos h5, hz]
      cases hes0 : es with
      | nil =>
        subst hes0
        refine zr_iload dX6_grow_61 rfl ?_
        refine zr_aload_n dX6_grow_63 rfl rfl ?_
        refine zr_alenI (v := nI 0) (.new hA1) rfl dX6_grow_64 ?_
        refine zr_icmp_ge (tgt := 116) dX6_grow_65 (by decide) (fun _ => ?_) (fun h9 => absurd (by decide) h9)
        exact k3 (g, z) σ1 _ e5.symm hX1' hA1 hT1
      | cons j9 r9 =>
        rw [← hes0]
        refine zr_iload dX6_grow_61 rfl ?_
        refine zr_aload_n dX6_grow_63 rfl rfl ?_
        refine zr_alenI (v := nI es.length) (.new hA1) rfl dX6_grow_64 ?_
        refine zr_icmp_ge (tgt := 116) dX6_grow_65 (by decide) (fun h9 => absurd h9 (nI_ge (a := 0) (b := es.length) (by rw [hes0]; exact Nat.zero_lt_succ _) (by omega))) (fun _ => ?_)
        refine zr_iload dX6_grow_68 rfl ?_
        refine zr_if_le (tgt := 116) dX6_grow_70 (by decide) (fun _ => ?_) (fun h9 => absurd (h5) h9)
        exact k3 (g, z) σ1 _ e5.symm hX1' hA1 hT1
    · have e5 : cGrow1 c es free g = (nums es 0).foldl (gr1 c free (gSum c es)) (g, z) := by unfold cGrow1; rw [if_neg h5, hz]
      refine l_X6_grow2 (by omega) hG hw hS hL hes hel htw ht1 ht2 h5 (fun h => h5 (by rw [h]; exact Int32.le_refl _)) es 0 (g, z) σ1 rfl (Nat.zero_le _) hX1' hA1 hT1 (fun σ2 x hX2 hA2 hT2 => k3 _ σ2 x e5.symm hX2 hA2 hT2)
  show zR _ _ _ _ _ _ _ _ [(0, .ref ly), (1, .ref l), (2, .ref wa), (3, .int free), (4, .int (gSum c es)), (5, .ref (sZ σ))] _ _ _
  refine zr_iload dX6_grow_46 rfl ?_
  refine zr_if_ne (tgt := 55) dX6_grow_48 (by decide) (fun h6 => ?_) (fun h6 => ?_)
  · refine zr_iload_n dX6_grow_55 rfl rfl ?_
    exact k2 _ (by rw [if_neg h6])
  · refine zr_iconst (v := 0) dX6_grow_51 (by decide) ?_
    refine zr_goto (tgt := 56) dX6_grow_52 (by decide) ?_
    exact k2 _ (by rw [if_pos h6])
