/-! ===== the layout: lose (rows printed by tools/p58.py) ===== -/
def ub (b : Nat → Bool) (k : Nat) (x : Bool) : Nat → Bool := fun j => if j = k then x else b j
def bA (b : Nat → Bool) : Nat → Int32 := fun j => bI (b j)
theorem ub_upd (b : Nat → Bool) (k : Nat) (x : Bool) : upd (bA b) k (vp_nar .boolean (bI x)) = bA (ub b k x) := by
  funext j
  have e : vp_nar .boolean (bI x) = bI x := by cases x <;> rfl
  rw [e]
  unfold upd bA ub
  by_cases h : j = k
  · rw [if_pos h, if_pos h]
  · rw [if_neg h, if_neg h]
def lsW (c : zCS) (b : Nat → Bool) (g : Nat → Int32) (q : Nat × Nat) : Int32 := if b q.1 = true then 0 else kF c q.2 14 * g q.1
def ls1 (c : zCS) (b : Nat → Bool) (lack sum : Int32) (p : (Nat → Int32) × (Nat → Bool) × Int32) (q : Nat × Nat) : (Nat → Int32) × (Nat → Bool) × Int32 :=
  (upd p.1 q.1 (p.1 q.1 - lack * lsW c b p.1 q / sum), ub p.2.1 q.1 (decide (0 < lsW c b p.1 q)), p.2.2 - lack * lsW c b p.1 q / sum)
def ls2 (h : Nat → Bool) (bd : Nat → Int32) (p : (Nat → Int32) × Int32) (q : Nat × Nat) : (Nat → Int32) × Int32 := if p.2 ≤ 0 then p else if h q.1 = false then p else if p.1 q.1 ≤ bd q.1 then p else (upd p.1 q.1 (p.1 q.1 - 1), p.2 + (-1))
def cLose1 (c : zCS) (es : List Nat) (b : Nat → Bool) (lack sum : Int32) (g : Nat → Int32) : (Nat → Int32) × (Nat → Bool) × Int32 := (nums es 0).foldl (ls1 c b lack sum) (g, fun _ => false, lack)
def cLose (c : zCS) (es : List Nat) (b : Nat → Bool) (bd : Nat → Int32) (lack sum : Int32) (g : Nat → Int32) : Nat → Int32 :=
  ((nums es 0).foldl (ls2 (cLose1 c es b lack sum g).2.1 bd) ((cLose1 c es b lack sum g).1, (cLose1 c es b lack sum g).2.2)).1
theorem ls2_stop (h : Nat → Bool) (bd : Nat → Int32) : ∀ (qs : List (Nat × Nat)) (p : (Nat → Int32) × Int32), p.2 ≤ 0 → qs.foldl (ls2 h bd) p = p := by
  intro qs
  induction qs with
  | nil => intro p _; rfl
  | cons q r ih => intro p h1; rw [List.foldl_cons, show ls2 h bd p q = p from if_pos h1]; exact ih p h1

set_option maxHeartbeats 4000000 in
theorem l_X6_lose1 {G : zG} {σ : zT} {d : Nat} {c : zCS} {tl tw l wa fa ba ly : Nat} {mod lack sum : Int32} {es : List Nat} {b : Nat → Bool} {bd : Nat → Int32} {Q : zO → zT → Prop} (hd : 6 ≤ d) (hG : zOk G) (hw : zGd G σ) (hS : CSys G σ c) (hL : zL G σ tl l mod (es.map (fun j => kA c (rB j)))) (hes : ∀ j, j ∈ es → j < kN c) (hel : es.length ≤ 24) (htw : 10000 ≤ tw) (ht1 : tl ≠ tw) (ht2 : tl + 1 ≠ tw) (hF : sF σ fa = some (aZ G es.length (bA b))) (hF1 : sT σ fa ≠ tw) (hB : sF σ ba = some (aI G es.length bd)) (hB1 : sT σ ba ≠ tw) (hs0 : ¬ sum = 0) {ha : Nat} (hha : sZ σ ≤ ha) (hwa : wa < sZ σ) : ∀ (ys : List Nat) (k : Nat) (p : (Nat → Int32) × (Nat → Bool) × Int32) (σ1 : zT), es.drop k = ys → k ≤ es.length → zX G (ST tw) σ σ1 28 → sF σ1 wa = some (aI G es.length p.1) → sT σ1 wa = tw → sF σ1 ha = some (aZ G es.length (bA p.2.1)) → (∀ σ2 x, zX G (ST tw) σ σ2 28 → sF σ2 wa = some (aI G es.length ((nums ys k).foldl (ls1 c b lack sum) p).1) → sT σ2 wa = tw → sF σ2 ha = some (aZ G es.length (bA ((nums ys k).foldl (ls1 c b lack sum) p).2.1)) → zR G yX6_lose cX6_lose 12 (Option.none : Option Jvm.ClassFile.FieldType) [] d 99 [(0, .ref ly), (1, .ref l), (2, .ref wa), (3, .ref fa), (4, .ref ba), (5, .int lack), (6, .int sum), (7, .int ((nums ys k).foldl (ls1 c b lack sum) p).2.2), (8, .ref ha), (9, .int x)] [] σ2 Q) → zR G yX6_lose cX6_lose 12 (Option.none : Option Jvm.ClassFile.FieldType) [] d 13 [(0, .ref ly), (1, .ref l), (2, .ref wa), (3, .ref fa), (4, .ref ba), (5, .int lack), (6, .int sum), (7, .int p.2.2), (8, .ref ha), (9, .int (nI k))] [] σ1 Q := by
  intro ys
  induction ys with
  | nil =>
    intro k p σ1 hy hk hX hA hT hH kQ
    have hkl := drop_nil hy hk
    refine zr_iload dX6_lose_13 rfl ?_
    refine zr_aload_n dX6_lose_15 rfl rfl ?_
    refine zr_alenI (v := nI es.length) (.new hA) rfl dX6_lose_16 ?_
    refine zr_icmp_ge (tgt := 99) dX6_lose_17 (by decide) (fun _ => ?_) (fun h9 => absurd (by rw [hkl]; exact Int32.le_refl _) h9)
    exact kQ σ1 _ hX hA hT hH
  | cons j ys ih =>
    intro k p σ1 hy hk hX hA hT hH kQ
    obtain ⟨hx, hy2, hkl, hm⟩ := drop_cons hy
    have hj := hes j hm
    have hS1 := hS.keep hw hX (ST_big htw)
    have hL1 := hX.L hw hL ht1 ht2
    have hF2 := hX.f hw hF hF1
    have hwh : wa ≠ ha := by omega
    obtain ⟨fl, hfl⟩ := hL1.A
    refine zr_iload dX6_lose_13 rfl ?_
    refine zr_aload_n dX6_lose_15 rfl rfl ?_
    refine zr_alenI (v := nI es.length) (.new hA) rfl dX6_lose_16 ?_
    refine zr_icmp_ge (tgt := 99) dX6_lose_17 (by decide) (fun h9 => absurd h9 (nI_ge hkl (by omega))) (fun _ => ?_)
    refine zr_aload_n dX6_lose_20 rfl rfl ?_
    refine zr_iload dX6_lose_21 rfl ?_
    refine zr_zald (v := .int (bI (b k))) (.new hF2) (vp_in_nI (by omega) (by omega)) (by rw [nI_clamp (by omega)]; rfl) dX6_lose_23 ?_
    have key : ∀ z, z = lsW c b p.1 (k, j) → zR G yX6_lose cX6_lose 12 (Option.none : Option Jvm.ClassFile.FieldType) [] d 50 [(0, .ref ly), (1, .ref l), (2, .ref wa), (3, .ref fa), (4, .ref ba), (5, .int lack), (6, .int sum), (7, .int p.2.2), (8, .ref ha), (9, .int (nI k))] [.int z] σ1 Q := by
      intro z hz
      refine zr_istore (ls2 := [(0, .ref ly), (1, .ref l), (2, .ref wa), (3, .ref fa), (4, .ref ba), (5, .int lack), (6, .int sum), (7, .int p.2.2), (8, .ref ha), (9, .int (nI k)), (10, .int z)]) dX6_lose_50 (Nat.le_of_ble_eq_true rfl) rfl ?_
      refine zr_iload dX6_lose_52 rfl ?_
      refine zr_iload dX6_lose_54 rfl ?_
      refine zr_imul dX6_lose_56 ?_
      refine zr_iload dX6_lose_57 rfl ?_
      refine zr_idiv dX6_lose_59 hs0 ?_
      refine zr_istore (ls2 := [(0, .ref ly), (1, .ref l), (2, .ref wa), (3, .ref fa), (4, .ref ba), (5, .int lack), (6, .int sum), (7, .int p.2.2), (8, .ref ha), (9, .int (nI k)), (10, .int z), (11, .int (lack * z / sum))]) dX6_lose_60 (Nat.le_of_ble_eq_true rfl) rfl ?_
      refine zr_aload dX6_lose_62 rfl ?_
      refine zr_iload dX6_lose_64 rfl ?_
      refine zr_iload dX6_lose_66 rfl ?_
      have key2 : ∀ x, x = decide (0 < z) → zR G yX6_lose cX6_lose 12 (Option.none : Option Jvm.ClassFile.FieldType) [] d 76 [(0, .ref ly), (1, .ref l), (2, .ref wa), (3, .ref fa), (4, .ref ba), (5, .int lack), (6, .int sum), (7, .int p.2.2), (8, .ref ha), (9, .int (nI k)), (10, .int z), (11, .int (lack * z / sum))] [.int (bI x), .int (nI k), .ref ha] σ1 Q := by
        intro x hx9
        refine zr_zast (f2 := bA (ub p.2.1 k x)) hH (vp_in_nI (by omega) (by omega)) (by rw [nI_clamp (by omega)]; exact ub_upd _ _ _) dX6_lose_76 ?_
        have hA1 : sF (sUp σ1 ha (aZ G es.length (bA (ub p.2.1 k x)))) wa = some (aI G es.length p.1) := (sF_upN _ _ _ hwh).trans hA
        refine zr_aload_n dX6_lose_77 rfl rfl ?_
        refine zr_iload dX6_lose_78 rfl ?_
        refine zr_dup2 dX6_lose_80 rfl rfl ?_
        refine zr_iald (v := .int (p.1 k)) (.new hA1) (vp_in_nI (by omega) (by omega)) (by rw [nI_clamp (by omega)]) dX6_lose_81 ?_
        refine zr_iload dX6_lose_82 rfl ?_
        refine zr_isub dX6_lose_84 ?_
        refine zr_iast (f2 := upd p.1 k (p.1 k - lack * z / sum)) hA1 (vp_in_nI (by omega) (by omega)) (by rw [nI_clamp (by omega)]) dX6_lose_85 ?_
        refine zr_iload dX6_lose_86 rfl ?_
        refine zr_iload dX6_lose_88 rfl ?_
        refine zr_isub dX6_lose_90 ?_
        refine zr_istore (ls2 := [(0, .ref ly), (1, .ref l), (2, .ref wa), (3, .ref fa), (4, .ref ba), (5, .int lack), (6, .int sum), (7, .int (p.2.2 - (lack * z / sum))), (8, .ref ha), (9, .int (nI k)), (10, .int z), (11, .int (lack * z / sum))]) dX6_lose_91 (Nat.le_of_ble_eq_true rfl) rfl ?_
        refine zr_iinc (v := ((nI k) + 1)) (ls2 := [(0, .ref ly), (1, .ref l), (2, .ref wa), (3, .ref fa), (4, .ref ba), (5, .int lack), (6, .int sum), (7, .int (p.2.2 - (lack * z / sum))), (8, .ref ha), (9, .int ((nI k) + 1)), (10, .int z), (11, .int (lack * z / sum))]) dX6_lose_93 rfl rfl (Nat.le_of_ble_eq_true rfl) rfl ?_
        rw [show nI k + 1 = nI (k + 1) from nI_1 k]
        refine zr_goto (tgt := 13) dX6_lose_96 (by decide) ?_
        refine zr_sub (ls2 := [(0, .ref ly), (1, .ref l), (2, .ref wa), (3, .ref fa), (4, .ref ba), (5, .int lack), (6, .int sum), (7, .int (p.2.2 - (lack * z / sum))), (8, .ref ha), (9, .int (nI (k + 1)))]) [0, 1, 2, 3, 4, 5, 6, 7, 8, 9] rfl ?_
        have e9 : ls1 c b lack sum p (k, j) = (upd p.1 k (p.1 k - lack * z / sum), ub p.2.1 k x, p.2.2 - lack * z / sum) := by unfold ls1; rw [hx9, hz]
        have i9 := ih (k + 1) (ls1 c b lack sum p (k, j)) (sUp (sUp σ1 ha (aZ G es.length (bA (ub p.2.1 k x)))) wa (aI G es.length (upd p.1 k (p.1 k - lack * z / sum)))) hy2 (by omega) ((hX.upNA hH hha).trans (zX.upA (hX.upNA hH hha).gd hA1 hT))
        rw [e9] at i9
        refine i9 (sF_upS _ _ _) hT ((sF_upN _ _ _ (Ne.symm hwh)).trans (sF_upS _ _ _)) ?_
        intro σ2 x2 q1 q2 q3
        have k9 := kQ σ2 x2 q1
        rw [show nums (j :: ys) k = (k, j) :: nums ys (k + 1) from rfl, List.foldl_cons, e9] at k9
        exact k9 q2 q3
      refine zr_if_le (tgt := 75) dX6_lose_68 (by decide) (fun h2 => ?_) (fun h2 => ?_)
      · refine zr_iconst (v := 0) dX6_lose_75 (by decide) ?_
        exact key2 false (decide_eq_false (Int32.not_lt.mpr h2)).symm
      · refine zr_iconst (v := 1) dX6_lose_71 (by decide) ?_
        refine zr_goto (tgt := 76) dX6_lose_72 (by decide) ?_
        exact key2 true (decide_eq_true (Int32.not_le.mp h2)).symm
    refine zr_ifeqB (tgt := 31) dX6_lose_24 (by decide) (fun h1 => ?_) (fun h1 => ?_)
    · refine zr_aload_n dX6_lose_31 rfl rfl ?_
      refine zr_iload dX6_lose_32 rfl ?_
      refine zr_call51 (rest := []) (zs_F (As := [.int (nI k)]) (by omega) okF_J2_get (by decide +kernel) q1103 q1106 q959 q56 q960 hfl rfl rfl rfl (Nat.le_of_ble_eq_true rfl) dX6_lose_34) (c_J2_get (by omega) hG hL1 (map_at (fun j => kA c (rB j)) hx)) ?_
      refine zr_castS (hS1.bx hj) rfl q1112 dX6_lose_39 ?_
      refine zr_getN (k := 14) (v := .int (kF c j 14)) in_X2 (hS1.bx hj) rfl (Nat.le_of_ble_eq_true rfl) q265 (.inl rfl) rfl dX6_lose_42 ?_
      refine zr_aload_n dX6_lose_45 rfl rfl ?_
      refine zr_iload dX6_lose_46 rfl ?_
      refine zr_iald (v := .int (p.1 k)) (.new hA) (vp_in_nI (by omega) (by omega)) (by rw [nI_clamp (by omega)]) dX6_lose_48 ?_
      refine zr_imul dX6_lose_49 ?_
      exact key _ (by unfold lsW; rw [if_neg (by rw [h1]; decide)])
    · refine zr_iconst (v := 0) dX6_lose_27 (by decide) ?_
      refine zr_goto (tgt := 50) dX6_lose_28 (by decide) ?_
      exact key _ (by unfold lsW; rw [if_pos h1])
set_option maxHeartbeats 4000000 in
theorem l_X6_lose2 {G : zG} {σ : zT} {d : Nat} {c : zCS} {tl tw l wa fa ba ly : Nat} {mod lack sum : Int32} {es : List Nat} {b : Nat → Bool} {bd : Nat → Int32} {Q : zO → zT → Prop} (hd : 6 ≤ d) (hG : zOk G) (hw : zGd G σ) (hS : CSys G σ c) (hL : zL G σ tl l mod (es.map (fun j => kA c (rB j)))) (hes : ∀ j, j ∈ es → j < kN c) (hel : es.length ≤ 24) (htw : 10000 ≤ tw) (ht1 : tl ≠ tw) (ht2 : tl + 1 ≠ tw) (hF : sF σ fa = some (aZ G es.length (bA b))) (hF1 : sT σ fa ≠ tw) (hB : sF σ ba = some (aI G es.length bd)) (hB1 : sT σ ba ≠ tw) {h : Nat → Bool} {ha : Nat} : ∀ (ys : List Nat) (k : Nat) (p : (Nat → Int32) × Int32) (σ1 : zT), es.drop k = ys → k ≤ es.length → zX G (ST tw) σ σ1 28 → sF σ1 wa = some (aI G es.length p.1) → sT σ1 wa = tw → ha ≠ wa → sF σ1 ha = some (aZ G es.length (bA h)) → (∀ σ2 x, zX G (ST tw) σ σ2 28 → sF σ2 wa = some (aI G es.length ((nums ys k).foldl (ls2 h bd) p).1) → sT σ2 wa = tw → zR G yX6_lose cX6_lose 12 (Option.none : Option Jvm.ClassFile.FieldType) [] d 151 [(0, .ref ly), (1, .ref l), (2, .ref wa), (3, .ref fa), (4, .ref ba), (5, .int lack), (6, .int sum), (7, .int ((nums ys k).foldl (ls2 h bd) p).2), (8, .ref ha), (9, .int x)] [] σ2 Q) → zR G yX6_lose cX6_lose 12 (Option.none : Option Jvm.ClassFile.FieldType) [] d 102 [(0, .ref ly), (1, .ref l), (2, .ref wa), (3, .ref fa), (4, .ref ba), (5, .int lack), (6, .int sum), (7, .int p.2), (8, .ref ha), (9, .int (nI k))] [] σ1 Q := by
  intro ys
  induction ys with
  | nil =>
    intro k p σ1 hy hk hX hA hT hne hH kQ
    have hkl := drop_nil hy hk
    refine zr_iload dX6_lose_102 rfl ?_
    refine zr_aload_n dX6_lose_104 rfl rfl ?_
    refine zr_alenI (v := nI es.length) (.new hA) rfl dX6_lose_105 ?_
    refine zr_icmp_ge (tgt := 151) dX6_lose_106 (by decide) (fun _ => ?_) (fun h9 => absurd (by rw [hkl]; exact Int32.le_refl _) h9)
    exact kQ σ1 _ hX hA hT
  | cons j ys ih =>
    intro k p σ1 hy hk hX hA hT hne hH kQ
    obtain ⟨hx, hy2, hkl, hm⟩ := drop_cons hy
    have hB2 := hX.f hw hB hB1
    have skip : ∀ (σ2 : zT), σ2 = σ1 → ls2 h bd p (k, j) = p → zR G yX6_lose cX6_lose 12 (Option.none : Option Jvm.ClassFile.FieldType) [] d 102 [(0, .ref ly), (1, .ref l), (2, .ref wa), (3, .ref fa), (4, .ref ba), (5, .int lack), (6, .int sum), (7, .int p.2), (8, .ref ha), (9, .int (nI (k + 1)))] [] σ2 Q := by
      intro σ2 hs e9
      subst hs
      have i9 := ih (k + 1) (ls2 h bd p (k, j)) σ2 hy2 (by omega) hX
      rw [e9] at i9
      refine i9 hA hT hne hH ?_
      intro σ3 x q1 q2 q3
      have k9 := kQ σ3 x q1
      rw [show nums (j :: ys) k = (k, j) :: nums ys (k + 1) from rfl, List.foldl_cons, e9] at k9
      exact k9 q2 q3
    refine zr_iload dX6_lose_102 rfl ?_
    refine zr_aload_n dX6_lose_104 rfl rfl ?_
    refine zr_alenI (v := nI es.length) (.new hA) rfl dX6_lose_105 ?_
    refine zr_icmp_ge (tgt := 151) dX6_lose_106 (by decide) (fun h9 => absurd h9 (nI_ge hkl (by omega))) (fun _ => ?_)
    refine zr_iload dX6_lose_109 rfl ?_
    refine zr_if_le (tgt := 151) dX6_lose_111 (by decide) (fun h1 => ?_) (fun h1 => ?_)
    · have e9 : (nums (j :: ys) k).foldl (ls2 h bd) p = p := ls2_stop h bd _ p h1
      have k9 := kQ σ1 (nI k) hX
      rw [e9] at k9
      exact k9 hA hT
    · refine zr_aload dX6_lose_114 rfl ?_
      refine zr_iload dX6_lose_116 rfl ?_
      refine zr_zald (v := .int (bI (h k))) (.new hH) (vp_in_nI (by omega) (by omega)) (by rw [nI_clamp (by omega)]; rfl) dX6_lose_118 ?_
      refine zr_ifeqB (tgt := 145) dX6_lose_119 (by decide) (fun h2 => ?_) (fun h2 => ?_)
      · refine zr_iinc (v := ((nI k) + 1)) (ls2 := [(0, .ref ly), (1, .ref l), (2, .ref wa), (3, .ref fa), (4, .ref ba), (5, .int lack), (6, .int sum), (7, .int p.2), (8, .ref ha), (9, .int ((nI k) + 1))]) dX6_lose_145 rfl rfl (Nat.le_of_ble_eq_true rfl) rfl ?_
        rw [show nI k + 1 = nI (k + 1) from nI_1 k]
        refine zr_goto (tgt := 102) dX6_lose_148 (by decide) ?_
        exact skip σ1 rfl (by unfold ls2; rw [if_neg h1, if_pos h2])
      · refine zr_aload_n dX6_lose_122 rfl rfl ?_
        refine zr_iload dX6_lose_123 rfl ?_
        refine zr_iald (v := .int (p.1 k)) (.new hA) (vp_in_nI (by omega) (by omega)) (by rw [nI_clamp (by omega)]) dX6_lose_125 ?_
        refine zr_aload dX6_lose_126 rfl ?_
        refine zr_iload dX6_lose_128 rfl ?_
        refine zr_iald (v := .int (bd k)) (.new hB2) (vp_in_nI (by omega) (by omega)) (by rw [nI_clamp (by omega)]) dX6_lose_130 ?_
        refine zr_icmp_le (tgt := 145) dX6_lose_131 (by decide) (fun h3 => ?_) (fun h3 => ?_)
        · refine zr_iinc (v := ((nI k) + 1)) (ls2 := [(0, .ref ly), (1, .ref l), (2, .ref wa), (3, .ref fa), (4, .ref ba), (5, .int lack), (6, .int sum), (7, .int p.2), (8, .ref ha), (9, .int ((nI k) + 1))]) dX6_lose_145 rfl rfl (Nat.le_of_ble_eq_true rfl) rfl ?_
          rw [show nI k + 1 = nI (k + 1) from nI_1 k]
          refine zr_goto (tgt := 102) dX6_lose_148 (by decide) ?_
          exact skip σ1 rfl (by unfold ls2; rw [if_neg h1, if_neg (by rw [h2]; decide), if_pos h3])
        · refine zr_aload_n dX6_lose_134 rfl rfl ?_
          refine zr_iload dX6_lose_135 rfl ?_
          refine zr_dup2 dX6_lose_137 rfl rfl ?_
          refine zr_iald (v := .int (p.1 k)) (.new hA) (vp_in_nI (by omega) (by omega)) (by rw [nI_clamp (by omega)]) dX6_lose_138 ?_
          refine zr_iconst (v := 1) dX6_lose_139 (by decide) ?_
          refine zr_isub dX6_lose_140 ?_
          refine zr_iast (f2 := upd p.1 k (p.1 k - 1)) hA (vp_in_nI (by omega) (by omega)) (by rw [nI_clamp (by omega)]) dX6_lose_141 ?_
          refine zr_iinc (v := (p.2 + (-1))) (ls2 := [(0, .ref ly), (1, .ref l), (2, .ref wa), (3, .ref fa), (4, .ref ba), (5, .int lack), (6, .int sum), (7, .int (p.2 + (-1))), (8, .ref ha), (9, .int (nI k))]) dX6_lose_142 rfl rfl (Nat.le_of_ble_eq_true rfl) rfl ?_
          refine zr_iinc (v := ((nI k) + 1)) (ls2 := [(0, .ref ly), (1, .ref l), (2, .ref wa), (3, .ref fa), (4, .ref ba), (5, .int lack), (6, .int sum), (7, .int (p.2 + (-1))), (8, .ref ha), (9, .int ((nI k) + 1))]) dX6_lose_145 rfl rfl (Nat.le_of_ble_eq_true rfl) rfl ?_
          rw [show nI k + 1 = nI (k + 1) from nI_1 k]
          refine zr_goto (tgt := 102) dX6_lose_148 (by decide) ?_
          have e9 : ls2 h bd p (k, j) = (upd p.1 k (p.1 k - 1), p.2 + (-1)) := by unfold ls2; rw [if_neg h1, if_neg (by rw [h2]; decide), if_neg h3]
          have i9 := ih (k + 1) (ls2 h bd p (k, j)) (sUp σ1 wa (aI G es.length (upd p.1 k (p.1 k - 1)))) hy2 (by omega) (hX.trans (zX.upA hX.gd hA hT))
          rw [e9] at i9
          refine i9 (sF_upS _ _ _) hT hne ((sF_upN _ _ _ hne).trans hH) ?_
          intro σ2 x q1 q2 q3
          have k9 := kQ σ2 x q1
          rw [show nums (j :: ys) k = (k, j) :: nums ys (k + 1) from rfl, List.foldl_cons, e9] at k9
          exact k9 q2 q3
set_option maxHeartbeats 4000000 in
theorem c_X6_lose {G : zG} {σ : zT} {d : Nat} {c : zCS} {tl tw l wa fa ba ly : Nat} {mod lack sum : Int32} {es : List Nat} {b : Nat → Bool} {bd : Nat → Int32} (hd : 7 ≤ d) (hG : zOk G) (hw : zGd G σ) (hS : CSys G σ c) (hL : zL G σ tl l mod (es.map (fun j => kA c (rB j)))) (hes : ∀ j, j ∈ es → j < kN c) (hel : es.length ≤ 24) (htw : 10000 ≤ tw) (ht1 : tl ≠ tw) (ht2 : tl + 1 ≠ tw) (hF : sF σ fa = some (aZ G es.length (bA b))) (hF1 : sT σ fa ≠ tw) (hB : sF σ ba = some (aI G es.length bd)) (hB1 : sT σ ba ≠ tw) (hs0 : ¬ sum = 0) {g : Nat → Int32} (hA : sF σ wa = some (aI G es.length g)) (hT : sT σ wa = tw) : zCall G I_X6_lose d [.ref ly, .ref l, .ref wa, .ref fa, .ref ba, .int lack, .int sum] σ ((fun o σ' => o = .inl none ∧ sF σ' wa = some (aI G es.length (cLose c es b bd lack sum g)) ∧ sT σ' wa = tw ∧ zX G (ST tw) σ σ' 28)) := by
  refine zCall_of (ls := [(0, .ref ly), (1, .ref l), (2, .ref wa), (3, .ref fa), (4, .ref ba), (5, .int lack), (6, .int sum)]) (by decide) (Nat.le_of_ble_eq_true rfl) rfl ?_
  refine zr_iload dX6_lose_0 rfl ?_
  refine zr_istore (ls2 := [(0, .ref ly), (1, .ref l), (2, .ref wa), (3, .ref fa), (4, .ref ba), (5, .int lack), (6, .int sum), (7, .int lack)]) dX6_lose_2 (Nat.le_of_ble_eq_true rfl) rfl ?_
  refine zr_aload_n dX6_lose_4 rfl rfl ?_
  refine zr_alenI (v := nI es.length) (.new hA) rfl dX6_lose_5 ?_
  refine zr_newaZ (N' := es.length) 0 q1303 (nI_pos (by omega)) (nI_clamp (by omega)) (by omega) dX6_lose_6 ?_
  refine zr_astore (ls2 := [(0, .ref ly), (1, .ref l), (2, .ref wa), (3, .ref fa), (4, .ref ba), (5, .int lack), (6, .int sum), (7, .int lack), (8, .ref (sZ σ))]) dX6_lose_8 (Nat.le_of_ble_eq_true rfl) rfl ?_
  refine zr_iconst (v := 0) dX6_lose_10 (by decide) ?_
  refine zr_istore (ls2 := [(0, .ref ly), (1, .ref l), (2, .ref wa), (3, .ref fa), (4, .ref ba), (5, .int lack), (6, .int sum), (7, .int lack), (8, .ref (sZ σ)), (9, .int 0)]) dX6_lose_11 (Nat.le_of_ble_eq_true rfl) rfl ?_
  have hwa := hw.1 wa _ hA
  have hX0 := (zX.new (ST tw) hw 0 (by omega) (aZ G es.length (fun _ => 0)) es.length).le (show es.length + 4 ≤ 28 by omega)
  have hA0 := (sF_newN σ 0 (aZ G es.length (fun _ => 0)) es.length (Nat.ne_of_lt hwa)).trans hA
  refine l_X6_lose1 (by omega) hG hw hS hL hes hel htw ht1 ht2 hF hF1 hB hB1 hs0 (Nat.le_refl _) hwa es 0 (g, fun _ => false, lack) _ rfl (Nat.zero_le _) hX0 hA0 ((hX0.t hw hA).trans hT) (sF_newS _ _ _ _) (fun σ1 x hX1 hA1 hT1 hH1 => ?_)
  show zR _ _ _ _ _ _ _ _ [(0, .ref ly), (1, .ref l), (2, .ref wa), (3, .ref fa), (4, .ref ba), (5, .int lack), (6, .int sum), (7, .int (cLose1 c es b lack sum g).2.2), (8, .ref (sZ σ)), (9, .int x)] _ _ _
  refine zr_iconst (v := 0) dX6_lose_99 (by decide) ?_
  refine zr_istore (ls2 := [(0, .ref ly), (1, .ref l), (2, .ref wa), (3, .ref fa), (4, .ref ba), (5, .int lack), (6, .int sum), (7, .int (cLose1 c es b lack sum g).2.2), (8, .ref (sZ σ)), (9, .int 0)]) dX6_lose_100 (Nat.le_of_ble_eq_true rfl) rfl ?_
  refine l_X6_lose2 (ha := sZ σ) (by omega) hG hw hS hL hes hel htw ht1 ht2 hF hF1 hB hB1 es 0 ((cLose1 c es b lack sum g).1, (cLose1 c es b lack sum g).2.2) σ1 rfl (Nat.zero_le _) hX1 hA1 hT1 (by omega) hH1 (fun σ2 x hX2 hA2 hT2 => ?_)
  exact zr_vret rfl dX6_lose_151 (⟨rfl, hA2, hT2, hX2⟩)
