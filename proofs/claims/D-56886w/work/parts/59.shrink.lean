/-! ===== the layout: shrink (rows printed by tools/p59.py) ===== -/
def shBd (c : zCS) (g : Nat → Int32) (f : Nat → Int32) (q : Nat × Nat) : Nat → Int32 := upd f q.1 (imin (g q.1) (cW c q.2 true))
def shLk (c : zCS) (b : Nat → Bool) (bd g : Nat → Int32) (p : Int32 × Int32) (q : Nat × Nat) : Int32 × Int32 := (p.1 + ((if b q.1 = true then bd q.1 else g q.1) + kSides c q.2), p.2 + lsW c b g q)
def shNow (c : zCS) (b : Nat → Bool) (bd g : Nat → Int32) (lack sum : Int32) (q : Nat × Nat) : Bool := !b q.1 && decide (g q.1 - lack * (kF c q.2 14 * g q.1) / sum < bd q.1)
def shC (c : zCS) (b : Nat → Bool) (bd g : Nat → Int32) (lack sum : Int32) (p : (Nat → Bool) × Bool) (q : Nat × Nat) : (Nat → Bool) × Bool := (ub p.1 q.1 (shNow c b bd g lack sum q), p.2 || shNow c b bd g lack sum q)
def shD (now b : Nat → Bool) (q : Nat × Nat) : Nat → Bool := ub b q.1 (b q.1 || now q.1)
def shE (b : Nat → Bool) (bd g : Nat → Int32) (q : Nat × Nat) : Nat → Int32 := upd g q.1 (if b q.1 = true then bd q.1 else g q.1)
def shP (c : zCS) (es : List Nat) (b : Nat → Bool) (bd g : Nat → Int32) (inner : Int32) : Int32 × Int32 := (nums es 0).foldl (shLk c b bd g) (-inner, 0)
def shQ (c : zCS) (es : List Nat) (b : Nat → Bool) (bd g : Nat → Int32) (lack sum : Int32) : (Nat → Bool) × Bool := if sum ≤ 0 then (fun _ => false, false) else (nums es 0).foldl (shC c b bd g lack sum) (fun _ => false, false)
def shLoop (c : zCS) (es : List Nat) (bd : Nat → Int32) (inner : Int32) : Nat → (Nat → Bool) → (Nat → Int32) → (Nat → Int32) × (Nat → Bool)
  | 0, b, g => (g, b)
  | f + 1, b, g =>
    if (shQ c es b bd g (shP c es b bd g inner).1 (shP c es b bd g inner).2).2 = true then shLoop c es bd inner f ((nums es 0).foldl (shD (shQ c es b bd g (shP c es b bd g inner).1 (shP c es b bd g inner).2).1) b) g
    else (if (shP c es b bd g inner).2 ≤ 0 then g else cLose c es b bd (shP c es b bd g inner).1 (shP c es b bd g inner).2 g, (nums es 0).foldl (shD (shQ c es b bd g (shP c es b bd g inner).1 (shP c es b bd g inner).2).1) b)
def cShrink (c : zCS) (es : List Nat) (inner : Int32) (g : Nat → Int32) : Nat → Int32 :=
  (nums es 0).foldl (shE (shLoop c es ((nums es 0).foldl (shBd c g) (fun _ => 0)) inner (es.length + 1) (fun _ => false) g).2 ((nums es 0).foldl (shBd c g) (fun _ => 0))) (shLoop c es ((nums es 0).foldl (shBd c g) (fun _ => 0)) inner (es.length + 1) (fun _ => false) g).1
/-- how many are not frozen -/
def shCnt (b : Nat → Bool) : Nat → Nat
  | 0 => 0
  | n + 1 => shCnt b n + (if b n = true then 0 else 1)
theorem shCnt_le (b : Nat → Bool) : ∀ n, shCnt b n ≤ n := by
  intro n
  induction n with
  | zero => exact Nat.le_refl _
  | succ n ih => unfold shCnt; split <;> omega
theorem shCnt_mono {b b' : Nat → Bool} (h : ∀ i, b i = true → b' i = true) : ∀ n, shCnt b' n ≤ shCnt b n := by
  intro n
  induction n with
  | zero => exact Nat.le_refl _
  | succ n ih =>
    unfold shCnt
    by_cases h1 : b n = true
    · rw [if_pos h1, if_pos (h n h1)]; omega
    · rw [if_neg h1]; split <;> omega
theorem shCnt_lt {b b' : Nat → Bool} (h : ∀ i, b i = true → b' i = true) {k : Nat} (hb : b k = false) (hb' : b' k = true) : ∀ n, k < n → shCnt b' n < shCnt b n := by
  intro n
  induction n with
  | zero => intro h; omega
  | succ n ih =>
    intro hk
    unfold shCnt
    by_cases e : k = n
    · subst e
      rw [if_pos hb', if_neg (by rw [hb]; decide)]
      have := shCnt_mono h k
      omega
    · have := ih (by omega)
      by_cases h1 : b n = true
      · rw [if_pos h1, if_pos (h n h1)]; omega
      · rw [if_neg h1]; split <;> omega
theorem shD_mono (now : Nat → Bool) : ∀ (qs : List (Nat × Nat)) (b : Nat → Bool) (i : Nat), b i = true → qs.foldl (shD now) b i = true := by
  intro qs
  induction qs with
  | nil => intro b i h; exact h
  | cons q r ih =>
    intro b i h
    refine ih _ i ?_
    unfold shD ub
    by_cases e : i = q.1
    · rw [if_pos e, ← e, h]; rfl
    · rw [if_neg e]; exact h
theorem shD_in (now : Nat → Bool) : ∀ (qs : List (Nat × Nat)) (b : Nat → Bool) (k j : Nat), (k, j) ∈ qs → now k = true → qs.foldl (shD now) b k = true := by
  intro qs
  induction qs with
  | nil => intro b k j h; cases h
  | cons q r ih =>
    intro b k j h hn
    rcases List.mem_cons.mp h with h | h
    · subst h
      refine shD_mono now r _ k ?_
      unfold shD ub
      rw [if_pos rfl, hn, Bool.or_true]
    · exact ih _ k j h hn
theorem nums_ge : ∀ (l : List Nat) (k : Nat) (q : Nat × Nat), q ∈ nums l k → k ≤ q.1 ∧ q.1 < k + l.length := by
  intro l
  induction l with
  | nil => intro k q h; cases h
  | cons j r ih =>
    intro k q h
    rcases List.mem_cons.mp h with h | h
    · subst h; exact ⟨Nat.le_refl _, by rw [List.length_cons]; show k < k + (r.length + 1); omega⟩
    · have := ih (k + 1) q h
      rw [List.length_cons]
      omega
/-- goes on: one is frozen now that was not -/
theorem shC_some (c : zCS) (b : Nat → Bool) (bd g : Nat → Int32) (lack sum : Int32) : ∀ (ys : List Nat) (k0 : Nat) (p : (Nat → Bool) × Bool), p.2 = false → ((nums ys k0).foldl (shC c b bd g lack sum) p).2 = true → ∃ k j, (k, j) ∈ nums ys k0 ∧ b k = false ∧ ((nums ys k0).foldl (shC c b bd g lack sum) p).1 k = true := by
  have keep : ∀ (ys : List Nat) (k0 : Nat) (p : (Nat → Bool) × Bool) (k : Nat), k < k0 → ((nums ys k0).foldl (shC c b bd g lack sum) p).1 k = p.1 k := by
    intro ys
    induction ys with
    | nil => intro k0 p k _; rfl
    | cons j r ih =>
      intro k0 p k hk
      show ((nums r (k0 + 1)).foldl (shC c b bd g lack sum) (shC c b bd g lack sum p (k0, j))).1 k = p.1 k
      rw [ih (k0 + 1) _ k (by omega)]
      show ub p.1 k0 _ k = p.1 k
      unfold ub
      rw [if_neg (by omega)]
  intro ys
  induction ys with
  | nil => intro k0 p h1 h2; rw [show ((nums [] k0).foldl (shC c b bd g lack sum) p) = p from rfl, h1] at h2; cases h2
  | cons j r ih =>
    intro k0 p h1 h2
    by_cases hn : shNow c b bd g lack sum (k0, j) = true
    · refine ⟨k0, j, List.mem_cons_self, ?_, ?_⟩
      · unfold shNow at hn
        cases hb : b k0 with
        | false => rfl
        | true => simp [hb] at hn
      · show ((nums r (k0 + 1)).foldl (shC c b bd g lack sum) (shC c b bd g lack sum p (k0, j))).1 k0 = true
        rw [keep r (k0 + 1) _ k0 (by omega)]
        show ub p.1 k0 _ k0 = true
        unfold ub
        rw [if_pos rfl, hn]
    · have hf : shNow c b bd g lack sum (k0, j) = false := by simpa using hn
      obtain ⟨k, j', m1, m2, m3⟩ := ih (k0 + 1) (shC c b bd g lack sum p (k0, j)) (by show (p.2 || _) = false; rw [h1, hf]; rfl) h2
      exact ⟨k, j', List.mem_cons_of_mem _ m1, m2, m3⟩
theorem sh_less (c : zCS) (es : List Nat) (b : Nat → Bool) (bd g : Nat → Int32) (lack sum : Int32) (h : (shQ c es b bd g lack sum).2 = true) : shCnt ((nums es 0).foldl (shD (shQ c es b bd g lack sum).1) b) es.length < shCnt b es.length := by
  unfold shQ at h ⊢
  by_cases hs : sum ≤ 0
  · rw [if_pos hs] at h; cases h
  · rw [if_neg hs] at h ⊢
    obtain ⟨k, j, m1, m2, m3⟩ := shC_some c b bd g lack sum es 0 _ rfl h
    exact shCnt_lt (fun i hi => shD_mono _ _ _ i hi) m2 (shD_in _ _ _ k j m1 m3) _ (by have := nums_ge es 0 _ m1; omega)
/-- shrink's arrays: widths, frozen, bounds -/
def ShS (G : zG) (σ : zT) (n wa fa ba tw : Nat) (g : Nat → Int32) (b : Nat → Bool) (bd : Nat → Int32) : Prop := sF σ wa = some (aI G n g) ∧ sT σ wa = tw ∧ sF σ fa = some (aZ G n (bA b)) ∧ sT σ fa = 0 ∧ sF σ ba = some (aI G n bd) ∧ sT σ ba = 0
theorem ShS.keep0 {G : zG} {σ σ1 : zT} {m n wa fa ba tw : Nat} {g : Nat → Int32} {b : Nat → Bool} {bd : Nat → Int32} (h : ShS G σ n wa fa ba tw g b bd) (hw : zGd G σ) (hX : zX G S0 σ σ1 m) : ShS G σ1 n wa fa ba tw g b bd := by
  obtain ⟨h1, h2, h3, h4, h5, h6⟩ := h
  exact ⟨hX.f hw h1 (fun h => h), (hX.t hw h1).trans h2, hX.f hw h3 (fun h => h), (hX.t hw h3).trans h4, hX.f hw h5 (fun h => h), (hX.t hw h5).trans h6⟩
theorem bI_or (x y : Bool) : bI x ||| bI y = bI (x || y) := by cases x <;> cases y <;> rfl

set_option maxHeartbeats 4000000 in
theorem l_X6_shA {G : zG} {σ : zT} {d : Nat} {c : zCS} {tl tw l wa fa ba ly : Nat} {mod inner : Int32} {es : List Nat} {Q : zO → zT → Prop} (hd : 85 ≤ d) (hG : zOk G) (hw : zGd G σ) (hS : CSys G σ c) (hL : zL G σ tl l mod (es.map (fun j => kA c (rB j)))) (hes : ∀ j, j ∈ es → j < kN c) (hel : es.length ≤ 24) {g : Nat → Int32} {N : Nat} (hA0 : sF σ wa = some (aI G es.length g)) (hwa : wa < sZ σ) (hba : sZ σ ≤ ba) : ∀ (ys : List Nat) (k : Nat) (n : Nat) (f : Nat → Int32) (σ1 : zT), es.drop k = ys → k ≤ es.length → zX G S0 σ σ1 n → n + (ys.map (fun j => KW 24 c j)).sum ≤ N → sF σ1 ba = some (aI G es.length f) → sT σ1 ba = 0 → (∀ σ2 x, zX G S0 σ σ2 N → sF σ2 ba = some (aI G es.length ((nums ys k).foldl (shBd c g) f)) → sT σ2 ba = 0 → zR G yX6_shrink cX6_shrink 12 (Option.none : Option Jvm.ClassFile.FieldType) [] d 55 [(0, .ref ly), (1, .ref l), (2, .ref wa), (3, .int inner), (4, .ref fa), (5, .ref ba), (6, .int x)] [] σ2 Q) → zR G yX6_shrink cX6_shrink 12 (Option.none : Option Jvm.ClassFile.FieldType) [] d 15 [(0, .ref ly), (1, .ref l), (2, .ref wa), (3, .int inner), (4, .ref fa), (5, .ref ba), (6, .int (nI k))] [] σ1 Q := by
  intro ys
  induction ys with
  | nil =>
    intro k n f σ1 hy hk hX hN hB hBT kQ
    have hkl := drop_nil hy hk
    refine zr_iload dX6_shrink_15 rfl ?_
    refine zr_aload_n dX6_shrink_17 rfl rfl ?_
    refine zr_alenI (v := nI es.length) (.new (hX.f hw hA0 (fun h => h))) rfl dX6_shrink_18 ?_
    refine zr_icmp_ge (tgt := 55) dX6_shrink_19 (by decide) (fun _ => ?_) (fun h9 => absurd (by rw [hkl]; exact Int32.le_refl _) h9)
    exact kQ σ1 _ (hX.le (by simpa using hN)) hB hBT
  | cons j ys ih =>
    intro k n f σ1 hy hk hX hN hB hBT kQ
    obtain ⟨hx, hy2, hkl, hm⟩ := drop_cons hy
    have hj := hes j hm
    have hA := hX.f hw hA0 (fun h => h)
    have hS1 := hS.keep0 hw hX
    have hL1 := hX.L hw hL (fun h => h) (fun h => h)
    obtain ⟨fl, hfl⟩ := hL1.A
    rw [List.map_cons, List.sum_cons] at hN
    refine zr_iload dX6_shrink_15 rfl ?_
    refine zr_aload_n dX6_shrink_17 rfl rfl ?_
    refine zr_alenI (v := nI es.length) (.new (hX.f hw hA0 (fun h => h))) rfl dX6_shrink_18 ?_
    refine zr_icmp_ge (tgt := 55) dX6_shrink_19 (by decide) (fun h9 => absurd h9 (nI_ge hkl (by omega))) (fun _ => ?_)
    refine zr_aload dX6_shrink_22 rfl ?_
    refine zr_iload dX6_shrink_24 rfl ?_
    refine zr_aload_n dX6_shrink_26 rfl rfl ?_
    refine zr_iload dX6_shrink_27 rfl ?_
    refine zr_iald (v := .int (g k)) (.new hA) (vp_in_nI (by omega) (by omega)) (by rw [nI_clamp (by omega)]) dX6_shrink_29 ?_
    refine zr_aload_n dX6_shrink_30 rfl rfl ?_
    refine zr_iload dX6_shrink_31 rfl ?_
    refine zr_call51 (rest := [.int (g k), .int (nI k), .ref ba]) (zs_F (As := [.int (nI k)]) (by omega) okF_J2_get (by decide +kernel) q1103 q1106 q959 q56 q960 hfl rfl rfl rfl (Nat.le_of_ble_eq_true rfl) dX6_shrink_33) (c_J2_get (by omega) hG hL1 (map_at (fun j => kA c (rB j)) hx)) ?_
    refine zr_castS (hS1.bx hj) rfl q1112 dX6_shrink_38 ?_
    refine zr_iconst (v := 1) dX6_shrink_41 (by decide) ?_
    obtain ⟨_, σ3, ⟨rfl, hX3⟩, hC⟩ := c_W (d := d - 1) true (by omega) hG hX.gd hS1 hj
    refine zr_call1 (rest := [.int (g k), .int (nI k), .ref ba]) (zs_SN (As := [.ref (kA c (rB j)), .int 1]) (by omega) ok_X1_contentWidth q1139 q1140 q53 q1141 rfl rfl (Nat.le_of_ble_eq_true rfl) dX6_shrink_42) hC ?_
    refine zr_min (by omega) q1196 q431 q60 q432 (Nat.le_of_ble_eq_true rfl) dX6_shrink_45 ?_
    have hB3 := hX3.f hX.gd hB (fun h => h)
    refine zr_iast (f2 := shBd c g f (k, j)) hB3 (vp_in_nI (by omega) (by omega)) (by rw [nI_clamp (by omega)]; rfl) dX6_shrink_48 ?_
    refine zr_iinc (v := ((nI k) + 1)) (ls2 := [(0, .ref ly), (1, .ref l), (2, .ref wa), (3, .int inner), (4, .ref fa), (5, .ref ba), (6, .int ((nI k) + 1))]) dX6_shrink_49 rfl rfl (Nat.le_of_ble_eq_true rfl) rfl ?_
    rw [show nI k + 1 = nI (k + 1) from nI_1 k]
    refine zr_goto (tgt := 15) dX6_shrink_52 (by decide) ?_
    refine zr_sub (ls2 := [(0, .ref ly), (1, .ref l), (2, .ref wa), (3, .int inner), (4, .ref fa), (5, .ref ba), (6, .int (nI (k + 1)))]) [0, 1, 2, 3, 4, 5, 6] rfl ?_
    exact ih (k + 1) _ _ _ hy2 (by omega) ((hX.trans hX3).upNA hB3 hba) (by omega) (sF_upS _ _ _) ((hX3.t hX.gd hB).trans hBT) kQ
set_option maxHeartbeats 4000000 in
theorem l_X6_shB {G : zG} {σ : zT} {d : Nat} {c : zCS} {tl tw l wa fa ba ly : Nat} {mod inner : Int32} {es : List Nat} {Q : zO → zT → Prop} (hd : 85 ≤ d) (hG : zOk G) (hw : zGd G σ) (hS : CSys G σ c) (hL : zL G σ tl l mod (es.map (fun j => kA c (rB j)))) (hes : ∀ j, j ∈ es → j < kN c) (hel : es.length ≤ 24) {g bd : Nat → Int32} {b : Nat → Bool} (hH : ShS G σ es.length wa fa ba tw g b bd) : ∀ (ys : List Nat) (k : Nat) (p : Int32 × Int32), es.drop k = ys → k ≤ es.length → True → (∀ x, zR G yX6_shrink cX6_shrink 12 (Option.none : Option Jvm.ClassFile.FieldType) [] d 165 [(0, .ref ly), (1, .ref l), (2, .ref wa), (3, .int inner), (4, .ref fa), (5, .ref ba), (6, .int 0), (7, .int ((nums ys k).foldl (shLk c b bd g) p).1), (8, .int ((nums ys k).foldl (shLk c b bd g) p).2), (9, .int x)] [] σ Q) → zR G yX6_shrink cX6_shrink 12 (Option.none : Option Jvm.ClassFile.FieldType) [] d 76 [(0, .ref ly), (1, .ref l), (2, .ref wa), (3, .int inner), (4, .ref fa), (5, .ref ba), (6, .int 0), (7, .int p.1), (8, .int p.2), (9, .int (nI k))] [] σ Q := by
  intro ys
  induction ys with
  | nil =>
    intro k p hy hk _ kQ
    have hkl := drop_nil hy hk
    refine zr_iload dX6_shrink_76 rfl ?_
    refine zr_aload_n dX6_shrink_78 rfl rfl ?_
    refine zr_alenI (v := nI es.length) (.new hH.1) rfl dX6_shrink_79 ?_
    refine zr_icmp_ge (tgt := 165) dX6_shrink_80 (by decide) (fun _ => ?_) (fun h9 => absurd (by rw [hkl]; exact Int32.le_refl _) h9)
    exact kQ _
  | cons j ys ih =>
    intro k p hy hk _ kQ
    obtain ⟨hx, hy2, hkl, hm⟩ := drop_cons hy
    have hj := hes j hm
    have hS1 := hS
    have hL1 := hL
    obtain ⟨fl, hfl⟩ := hL1.A
    have hH2 := hH
    obtain ⟨hA, -, hF, -, hB, -⟩ := hH2
    refine zr_iload dX6_shrink_76 rfl ?_
    refine zr_aload_n dX6_shrink_78 rfl rfl ?_
    refine zr_alenI (v := nI es.length) (.new hH.1) rfl dX6_shrink_79 ?_
    refine zr_icmp_ge (tgt := 165) dX6_shrink_80 (by decide) (fun h9 => absurd h9 (nI_ge hkl (by omega))) (fun _ => ?_)
    refine zr_iload dX6_shrink_83 rfl ?_
    refine zr_aload dX6_shrink_85 rfl ?_
    refine zr_iload dX6_shrink_87 rfl ?_
    refine zr_zald (v := .int (bI (b k))) (.new hF) (vp_in_nI (by omega) (by omega)) (by rw [nI_clamp (by omega)]; rfl) dX6_shrink_89 ?_
    have key : ∀ z, z = (if b k = true then bd k else g k) → zR G yX6_shrink cX6_shrink 12 (Option.none : Option Jvm.ClassFile.FieldType) [] d 105 [(0, .ref ly), (1, .ref l), (2, .ref wa), (3, .int inner), (4, .ref fa), (5, .ref ba), (6, .int 0), (7, .int p.1), (8, .int p.2), (9, .int (nI k))] [.int z, .int p.1] σ Q := by
      intro z hz
      refine zr_aload_n dX6_shrink_105 rfl rfl ?_
      refine zr_iload dX6_shrink_106 rfl ?_
      refine zr_call51 (rest := [.int z, .int p.1]) (zs_F (As := [.int (nI k)]) (by omega) okF_J2_get (by decide +kernel) q1103 q1106 q959 q56 q960 hfl rfl rfl rfl (Nat.le_of_ble_eq_true rfl) dX6_shrink_108) (c_J2_get (by omega) hG hL1 (map_at (fun j => kA c (rB j)) hx)) ?_
      refine zr_castS (hS1.bx hj) rfl q1112 dX6_shrink_113 ?_
      refine zr_call1 (rest := [.int z, .int p.1]) (zs_V (As := []) (by omega) ok_X2_sides q1181 q1164 q1165 q57 q1166 rfl (hS1.bx hj) rfl rfl rfl (Nat.le_of_ble_eq_true rfl) dX6_shrink_116) (c_X2_sides (by omega) hS1 hj) ?_
      refine zr_iadd dX6_shrink_119 ?_
      refine zr_iadd dX6_shrink_120 ?_
      refine zr_istore (ls2 := [(0, .ref ly), (1, .ref l), (2, .ref wa), (3, .int inner), (4, .ref fa), (5, .ref ba), (6, .int 0), (7, .int (p.1 + (z + (kSides c j)))), (8, .int p.2), (9, .int (nI k))]) dX6_shrink_121 (Nat.le_of_ble_eq_true rfl) rfl ?_
      refine zr_iload dX6_shrink_123 rfl ?_
      refine zr_aload dX6_shrink_125 rfl ?_
      refine zr_iload dX6_shrink_127 rfl ?_
      refine zr_zald (v := .int (bI (b k))) (.new hF) (vp_in_nI (by omega) (by omega)) (by rw [nI_clamp (by omega)]; rfl) dX6_shrink_129 ?_
      have key2 : ∀ x, x = lsW c b g (k, j) → zR G yX6_shrink cX6_shrink 12 (Option.none : Option Jvm.ClassFile.FieldType) [] d 156 [(0, .ref ly), (1, .ref l), (2, .ref wa), (3, .int inner), (4, .ref fa), (5, .ref ba), (6, .int 0), (7, .int (p.1 + (z + (kSides c j)))), (8, .int p.2), (9, .int (nI k))] [.int x, .int p.2] σ Q := by
        intro x hx9
        refine zr_iadd dX6_shrink_156 ?_
        refine zr_istore (ls2 := [(0, .ref ly), (1, .ref l), (2, .ref wa), (3, .int inner), (4, .ref fa), (5, .ref ba), (6, .int 0), (7, .int (p.1 + (z + (kSides c j)))), (8, .int (p.2 + x)), (9, .int (nI k))]) dX6_shrink_157 (Nat.le_of_ble_eq_true rfl) rfl ?_
        refine zr_iinc (v := ((nI k) + 1)) (ls2 := [(0, .ref ly), (1, .ref l), (2, .ref wa), (3, .int inner), (4, .ref fa), (5, .ref ba), (6, .int 0), (7, .int (p.1 + (z + (kSides c j)))), (8, .int (p.2 + x)), (9, .int ((nI k) + 1))]) dX6_shrink_159 rfl rfl (Nat.le_of_ble_eq_true rfl) rfl ?_
        rw [show nI k + 1 = nI (k + 1) from nI_1 k]
        refine zr_goto (tgt := 76) dX6_shrink_162 (by decide) ?_
        subst hx9
        subst hz
        exact ih (k + 1) (shLk c b bd g p (k, j)) hy2 (by omega) trivial kQ
      refine zr_ifeqB (tgt := 137) dX6_shrink_130 (by decide) (fun h2 => ?_) (fun h2 => ?_)
      · refine zr_aload_n dX6_shrink_137 rfl rfl ?_
        refine zr_iload dX6_shrink_138 rfl ?_
        refine zr_call51 (rest := [.int p.2]) (zs_F (As := [.int (nI k)]) (by omega) okF_J2_get (by decide +kernel) q1103 q1106 q959 q56 q960 hfl rfl rfl rfl (Nat.le_of_ble_eq_true rfl) dX6_shrink_140) (c_J2_get (by omega) hG hL1 (map_at (fun j => kA c (rB j)) hx)) ?_
        refine zr_castS (hS1.bx hj) rfl q1112 dX6_shrink_145 ?_
        refine zr_getN (k := 14) (v := .int (kF c j 14)) in_X2 (hS1.bx hj) rfl (Nat.le_of_ble_eq_true rfl) q265 (.inl rfl) rfl dX6_shrink_148 ?_
        refine zr_aload_n dX6_shrink_151 rfl rfl ?_
        refine zr_iload dX6_shrink_152 rfl ?_
        refine zr_iald (v := .int (g k)) (.new hA) (vp_in_nI (by omega) (by omega)) (by rw [nI_clamp (by omega)]) dX6_shrink_154 ?_
        refine zr_imul dX6_shrink_155 ?_
        exact key2 _ (by unfold lsW; rw [if_neg (by rw [h2]; decide)])
      · refine zr_iconst (v := 0) dX6_shrink_133 (by decide) ?_
        refine zr_goto (tgt := 156) dX6_shrink_134 (by decide) ?_
        exact key2 _ (by unfold lsW; rw [if_pos h2])
    refine zr_ifeqB (tgt := 101) dX6_shrink_90 (by decide) (fun h1 => ?_) (fun h1 => ?_)
    · refine zr_aload_n dX6_shrink_101 rfl rfl ?_
      refine zr_iload dX6_shrink_102 rfl ?_
      refine zr_iald (v := .int (g k)) (.new hA) (vp_in_nI (by omega) (by omega)) (by rw [nI_clamp (by omega)]) dX6_shrink_104 ?_
      exact key _ (by rw [if_neg (by rw [h1]; decide)])
    · refine zr_aload dX6_shrink_93 rfl ?_
      refine zr_iload dX6_shrink_95 rfl ?_
      refine zr_iald (v := .int (bd k)) (.new hB) (vp_in_nI (by omega) (by omega)) (by rw [nI_clamp (by omega)]) dX6_shrink_97 ?_
      refine zr_goto (tgt := 105) dX6_shrink_98 (by decide) ?_
      exact key _ (by rw [if_pos h1])
set_option maxHeartbeats 4000000 in
theorem l_X6_shC {G : zG} {σ : zT} {d : Nat} {c : zCS} {tl tw l wa fa ba ly : Nat} {mod inner : Int32} {es : List Nat} {Q : zO → zT → Prop} (hd : 85 ≤ d) (hG : zOk G) (hw : zGd G σ) (hS : CSys G σ c) (hL : zL G σ tl l mod (es.map (fun j => kA c (rB j)))) (hes : ∀ j, j ∈ es → j < kN c) (hel : es.length ≤ 24) {g bd : Nat → Int32} {b : Nat → Bool} (hH : ShS G σ es.length wa fa ba tw g b bd) {lack sum : Int32} {na : Nat} (hs : ¬ sum ≤ 0) (hs0 : ¬ sum = 0) (hna : sZ σ ≤ na) : ∀ (ys : List Nat) (k : Nat) (p : (Nat → Bool) × Bool) (σ1 : zT), es.drop k = ys → k ≤ es.length → zX G S0 σ σ1 28 → sF σ1 na = some (aZ G es.length (bA p.1)) → sT σ1 na = 0 → (∀ σ2 x, zX G S0 σ σ2 28 → sF σ2 na = some (aZ G es.length (bA ((nums ys k).foldl (shC c b bd g lack sum) p).1)) → sT σ2 na = 0 → zR G yX6_shrink cX6_shrink 12 (Option.none : Option Jvm.ClassFile.FieldType) [] d 262 [(0, .ref ly), (1, .ref l), (2, .ref wa), (3, .int inner), (4, .ref fa), (5, .ref ba), (6, .int (bI ((nums ys k).foldl (shC c b bd g lack sum) p).2)), (7, .int lack), (8, .int sum), (9, .ref na), (10, .int x)] [] σ2 Q) → zR G yX6_shrink cX6_shrink 12 (Option.none : Option Jvm.ClassFile.FieldType) [] d 174 [(0, .ref ly), (1, .ref l), (2, .ref wa), (3, .int inner), (4, .ref fa), (5, .ref ba), (6, .int (bI p.2)), (7, .int lack), (8, .int sum), (9, .ref na), (10, .int (nI k))] [] σ1 Q := by
  intro ys
  induction ys with
  | nil =>
    intro k p σ1 hy hk hX hN hNT kQ
    have hkl := drop_nil hy hk
    refine zr_iload dX6_shrink_174 rfl ?_
    refine zr_aload_n dX6_shrink_176 rfl rfl ?_
    refine zr_alenI (v := nI es.length) (.new (hH.keep0 hw hX).1) rfl dX6_shrink_177 ?_
    refine zr_icmp_ge (tgt := 262) dX6_shrink_178 (by decide) (fun _ => ?_) (fun h9 => absurd (by rw [hkl]; exact Int32.le_refl _) h9)
    exact kQ σ1 _ hX hN hNT
  | cons j ys ih =>
    intro k p σ1 hy hk hX hN hNT kQ
    obtain ⟨hx, hy2, hkl, hm⟩ := drop_cons hy
    have hj := hes j hm
    have hS1 := hS.keep0 hw hX
    have hL1 := hX.L hw hL (fun h => h) (fun h => h)
    obtain ⟨fl, hfl⟩ := hL1.A
    obtain ⟨hA, -, hF, -, hB, -⟩ := hH.keep0 hw hX
    refine zr_iload dX6_shrink_174 rfl ?_
    refine zr_aload_n dX6_shrink_176 rfl rfl ?_
    refine zr_alenI (v := nI es.length) (.new (hH.keep0 hw hX).1) rfl dX6_shrink_177 ?_
    refine zr_icmp_ge (tgt := 262) dX6_shrink_178 (by decide) (fun h9 => absurd h9 (nI_ge hkl (by omega))) (fun _ => ?_)
    refine zr_iload dX6_shrink_181 rfl ?_
    refine zr_if_le (tgt := 262) dX6_shrink_183 (by decide) (fun h9 => absurd h9 (hs)) (fun _ => ?_)
    refine zr_iload dX6_shrink_186 rfl ?_
    refine zr_aload_n dX6_shrink_188 rfl rfl ?_
    refine zr_iload dX6_shrink_189 rfl ?_
    refine zr_call51 (rest := [.int lack]) (zs_F (As := [.int (nI k)]) (by omega) okF_J2_get (by decide +kernel) q1103 q1106 q959 q56 q960 hfl rfl rfl rfl (Nat.le_of_ble_eq_true rfl) dX6_shrink_191) (c_J2_get (by omega) hG hL1 (map_at (fun j => kA c (rB j)) hx)) ?_
    refine zr_castS (hS1.bx hj) rfl q1112 dX6_shrink_196 ?_
    refine zr_getN (k := 14) (v := .int (kF c j 14)) in_X2 (hS1.bx hj) rfl (Nat.le_of_ble_eq_true rfl) q265 (.inl rfl) rfl dX6_shrink_199 ?_
    refine zr_aload_n dX6_shrink_202 rfl rfl ?_
    refine zr_iload dX6_shrink_203 rfl ?_
    refine zr_iald (v := .int (g k)) (.new hA) (vp_in_nI (by omega) (by omega)) (by rw [nI_clamp (by omega)]) dX6_shrink_205 ?_
    refine zr_imul dX6_shrink_206 ?_
    refine zr_imul dX6_shrink_207 ?_
    refine zr_iload dX6_shrink_208 rfl ?_
    refine zr_idiv dX6_shrink_210 hs0 ?_
    refine zr_istore (ls2 := [(0, .ref ly), (1, .ref l), (2, .ref wa), (3, .int inner), (4, .ref fa), (5, .ref ba), (6, .int (bI p.2)), (7, .int lack), (8, .int sum), (9, .ref na), (10, .int (nI k)), (11, .int (lack * (kF c j 14 * g k) / sum))]) dX6_shrink_211 (Nat.le_of_ble_eq_true rfl) rfl ?_
    refine zr_aload dX6_shrink_213 rfl ?_
    refine zr_iload dX6_shrink_215 rfl ?_
    refine zr_aload dX6_shrink_217 rfl ?_
    refine zr_iload dX6_shrink_219 rfl ?_
    refine zr_zald (v := .int (bI (b k))) (.new hF) (vp_in_nI (by omega) (by omega)) (by rw [nI_clamp (by omega)]; rfl) dX6_shrink_221 ?_
    have key : ∀ x, x = shNow c b bd g lack sum (k, j) → zR G yX6_shrink cX6_shrink 12 (Option.none : Option Jvm.ClassFile.FieldType) [] d 245 [(0, .ref ly), (1, .ref l), (2, .ref wa), (3, .int inner), (4, .ref fa), (5, .ref ba), (6, .int (bI p.2)), (7, .int lack), (8, .int sum), (9, .ref na), (10, .int (nI k)), (11, .int (lack * (kF c j 14 * g k) / sum))] [.int (bI x), .int (nI k), .ref na] σ1 Q := by
      intro x hx9
      refine zr_zast (f2 := bA (ub p.1 k x)) hN (vp_in_nI (by omega) (by omega)) (by rw [nI_clamp (by omega)]; exact ub_upd _ _ _) dX6_shrink_245 ?_
      have e8 : ub p.1 k x k = x := if_pos rfl
      refine zr_iload dX6_shrink_246 rfl ?_
      refine zr_aload dX6_shrink_248 rfl ?_
      refine zr_iload dX6_shrink_250 rfl ?_
      refine zr_zald (v := .int (bI x)) (.new (sF_upS _ _ _)) (vp_in_nI (by omega) (by omega)) (by rw [nI_clamp (by omega)]; show Value.int (bI (ub p.1 k x k)) = _; rw [e8]) dX6_shrink_252 ?_
      refine zr_ior dX6_shrink_253 ?_
      refine zr_eqi (z := (bI (p.2 || x))) (bI_or _ _) ?_
      refine zr_istore (ls2 := [(0, .ref ly), (1, .ref l), (2, .ref wa), (3, .int inner), (4, .ref fa), (5, .ref ba), (6, .int (bI (p.2 || x))), (7, .int lack), (8, .int sum), (9, .ref na), (10, .int (nI k)), (11, .int (lack * (kF c j 14 * g k) / sum))]) dX6_shrink_254 (Nat.le_of_ble_eq_true rfl) rfl ?_
      refine zr_iinc (v := ((nI k) + 1)) (ls2 := [(0, .ref ly), (1, .ref l), (2, .ref wa), (3, .int inner), (4, .ref fa), (5, .ref ba), (6, .int (bI (p.2 || x))), (7, .int lack), (8, .int sum), (9, .ref na), (10, .int ((nI k) + 1)), (11, .int (lack * (kF c j 14 * g k) / sum))]) dX6_shrink_256 rfl rfl (Nat.le_of_ble_eq_true rfl) rfl ?_
      rw [show nI k + 1 = nI (k + 1) from nI_1 k]
      refine zr_goto (tgt := 174) dX6_shrink_259 (by decide) ?_
      refine zr_sub (ls2 := [(0, .ref ly), (1, .ref l), (2, .ref wa), (3, .int inner), (4, .ref fa), (5, .ref ba), (6, .int (bI (p.2 || x))), (7, .int lack), (8, .int sum), (9, .ref na), (10, .int (nI (k + 1)))]) [0, 1, 2, 3, 4, 5, 6, 7, 8, 9, 10] rfl ?_
      have e9 : shC c b bd g lack sum p (k, j) = (ub p.1 k x, p.2 || x) := by unfold shC; rw [hx9]
      have i9 := ih (k + 1) (shC c b bd g lack sum p (k, j)) (sUp σ1 na (aZ G es.length (bA (ub p.1 k x)))) hy2 (by omega) (hX.upNA hN hna)
      rw [e9] at i9
      refine i9 (sF_upS _ _ _) hNT ?_
      intro σ2 x2 q1 q2 q3
      have k9 := kQ σ2 x2 q1
      rw [show nums (j :: ys) k = (k, j) :: nums ys (k + 1) from rfl, List.foldl_cons, e9] at k9
      exact k9 q2 q3
    refine zr_ifneB (tgt := 244) dX6_shrink_222 (by decide) (fun h1 => ?_) (fun h1 => ?_)
    · refine zr_iconst (v := 0) dX6_shrink_244 (by decide) ?_
      exact key false (by unfold shNow; rw [h1]; rfl)
    · refine zr_aload_n dX6_shrink_225 rfl rfl ?_
      refine zr_iload dX6_shrink_226 rfl ?_
      refine zr_iald (v := .int (g k)) (.new hA) (vp_in_nI (by omega) (by omega)) (by rw [nI_clamp (by omega)]) dX6_shrink_228 ?_
      refine zr_iload dX6_shrink_229 rfl ?_
      refine zr_isub dX6_shrink_231 ?_
      refine zr_aload dX6_shrink_232 rfl ?_
      refine zr_iload dX6_shrink_234 rfl ?_
      refine zr_iald (v := .int (bd k)) (.new hB) (vp_in_nI (by omega) (by omega)) (by rw [nI_clamp (by omega)]) dX6_shrink_236 ?_
      refine zr_icmp_ge (tgt := 244) dX6_shrink_237 (by decide) (fun h2 => ?_) (fun h2 => ?_)
      · refine zr_iconst (v := 0) dX6_shrink_244 (by decide) ?_
        exact key false (by unfold shNow; rw [h1, decide_eq_false (Int32.not_lt.mpr h2)]; rfl)
      · refine zr_iconst (v := 1) dX6_shrink_240 (by decide) ?_
        refine zr_goto (tgt := 245) dX6_shrink_241 (by decide) ?_
        exact key true (by unfold shNow; rw [h1, decide_eq_true (Int32.not_le.mp h2)]; rfl)
set_option maxHeartbeats 4000000 in
theorem l_X6_shD {G : zG} {σ : zT} {d : Nat} {c : zCS} {tl tw l wa fa ba ly : Nat} {mod inner : Int32} {es : List Nat} {Q : zO → zT → Prop} (hd : 85 ≤ d) (hG : zOk G) (hw : zGd G σ) (hS : CSys G σ c) (hL : zL G σ tl l mod (es.map (fun j => kA c (rB j)))) (hes : ∀ j, j ∈ es → j < kN c) (hel : es.length ≤ 24) {g bd : Nat → Int32} {now : Nat → Bool} {na n : Nat} {x6 x7 x8 : Int32} (hfa : sZ σ ≤ fa) (ne1 : wa ≠ fa) (ne2 : ba ≠ fa) (ne3 : na ≠ fa) : ∀ (ys : List Nat) (k : Nat) (b : Nat → Bool) (σ1 : zT), es.drop k = ys → k ≤ es.length → zX G (ST tw) σ σ1 n → ShS G σ1 es.length wa fa ba tw g b bd → sF σ1 na = some (aZ G es.length (bA now)) → (∀ σ2 x, zX G (ST tw) σ σ2 n → ShS G σ2 es.length wa fa ba tw g ((nums ys k).foldl (shD now) b) bd → zR G yX6_shrink cX6_shrink 12 (Option.none : Option Jvm.ClassFile.FieldType) [] d 315 [(0, .ref ly), (1, .ref l), (2, .ref wa), (3, .int inner), (4, .ref fa), (5, .ref ba), (6, .int x6), (7, .int x7), (8, .int x8), (9, .ref na), (10, .int x)] [] σ2 Q) → zR G yX6_shrink cX6_shrink 12 (Option.none : Option Jvm.ClassFile.FieldType) [] d 289 [(0, .ref ly), (1, .ref l), (2, .ref wa), (3, .int inner), (4, .ref fa), (5, .ref ba), (6, .int x6), (7, .int x7), (8, .int x8), (9, .ref na), (10, .int (nI k))] [] σ1 Q := by
  intro ys
  induction ys with
  | nil =>
    intro k b σ1 hy hk hX hH hN kQ
    have hkl := drop_nil hy hk
    refine zr_iload dX6_shrink_289 rfl ?_
    refine zr_aload_n dX6_shrink_291 rfl rfl ?_
    refine zr_alenI (v := nI es.length) (.new hH.1) rfl dX6_shrink_292 ?_
    refine zr_icmp_ge (tgt := 315) dX6_shrink_293 (by decide) (fun _ => ?_) (fun h9 => absurd (by rw [hkl]; exact Int32.le_refl _) h9)
    exact kQ σ1 _ hX hH
  | cons j ys ih =>
    intro k b σ1 hy hk hX hH hN kQ
    obtain ⟨hx, hy2, hkl, hm⟩ := drop_cons hy
    have hj := hes j hm
    have hfl : True := trivial
    have hHk := hH
    obtain ⟨hA, hT, hF, hF1, hB, hB1⟩ := hHk
    refine zr_iload dX6_shrink_289 rfl ?_
    refine zr_aload_n dX6_shrink_291 rfl rfl ?_
    refine zr_alenI (v := nI es.length) (.new hH.1) rfl dX6_shrink_292 ?_
    refine zr_icmp_ge (tgt := 315) dX6_shrink_293 (by decide) (fun h9 => absurd h9 (nI_ge hkl (by omega))) (fun _ => ?_)
    refine zr_aload dX6_shrink_296 rfl ?_
    refine zr_iload dX6_shrink_298 rfl ?_
    refine zr_dup2 dX6_shrink_300 rfl rfl ?_
    refine zr_zald (v := .int (bI (b k))) (.new hF) (vp_in_nI (by omega) (by omega)) (by rw [nI_clamp (by omega)]; rfl) dX6_shrink_301 ?_
    refine zr_aload dX6_shrink_302 rfl ?_
    refine zr_iload dX6_shrink_304 rfl ?_
    refine zr_zald (v := .int (bI (now k))) (.new hN) (vp_in_nI (by omega) (by omega)) (by rw [nI_clamp (by omega)]; rfl) dX6_shrink_306 ?_
    refine zr_ior dX6_shrink_307 ?_
    refine zr_eqi (z := (bI (b k || now k))) (bI_or _ _) ?_
    refine zr_zast (f2 := bA (shD now b (k, j))) hF (vp_in_nI (by omega) (by omega)) (by rw [nI_clamp (by omega)]; exact ub_upd _ _ _) dX6_shrink_308 ?_
    refine zr_iinc (v := ((nI k) + 1)) (ls2 := [(0, .ref ly), (1, .ref l), (2, .ref wa), (3, .int inner), (4, .ref fa), (5, .ref ba), (6, .int x6), (7, .int x7), (8, .int x8), (9, .ref na), (10, .int ((nI k) + 1))]) dX6_shrink_309 rfl rfl (Nat.le_of_ble_eq_true rfl) rfl ?_
    rw [show nI k + 1 = nI (k + 1) from nI_1 k]
    refine zr_goto (tgt := 289) dX6_shrink_312 (by decide) ?_
    exact ih (k + 1) _ _ hy2 (by omega) (hX.upNA hF hfa) ⟨(sF_upN _ _ _ ne1).trans hA, hT, sF_upS _ _ _, hF1, (sF_upN _ _ _ ne2).trans hB, hB1⟩ ((sF_upN _ _ _ ne3).trans hN) kQ
set_option maxHeartbeats 4000000 in
theorem l_X6_shE {G : zG} {σ : zT} {d : Nat} {c : zCS} {tl tw l wa fa ba ly : Nat} {mod inner : Int32} {es : List Nat} {Q : zO → zT → Prop} (hd : 85 ≤ d) (hG : zOk G) (hw : zGd G σ) (hS : CSys G σ c) (hL : zL G σ tl l mod (es.map (fun j => kA c (rB j)))) (hes : ∀ j, j ∈ es → j < kN c) (hel : es.length ≤ 24) {bd : Nat → Int32} {b : Nat → Bool} {n : Nat} (ne1 : wa ≠ fa) (ne2 : wa ≠ ba) : ∀ (ys : List Nat) (k : Nat) (g : Nat → Int32) (σ1 : zT), es.drop k = ys → k ≤ es.length → zX G (ST tw) σ σ1 n → ShS G σ1 es.length wa fa ba tw g b bd → (∀ σ2 x, zX G (ST tw) σ σ2 n → ShS G σ2 es.length wa fa ba tw ((nums ys k).foldl (shE b bd) g) b bd → zR G yX6_shrink cX6_shrink 12 (Option.none : Option Jvm.ClassFile.FieldType) [] d 358 [(0, .ref ly), (1, .ref l), (2, .ref wa), (3, .int inner), (4, .ref fa), (5, .ref ba), (7, .int x)] [] σ2 Q) → zR G yX6_shrink cX6_shrink 12 (Option.none : Option Jvm.ClassFile.FieldType) [] d 321 [(0, .ref ly), (1, .ref l), (2, .ref wa), (3, .int inner), (4, .ref fa), (5, .ref ba), (7, .int (nI k))] [] σ1 Q := by
  intro ys
  induction ys with
  | nil =>
    intro k g σ1 hy hk hX hH kQ
    have hkl := drop_nil hy hk
    refine zr_iload dX6_shrink_321 rfl ?_
    refine zr_aload_n dX6_shrink_323 rfl rfl ?_
    refine zr_alenI (v := nI es.length) (.new hH.1) rfl dX6_shrink_324 ?_
    refine zr_icmp_ge (tgt := 358) dX6_shrink_325 (by decide) (fun _ => ?_) (fun h9 => absurd (by rw [hkl]; exact Int32.le_refl _) h9)
    exact kQ σ1 _ hX hH
  | cons j ys ih =>
    intro k g σ1 hy hk hX hH kQ
    obtain ⟨hx, hy2, hkl, hm⟩ := drop_cons hy
    have hj := hes j hm
    have hfl : True := trivial
    have hHk := hH
    obtain ⟨hA, hT, hF, hF1, hB, hB1⟩ := hHk
    refine zr_iload dX6_shrink_321 rfl ?_
    refine zr_aload_n dX6_shrink_323 rfl rfl ?_
    refine zr_alenI (v := nI es.length) (.new hH.1) rfl dX6_shrink_324 ?_
    refine zr_icmp_ge (tgt := 358) dX6_shrink_325 (by decide) (fun h9 => absurd h9 (nI_ge hkl (by omega))) (fun _ => ?_)
    refine zr_aload_n dX6_shrink_328 rfl rfl ?_
    refine zr_iload dX6_shrink_329 rfl ?_
    refine zr_aload dX6_shrink_331 rfl ?_
    refine zr_iload dX6_shrink_333 rfl ?_
    refine zr_zald (v := .int (bI (b k))) (.new hF) (vp_in_nI (by omega) (by omega)) (by rw [nI_clamp (by omega)]; rfl) dX6_shrink_335 ?_
    have key : ∀ z, z = (if b k = true then bd k else g k) → zR G yX6_shrink cX6_shrink 12 (Option.none : Option Jvm.ClassFile.FieldType) [] d 351 [(0, .ref ly), (1, .ref l), (2, .ref wa), (3, .int inner), (4, .ref fa), (5, .ref ba), (7, .int (nI k))] [.int z, .int (nI k), .ref wa] σ1 Q := by
      intro z hz
      subst hz
      refine zr_iast (f2 := shE b bd g (k, j)) hA (vp_in_nI (by omega) (by omega)) (by rw [nI_clamp (by omega)]; rfl) dX6_shrink_351 ?_
      refine zr_iinc (v := ((nI k) + 1)) (ls2 := [(0, .ref ly), (1, .ref l), (2, .ref wa), (3, .int inner), (4, .ref fa), (5, .ref ba), (7, .int ((nI k) + 1))]) dX6_shrink_352 rfl rfl (Nat.le_of_ble_eq_true rfl) rfl ?_
      rw [show nI k + 1 = nI (k + 1) from nI_1 k]
      refine zr_goto (tgt := 321) dX6_shrink_355 (by decide) ?_
      exact ih (k + 1) _ _ hy2 (by omega) (hX.trans (zX.upA hX.gd hA hT)) ⟨sF_upS _ _ _, hT, (sF_upN _ _ _ (Ne.symm ne1)).trans hF, hF1, (sF_upN _ _ _ (Ne.symm ne2)).trans hB, hB1⟩ kQ
    refine zr_ifeqB (tgt := 347) dX6_shrink_336 (by decide) (fun h1 => ?_) (fun h1 => ?_)
    · refine zr_aload_n dX6_shrink_347 rfl rfl ?_
      refine zr_iload dX6_shrink_348 rfl ?_
      refine zr_iald (v := .int (g k)) (.new hA) (vp_in_nI (by omega) (by omega)) (by rw [nI_clamp (by omega)]) dX6_shrink_350 ?_
      exact key _ (by rw [if_neg (by rw [h1]; decide)])
    · refine zr_aload dX6_shrink_339 rfl ?_
      refine zr_iload dX6_shrink_341 rfl ?_
      refine zr_iald (v := .int (bd k)) (.new hB) (vp_in_nI (by omega) (by omega)) (by rw [nI_clamp (by omega)]) dX6_shrink_343 ?_
      refine zr_goto (tgt := 351) dX6_shrink_344 (by decide) ?_
      exact key _ (by rw [if_pos h1])
set_option maxHeartbeats 4000000 in
theorem l_X6_shW {G : zG} {σ : zT} {d : Nat} {c : zCS} {tl tw l wa fa ba ly : Nat} {mod inner : Int32} {es : List Nat} {Q : zO → zT → Prop} (hd : 85 ≤ d) (hG : zOk G) (hw : zGd G σ) (hS : CSys G σ c) (hL : zL G σ tl l mod (es.map (fun j => kA c (rB j)))) (hes : ∀ j, j ∈ es → j < kN c) (hel : es.length ≤ 24) (htw : 10000 ≤ tw) (ht1 : tl ≠ tw) (ht2 : tl + 1 ≠ tw) {bd : Nat → Int32} {N : Nat} {f6 : List Value} (hly0 : sF σ ly = some (.inr (6, f6))) (hly1 : sT σ ly = 5) (hfa : sZ σ ≤ fa) (hba : sZ σ ≤ ba) (hne : ba ≠ fa) (hwa : wa < sZ σ) : ∀ (f : Nat) (b : Nat → Bool) (g : Nat → Int32) (m : Nat) (σ1 : zT), shCnt b es.length < f → zX G (ST tw) σ σ1 m → m + 60 * f ≤ N → ShS G σ1 es.length wa fa ba tw g b bd → (∀ σ2, zX G (ST tw) σ σ2 N → ShS G σ2 es.length wa fa ba tw (shLoop c es bd inner f b g).1 (shLoop c es bd inner f b g).2 bd → zR G yX6_shrink cX6_shrink 12 (Option.none : Option Jvm.ClassFile.FieldType) [] d 318 [(0, .ref ly), (1, .ref l), (2, .ref wa), (3, .int inner), (4, .ref fa), (5, .ref ba)] [] σ2 Q) → zR G yX6_shrink cX6_shrink 12 (Option.none : Option Jvm.ClassFile.FieldType) [] d 63 [(0, .ref ly), (1, .ref l), (2, .ref wa), (3, .int inner), (4, .ref fa), (5, .ref ba)] [] σ1 Q := by
  intro f
  induction f with
  | zero => intro b g m σ1 h; omega
  | succ f ih =>
    intro b g m σ1 hc hX hN hH kQ
    have hS1 := hS.keep hw hX (ST_big htw)
    have hL1 := hX.L hw hL ht1 ht2
    have hne1 : wa ≠ fa := by omega
    have hA := hH.1
    have hfz := hX.gd.1 fa _ hH.2.2.1
    refine zr_iconst (v := 0) dX6_shrink_63 (by decide) ?_
    refine zr_istore (ls2 := [(0, .ref ly), (1, .ref l), (2, .ref wa), (3, .int inner), (4, .ref fa), (5, .ref ba), (6, .int 0)]) dX6_shrink_64 (Nat.le_of_ble_eq_true rfl) rfl ?_
    refine zr_iload_n dX6_shrink_66 rfl rfl ?_
    refine zr_ineg dX6_shrink_67 ?_
    refine zr_istore (ls2 := [(0, .ref ly), (1, .ref l), (2, .ref wa), (3, .int inner), (4, .ref fa), (5, .ref ba), (6, .int 0), (7, .int (-inner))]) dX6_shrink_68 (Nat.le_of_ble_eq_true rfl) rfl ?_
    refine zr_iconst (v := 0) dX6_shrink_70 (by decide) ?_
    refine zr_istore (ls2 := [(0, .ref ly), (1, .ref l), (2, .ref wa), (3, .int inner), (4, .ref fa), (5, .ref ba), (6, .int 0), (7, .int (-inner)), (8, .int 0)]) dX6_shrink_71 (Nat.le_of_ble_eq_true rfl) rfl ?_
    refine zr_iconst (v := 0) dX6_shrink_73 (by decide) ?_
    refine zr_istore (ls2 := [(0, .ref ly), (1, .ref l), (2, .ref wa), (3, .int inner), (4, .ref fa), (5, .ref ba), (6, .int 0), (7, .int (-inner)), (8, .int 0), (9, .int 0)]) dX6_shrink_74 (Nat.le_of_ble_eq_true rfl) rfl ?_
    refine l_X6_shB hd hG hX.gd hS1 hL1 hes hel hH es 0 (-inner, 0) rfl (Nat.zero_le _) trivial (fun x => ?_)
    show zR _ _ _ _ _ _ _ _ [(0, .ref ly), (1, .ref l), (2, .ref wa), (3, .int inner), (4, .ref fa), (5, .ref ba), (6, .int 0), (7, .int (shP c es b bd g inner).1), (8, .int (shP c es b bd g inner).2), (9, .int x)] _ _ _
    refine zr_aload_n dX6_shrink_165 rfl rfl ?_
    refine zr_alenI (v := nI es.length) (.new hA) rfl dX6_shrink_166 ?_
    refine zr_newaZ (N' := es.length) 0 q1303 (nI_pos (by omega)) (nI_clamp (by omega)) (by omega) dX6_shrink_167 ?_
    refine zr_astore (ls2 := [(0, .ref ly), (1, .ref l), (2, .ref wa), (3, .int inner), (4, .ref fa), (5, .ref ba), (6, .int 0), (7, .int (shP c es b bd g inner).1), (8, .int (shP c es b bd g inner).2), (9, .ref (sZ σ1))]) dX6_shrink_169 (Nat.le_of_ble_eq_true rfl) rfl ?_
    refine zr_iconst (v := 0) dX6_shrink_171 (by decide) ?_
    refine zr_istore (ls2 := [(0, .ref ly), (1, .ref l), (2, .ref wa), (3, .int inner), (4, .ref fa), (5, .ref ba), (6, .int 0), (7, .int (shP c es b bd g inner).1), (8, .int (shP c es b bd g inner).2), (9, .ref (sZ σ1)), (10, .int 0)]) dX6_shrink_172 (Nat.le_of_ble_eq_true rfl) rfl ?_
    have hX0 := (zX.new S0 hX.gd 0 (by omega) (aZ G es.length (fun _ => 0)) es.length).le (show es.length + 4 ≤ 28 by omega)
    have k262 : ∀ (q : (Nat → Bool) × Bool) (σ2 : zT) (x10 : Int32), q = (shQ c es b bd g (shP c es b bd g inner).1 (shP c es b bd g inner).2) → zX G S0 σ1 σ2 28 → sF σ2 (sZ σ1) = some (aZ G es.length (bA q.1)) → sT σ2 (sZ σ1) = 0 → zR G yX6_shrink cX6_shrink 12 (Option.none : Option Jvm.ClassFile.FieldType) [] d 262 [(0, .ref ly), (1, .ref l), (2, .ref wa), (3, .int inner), (4, .ref fa), (5, .ref ba), (6, .int (bI q.2)), (7, .int (shP c es b bd g inner).1), (8, .int (shP c es b bd g inner).2), (9, .ref (sZ σ1)), (10, .int x10)] [] σ2 Q := by
      intro q σ2 x10 hq hX2 hN2 hT2
      have hH2 := hH.keep0 hX.gd hX2
      have hX3 := hX.trans (hX2.mono (S2 := ST tw) (fun _ h => absurd h (fun h => h)))
      have k286 : ∀ (g' : Nat → Int32) (σ3 : zT), (q.2 = true → g' = g) → (q.2 = false → g' = if (shP c es b bd g inner).2 ≤ 0 then g else cLose c es b bd (shP c es b bd g inner).1 (shP c es b bd g inner).2 g) → zX G (ST tw) σ σ3 (m + 60) → ShS G σ3 es.length wa fa ba tw g' b bd → sF σ3 (sZ σ1) = some (aZ G es.length (bA q.1)) → zR G yX6_shrink cX6_shrink 12 (Option.none : Option Jvm.ClassFile.FieldType) [] d 286 [(0, .ref ly), (1, .ref l), (2, .ref wa), (3, .int inner), (4, .ref fa), (5, .ref ba), (6, .int (bI q.2)), (7, .int (shP c es b bd g inner).1), (8, .int (shP c es b bd g inner).2), (9, .ref (sZ σ1)), (10, .int x10)] [] σ3 Q := by
        intro g' σ3 hg1 hg2 hX4 hH4 hN4
        refine zr_iconst (v := 0) dX6_shrink_286 (by decide) ?_
        refine zr_istore (ls2 := [(0, .ref ly), (1, .ref l), (2, .ref wa), (3, .int inner), (4, .ref fa), (5, .ref ba), (6, .int (bI q.2)), (7, .int (shP c es b bd g inner).1), (8, .int (shP c es b bd g inner).2), (9, .ref (sZ σ1)), (10, .int 0)]) dX6_shrink_287 (Nat.le_of_ble_eq_true rfl) rfl ?_
        refine l_X6_shD hd hG hw hS hL hes hel hfa hne1 hne (show sZ σ1 ≠ fa by omega) es 0 b σ3 rfl (Nat.zero_le _) hX4 hH4 hN4 (fun σ5 x5 hX5 hH5 => ?_)
        refine zr_goto (tgt := 58) dX6_shrink_315 (by decide) ?_
        refine zr_iload dX6_shrink_58 rfl ?_
        refine zr_ifeqB (tgt := 318) dX6_shrink_60 (by decide) (fun h5 => ?_) (fun h5 => ?_)
        · have e9 : shLoop c es bd inner (f + 1) b g = (g', (nums es 0).foldl (shD q.1) b) := by rw [hg2 h5, hq]; unfold shLoop; rw [if_neg (by rw [← hq, h5]; decide)]
          refine zr_sub (ls2 := [(0, .ref ly), (1, .ref l), (2, .ref wa), (3, .int inner), (4, .ref fa), (5, .ref ba)]) [0, 1, 2, 3, 4, 5] rfl ?_
          have k9 := kQ σ5 (hX5.le (by omega))
          rw [e9] at k9
          exact k9 hH5
        · refine zr_sub (ls2 := [(0, .ref ly), (1, .ref l), (2, .ref wa), (3, .int inner), (4, .ref fa), (5, .ref ba)]) [0, 1, 2, 3, 4, 5] rfl ?_
          have e9 : shLoop c es bd inner (f + 1) b g = shLoop c es bd inner f ((nums es 0).foldl (shD q.1) b) g := by rw [hq]; rw [shLoop]; rw [if_pos (by rw [← hq, h5])]
          rw [hg1 h5] at hH5
          refine ih _ g (m + 60) σ5 ?_ hX5 (by omega) hH5 (fun σ6 hX6 hH6 => ?_)
          · have := sh_less c es b bd g (shP c es b bd g inner).1 (shP c es b bd g inner).2 (by rw [← hq]; exact h5)
            rw [← hq] at this
            omega
          · have k9 := kQ σ6 hX6
            rw [e9] at k9
            exact k9 hH6
      refine zr_iload dX6_shrink_262 rfl ?_
      refine zr_ifneB (tgt := 286) dX6_shrink_264 (by decide) (fun h3 => ?_) (fun h3 => ?_)
      · exact k286 g σ2 (fun _ => rfl) (fun h => absurd (h3.symm.trans h) (by decide)) (hX3.le (by omega)) hH2 hN2
      · refine zr_iload dX6_shrink_267 rfl ?_
        refine zr_if_le (tgt := 286) dX6_shrink_269 (by decide) (fun h4 => ?_) (fun h4 => ?_)
        · exact k286 g σ2 (fun _ => rfl) (fun _ => by rw [if_pos h4]) (hX3.le (by omega)) hH2 hN2
        · obtain ⟨hA2, hTw, hF2, hF3, hB2, hB3⟩ := hH2
          have hS2 := hS.keep hw hX3 (ST_big htw)
          have hL2 := hX3.L hw hL ht1 ht2
          obtain ⟨_, σ3, ⟨rfl, hA3, hT3, hX4⟩, hC⟩ := c_X6_lose (ly := ly) (d := d - 1) (by omega) hG hX3.gd hS2 hL2 hes hel htw ht1 ht2 hF2 (by omega) hB2 (by omega) (lack := (shP c es b bd g inner).1) (sum := (shP c es b bd g inner).2) (fun h => h4 (by rw [h]; exact Int32.le_refl _)) hA2 hTw
          have hly := hX3.f hw hly0 (by rw [hly1]; exact fun h => by have : (5 : Nat) = tw := h; omega)
          refine zr_aload_n dX6_shrink_272 rfl rfl ?_
          refine zr_aload_n dX6_shrink_273 rfl rfl ?_
          refine zr_aload_n dX6_shrink_274 rfl rfl ?_
          refine zr_aload dX6_shrink_275 rfl ?_
          refine zr_aload dX6_shrink_277 rfl ?_
          refine zr_iload dX6_shrink_279 rfl ?_
          refine zr_iload dX6_shrink_281 rfl ?_
          refine zr_callv (rest := []) (zs_V (As := [.ref l, .ref wa, .ref fa, .ref ba, .int (shP c es b bd g inner).1, .int (shP c es b bd g inner).2]) (by omega) ok_X6_lose q1197 q1199 qs14 q83 q1200 rfl (.new hly) rfl rfl rfl (Nat.le_of_ble_eq_true rfl) dX6_shrink_283) hC ?_
          refine k286 _ σ3 (fun h => absurd (h3.symm.trans h) (by decide)) (fun _ => by rw [if_neg h4]) ((hX3.trans hX4).le (by omega)) ⟨hA3, hT3, hX4.f hX3.gd hF2 (by rw [hF3]; exact fun h => by have : (0 : Nat) = tw := h; omega), (hX4.t hX3.gd hF2).trans hF3, hX4.f hX3.gd hB2 (by rw [hB3]; exact fun h => by have : (0 : Nat) = tw := h; omega), (hX4.t hX3.gd hB2).trans hB3⟩ (hX4.f hX3.gd hN2 (by rw [hT2]; exact fun h => by have : (0 : Nat) = tw := h; omega))
    by_cases hs : (shP c es b bd g inner).2 ≤ 0
    · have eq0 : (shQ c es b bd g (shP c es b bd g inner).1 (shP c es b bd g inner).2) = (fun _ => false, false) := by unfold shQ; rw [if_pos hs]
      have hAz := (hX0.f hX.gd hA (fun h => h))
      have hT0 : sT (sNew σ1 0 (aZ G es.length (fun _ => 0)) es.length) (sZ σ1) = 0 := sT_newS _ _ _ _
      cases hes0 : es with
      | nil =>
        subst hes0
        refine zr_iload dX6_shrink_174 rfl ?_
        refine zr_aload_n dX6_shrink_176 rfl rfl ?_
        refine zr_alenI (v := nI 0) (.new hAz) rfl dX6_shrink_177 ?_
        refine zr_icmp_ge (tgt := 262) dX6_shrink_178 (by decide) (fun _ => ?_) (fun h9 => absurd (by decide) h9)
        exact k262 (fun _ => false, false) _ _ eq0.symm hX0 (sF_newS _ _ _ _) hT0
      | cons j9 r9 =>
        rw [← hes0]
        refine zr_iload dX6_shrink_174 rfl ?_
        refine zr_aload_n dX6_shrink_176 rfl rfl ?_
        refine zr_alenI (v := nI es.length) (.new hAz) rfl dX6_shrink_177 ?_
        refine zr_icmp_ge (tgt := 262) dX6_shrink_178 (by decide) (fun h9 => absurd h9 (nI_ge (a := 0) (b := es.length) (by rw [hes0]; exact Nat.zero_lt_succ _) (by omega))) (fun _ => ?_)
        refine zr_iload dX6_shrink_181 rfl ?_
        refine zr_if_le (tgt := 262) dX6_shrink_183 (by decide) (fun _ => ?_) (fun h9 => absurd (hs) h9)
        exact k262 (fun _ => false, false) _ _ eq0.symm hX0 (sF_newS _ _ _ _) hT0
    · have eq0 : (shQ c es b bd g (shP c es b bd g inner).1 (shP c es b bd g inner).2) = (nums es 0).foldl (shC c b bd g (shP c es b bd g inner).1 (shP c es b bd g inner).2) (fun _ => false, false) := by unfold shQ; rw [if_neg hs]
      refine l_X6_shC hd hG hX.gd hS1 hL1 hes hel hH (na := sZ σ1) hs (fun h => hs (by rw [h]; exact Int32.le_refl _)) (Nat.le_refl _) es 0 (fun _ => false, false) _ rfl (Nat.zero_le _) hX0 (sF_newS _ _ _ _) (sT_newS _ _ _ _) (fun σ2 x2 hX2 hN2 hNT2 => ?_)
      exact k262 _ σ2 x2 eq0.symm hX2 hN2 hNT2
set_option maxHeartbeats 4000000 in
theorem c_X6_shrink {G : zG} {σ : zT} {d : Nat} {c : zCS} {tl tw l wa ly : Nat} {mod inner : Int32} {es : List Nat} (hd : 86 ≤ d) (hG : zOk G) (hw : zGd G σ) (hS : CSys G σ c) (hL : zL G σ tl l mod (es.map (fun j => kA c (rB j)))) (hes : ∀ j, j ∈ es → j < kN c) (hel : es.length ≤ 24) (htw : 10000 ≤ tw) (ht1 : tl ≠ tw) (ht2 : tl + 1 ≠ tw) {g : Nat → Int32} {f6 : List Value} (hly0 : sF σ ly = some (.inr (6, f6))) (hly1 : sT σ ly = 5) (hA : sF σ wa = some (aI G es.length g)) (hT : sT σ wa = tw) : zCall G I_X6_shrink d [.ref ly, .ref l, .ref wa, .int inner] σ ((fun o σ' => o = .inl none ∧ sF σ' wa = some (aI G es.length (cShrink c es inner g)) ∧ sT σ' wa = tw ∧ zX G (ST tw) σ σ' (1600 + (es.map (fun j => KW 24 c j)).sum))) := by
  refine zCall_of (ls := [(0, .ref ly), (1, .ref l), (2, .ref wa), (3, .int inner)]) (by decide) (Nat.le_of_ble_eq_true rfl) rfl ?_
  refine zr_aload_n dX6_shrink_0 rfl rfl ?_
  refine zr_alenI (v := nI es.length) (.new hA) rfl dX6_shrink_1 ?_
  refine zr_newaZ (N' := es.length) 0 q1303 (nI_pos (by omega)) (nI_clamp (by omega)) (by omega) dX6_shrink_2 ?_
  have hwa := hw.1 wa _ hA
  have hXa := zX.new S0 hw 0 (by omega) (aZ G es.length (fun _ => 0)) es.length
  have hAa := hXa.f hw hA (fun h => h)
  have hFa := sF_newS σ 0 (aZ G es.length (fun _ => 0)) es.length
  have hTa := sT_newS σ 0 (aZ G es.length (fun _ => 0)) es.length
  have hZa := sZ_new σ 0 (aZ G es.length (fun _ => 0)) es.length
  generalize hσa : sNew σ 0 (aZ G es.length (fun _ => 0)) es.length = σa at hXa hAa hFa hTa hZa ⊢
  refine zr_astore (ls2 := [(0, .ref ly), (1, .ref l), (2, .ref wa), (3, .int inner), (4, .ref (sZ σ))]) dX6_shrink_4 (Nat.le_of_ble_eq_true rfl) rfl ?_
  refine zr_aload_n dX6_shrink_6 rfl rfl ?_
  refine zr_alenI (v := nI es.length) (.new hAa) rfl dX6_shrink_7 ?_
  refine zr_newaI (N' := es.length) 0 q1302 (nI_pos (by omega)) (nI_clamp (by omega)) (by omega) dX6_shrink_8 ?_
  have hXb := zX.new S0 hXa.gd 0 (by omega) (aI G es.length (fun _ => 0)) es.length
  have hFb := hXb.f hXa.gd hFa (fun h => h)
  have hTb := (hXb.t hXa.gd hFa).trans hTa
  have hBb := sF_newS σa 0 (aI G es.length (fun _ => 0)) es.length
  have hT2 := sT_newS σa 0 (aI G es.length (fun _ => 0)) es.length
  generalize hσb : sNew σa 0 (aI G es.length (fun _ => 0)) es.length = σb at hXb hFb hTb hBb hT2 ⊢
  refine zr_astore (ls2 := [(0, .ref ly), (1, .ref l), (2, .ref wa), (3, .int inner), (4, .ref (sZ σ)), (5, .ref (sZ σa))]) dX6_shrink_10 (Nat.le_of_ble_eq_true rfl) rfl ?_
  refine zr_iconst (v := 0) dX6_shrink_12 (by decide) ?_
  refine zr_istore (ls2 := [(0, .ref ly), (1, .ref l), (2, .ref wa), (3, .int inner), (4, .ref (sZ σ)), (5, .ref (sZ σa)), (6, .int 0)]) dX6_shrink_13 (Nat.le_of_ble_eq_true rfl) rfl ?_
  refine l_X6_shA (tw := tw) (N := es.length + 4 + (es.map (fun j => KW 24 c j)).sum) (by omega) hG hXa.gd (hS.keep0 hw hXa) (hXa.L hw hL (fun h => h) (fun h => h)) hes hel hAa (by omega) (Nat.le_refl _) es 0 _ _ σb rfl (Nat.zero_le _) hXb (Nat.le_refl _) hBb hT2 (fun σ1 x hX1 hB1 hBT1 => ?_)
  have hA1 := hX1.f hXa.gd hAa (fun h => h)
  have hF1 := hX1.f hXa.gd hFa (fun h => h)
  have hFT1 := (hX1.t hXa.gd hFa).trans hTa
  have hAT1 := ((hXa.trans hX1).t hw hA).trans hT
  have hX01 := (hXa.trans hX1).mono (S2 := ST tw) (fun _ h => absurd h (fun h => h))
  refine zr_iconst (v := 1) dX6_shrink_55 (by decide) ?_
  refine zr_istore (ls2 := [(0, .ref ly), (1, .ref l), (2, .ref wa), (3, .int inner), (4, .ref (sZ σ)), (5, .ref (sZ σa)), (6, .int 1)]) dX6_shrink_56 (Nat.le_of_ble_eq_true rfl) rfl ?_
  refine zr_iload dX6_shrink_58 rfl ?_
  refine zr_if_eq (tgt := 318) dX6_shrink_60 (by decide) (fun h9 => absurd h9 (by decide)) (fun _ => ?_)
  refine zr_sub (ls2 := [(0, .ref ly), (1, .ref l), (2, .ref wa), (3, .int inner), (4, .ref (sZ σ)), (5, .ref (sZ σa))]) [0, 1, 2, 3, 4, 5] rfl ?_
  refine l_X6_shW (N := 1600 + (es.map (fun j => KW 24 c j)).sum) (by omega) hG hw hS hL hes hel htw ht1 ht2 hly0 hly1 (Nat.le_refl _) (by omega) (by omega) hwa (es.length + 1) (fun _ => false) g _ σ1 (Nat.lt_succ_of_le (shCnt_le _ _)) hX01 (by omega) ⟨hA1, hAT1, hF1, hFT1, hB1, hBT1⟩ (fun σ2 hX2 hH2 => ?_)
  refine zr_iconst (v := 0) dX6_shrink_318 (by decide) ?_
  refine zr_istore (ls2 := [(0, .ref ly), (1, .ref l), (2, .ref wa), (3, .int inner), (4, .ref (sZ σ)), (5, .ref (sZ σa)), (7, .int 0)]) dX6_shrink_319 (Nat.le_of_ble_eq_true rfl) rfl ?_
  refine l_X6_shE (d := d) (by omega) hG hw hS hL hes hel (show wa ≠ sZ σ by omega) (show wa ≠ sZ σa by omega) es 0 _ σ2 rfl (Nat.zero_le _) hX2 hH2 (fun σ3 x3 hX3 hH3 => ?_)
  exact zr_vret rfl dX6_shrink_358 (⟨rfl, hH3.1, hH3.2.1, hX3⟩)
