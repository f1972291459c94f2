/-! ===== the reference: shrunk (rows printed by tools/p107.py) ===== -/
def mBd (c : zCS) (g : Nat → Int32) (f : Nat → Int32) (q : Nat × Nat) : Nat → Int32 := upd f q.1 (imin (cW c q.2 true) (g q.1))
abbrev MS1 : Type := (Nat → Int32) × Int32 × Int32
/-- widths, what is lacking, weights -/
def mS1 (c : zCS) (b : Nat → Bool) (bd g : Nat → Int32) (p : MS1) (q : Nat × Nat) : MS1 :=
  (upd p.1 q.1 (if b q.1 = true then bd q.1 else g q.1), p.2.1 + ((if b q.1 = true then bd q.1 else g q.1) + kSides c q.2), p.2.2 + (if b q.1 = true then 0 else kF c q.2 14 * g q.1))
abbrev MS2 : Type := (Nat → Int32) × (Nat → Bool) × Bool × Int32
def mLoss (c : zCS) (g : Nat → Int32) (lack wt : Int32) (q : Nat × Nat) : Int32 := lack * (kF c q.2 14 * g q.1) / wt
/-- widths, frozen, more, left -/
def mS2 (c : zCS) (bd g : Nat → Int32) (lack wt : Int32) (p : MS2) (q : Nat × Nat) : MS2 :=
  if p.2.1 q.1 = true then p
  else if bd q.1 ≤ p.1 q.1 - mLoss c g lack wt q then (upd p.1 q.1 (p.1 q.1 - mLoss c g lack wt q), p.2.1, p.2.2.1, p.2.2.2 - mLoss c g lack wt q)
  else (upd p.1 q.1 (p.1 q.1 - mLoss c g lack wt q), ub p.2.1 q.1 true, true, p.2.2.2 - mLoss c g lack wt q)
def mS3 (c : zCS) (b : Nat → Bool) (bd g : Nat → Int32) (p : (Nat → Int32) × Int32) (q : Nat × Nat) : (Nat → Int32) × Int32 :=
  if p.2 ≤ 0 then p else if b q.1 = true ∨ kF c q.2 14 * g q.1 = 0 ∨ p.1 q.1 ≤ bd q.1 then p else (upd p.1 q.1 (p.1 q.1 - 1), p.2 + (-1))
def mP1 (c : zCS) (es : List Nat) (inner : Int32) (b : Nat → Bool) (bd g : Nat → Int32) : MS1 := (nums es 0).foldl (mS1 c b bd g) (fun _ => 0, -inner, 0)
def mP2 (c : zCS) (es : List Nat) (inner : Int32) (b : Nat → Bool) (bd g : Nat → Int32) : MS2 :=
  (nums es 0).foldl (mS2 c bd g (mP1 c es inner b bd g).2.1 (mP1 c es inner b bd g).2.2) ((mP1 c es inner b bd g).1, b, false, (mP1 c es inner b bd g).2.1)
def mShGo (c : zCS) (es : List Nat) (inner : Int32) (bd g : Nat → Int32) : Nat → (Nat → Bool) → (Nat → Int32)
  | 0, _ => fun _ => 0
  | f + 1, b =>
    if (mP1 c es inner b bd g).2.2 = 0 then (mP1 c es inner b bd g).1
    else if (mP2 c es inner b bd g).2.2.1 = true then mShGo c es inner bd g f (mP2 c es inner b bd g).2.1
    else ((nums es 0).foldl (mS3 c b bd g) ((mP2 c es inner b bd g).1, (mP2 c es inner b bd g).2.2.2)).1
def mBds (c : zCS) (es : List Nat) (g : Nat → Int32) : Nat → Int32 := (nums es 0).foldl (mBd c g) (fun _ => 0)
def mShrunk (c : zCS) (es : List Nat) (inner : Int32) (g : Nat → Int32) : Nat → Int32 := mShGo c es inner (mBds c es g) g (es.length + 1) (fun _ => false)
theorem mS3_stop (c : zCS) (b : Nat → Bool) (bd g : Nat → Int32) : ∀ (qs : List (Nat × Nat)) (p : (Nat → Int32) × Int32), p.2 ≤ 0 → qs.foldl (mS3 c b bd g) p = p := by
  intro qs
  induction qs with
  | nil => intro p _; rfl
  | cons q r ih => intro p h; rw [List.foldl_cons, show mS3 c b bd g p q = p from if_pos h]; exact ih p h
/-- frozen stays frozen -/
theorem mS2_mono (c : zCS) (bd g : Nat → Int32) (lack wt : Int32) : ∀ (qs : List (Nat × Nat)) (p : MS2) (i : Nat), p.2.1 i = true → (qs.foldl (mS2 c bd g lack wt) p).2.1 i = true := by
  intro qs
  induction qs with
  | nil => intro p i h; exact h
  | cons q r ih =>
    intro p i h
    rw [List.foldl_cons]
    apply ih
    unfold mS2
    split
    · exact h
    · split
      · exact h
      · show ub p.2.1 q.1 true i = true
        unfold ub
        split
        · rfl
        · exact h
/-- with none more, the frozen are as they were -/
theorem mS2_same (c : zCS) (bd g : Nat → Int32) (lack wt : Int32) : ∀ (qs : List (Nat × Nat)) (p : MS2), (p.2.2.1 = true → (qs.foldl (mS2 c bd g lack wt) p).2.2.1 = true) ∧ ((qs.foldl (mS2 c bd g lack wt) p).2.2.1 = false → (qs.foldl (mS2 c bd g lack wt) p).2.1 = p.2.1) := by
  intro qs
  induction qs with
  | nil => intro p; exact ⟨fun h => h, fun _ => rfl⟩
  | cons q r ih =>
    intro p
    rw [List.foldl_cons]
    have h9 := ih (mS2 c bd g lack wt p q)
    by_cases h1 : p.2.1 q.1 = true
    · rw [show mS2 c bd g lack wt p q = p from if_pos h1] at h9 ⊢; exact h9
    · by_cases h2 : bd q.1 ≤ p.1 q.1 - mLoss c g lack wt q
      · rw [show mS2 c bd g lack wt p q = (upd p.1 q.1 (p.1 q.1 - mLoss c g lack wt q), p.2.1, p.2.2.1, p.2.2.2 - mLoss c g lack wt q) from (if_neg h1).trans (if_pos h2)] at h9 ⊢; exact h9
      · rw [show mS2 c bd g lack wt p q = (upd p.1 q.1 (p.1 q.1 - mLoss c g lack wt q), ub p.2.1 q.1 true, true, p.2.2.2 - mLoss c g lack wt q) from (if_neg h1).trans (if_neg h2)] at h9 ⊢
        exact ⟨fun _ => h9.1 rfl, fun h => by rw [h9.1 rfl] at h; cases h⟩
/-- more: one that was not frozen is frozen now -/
theorem mS2_more (c : zCS) (bd g : Nat → Int32) (lack wt : Int32) : ∀ (es : List Nat) (k : Nat) (p : MS2), p.2.2.1 = false → ((nums es k).foldl (mS2 c bd g lack wt) p).2.2.1 = true → ∃ i, k ≤ i ∧ i < k + es.length ∧ p.2.1 i = false ∧ ((nums es k).foldl (mS2 c bd g lack wt) p).2.1 i = true := by
  intro es
  induction es with
  | nil => intro k p h1 h2; rw [show nums ([] : List Nat) k = [] from rfl, List.foldl_nil, h1] at h2; cases h2
  | cons j es ih =>
    intro k p h1 h2
    have e : nums (j :: es) k = (k, j) :: nums es (k + 1) := rfl
    rw [e, List.foldl_cons] at h2 ⊢
    by_cases hf : p.2.1 k = true
    · rw [show mS2 c bd g lack wt p (k, j) = p from if_pos hf] at h2 ⊢
      obtain ⟨i, a1, a2, a3, a4⟩ := ih (k + 1) p h1 h2
      exact ⟨i, by omega, by rw [List.length_cons]; omega, a3, a4⟩
    · by_cases h3 : bd k ≤ p.1 k - mLoss c g lack wt (k, j)
      · rw [show mS2 c bd g lack wt p (k, j) = (upd p.1 k (p.1 k - mLoss c g lack wt (k, j)), p.2.1, p.2.2.1, p.2.2.2 - mLoss c g lack wt (k, j)) from (if_neg hf).trans (if_pos h3)] at h2 ⊢
        obtain ⟨i, a1, a2, a3, a4⟩ := ih (k + 1) (upd p.1 k (p.1 k - mLoss c g lack wt (k, j)), p.2.1, p.2.2.1, p.2.2.2 - mLoss c g lack wt (k, j)) h1 h2
        exact ⟨i, by omega, by rw [List.length_cons]; omega, a3, a4⟩
      · rw [show mS2 c bd g lack wt p (k, j) = (upd p.1 k (p.1 k - mLoss c g lack wt (k, j)), ub p.2.1 k true, true, p.2.2.2 - mLoss c g lack wt (k, j)) from (if_neg hf).trans (if_neg h3)] at h2 ⊢
        refine ⟨k, Nat.le_refl _, by rw [List.length_cons]; omega, by simpa using hf, mS2_mono c bd g lack wt _ _ k ?_⟩
        show ub p.2.1 k true k = true
        unfold ub
        rw [if_pos rfl]
set_option maxHeartbeats 4000000 in
theorem l_X4_shr0 {G : zG} {σ : zT} {d : Nat} {c : zCS} {th ct : Int32} {tl l wa ba fa : Nat} {mod inner : Int32} {es : List Nat} {g : Nat → Int32} {Q : zO → zT → Prop} (hd : 70 ≤ d) (hG : zOk G) (hw : zGd G σ) (hS : MSys G σ c th ct) (hL : zL G σ tl l mod (es.map (fun j => kA c (rB j)))) (hes : ∀ j, j ∈ es → j < kN c) (hel : es.length ≤ 24) (hA0 : zAt G σ wa (aI G es.length g)) {N : Nat} {e0 : va_E} (hne : fa ≠ ba) (hba : sZ σ ≤ ba) : ∀ (ys : List Nat) (k n : Nat) (p : Nat → Int32) (σ1 : zT), es.drop k = ys → k ≤ es.length → zX G S0 σ σ1 n → n + (ys.map (fun j => KW 24 c j)).sum ≤ N → sF σ1 ba = some (aI G es.length p) → sF σ1 fa = some e0 → (∀ σ2, zX G S0 σ σ2 N → sF σ2 ba = some (aI G es.length ((nums ys k).foldl (mBd c g) p)) → sF σ2 fa = some e0 → zR G yX4_shrunk cX4_shrunk 13 (Option.some (Jvm.ClassFile.FieldType.array Jvm.ClassFile.FieldType.int)) [] d 55 [(0, .ref l), (1, .ref wa), (2, .int inner), (3, .int (nI es.length)), (4, .ref ba), (5, .ref fa)] [] σ2 Q) → zR G yX4_shrunk cX4_shrunk 13 (Option.some (Jvm.ClassFile.FieldType.array Jvm.ClassFile.FieldType.int)) [] d 16 [(0, .ref l), (1, .ref wa), (2, .int inner), (3, .int (nI es.length)), (4, .ref ba), (5, .ref fa), (6, .int (nI k))] [] σ1 Q := by
  intro ys
  induction ys with
  | nil =>
    intro k n p σ1 hy hk hX hN hA hFa kQ
    have hkl := drop_nil hy hk
    refine zr_iload dX4_shrunk_16 rfl ?_
    refine zr_iload_n dX4_shrunk_18 rfl rfl ?_
    refine zr_icmp_ge (tgt := 55) dX4_shrunk_19 (by decide) (fun _ => ?_) (fun h9 => absurd (by rw [hkl]; exact Int32.le_refl _) h9)
    refine zr_sub (ls2 := [(0, .ref l), (1, .ref wa), (2, .int inner), (3, .int (nI es.length)), (4, .ref ba), (5, .ref fa)]) [0, 1, 2, 3, 4, 5] rfl ?_
    exact kQ σ1 (hX.le (by simpa using hN)) hA hFa
  | cons j ys ih =>
    intro k n p σ1 hy hk hX hN hA hFa kQ
    obtain ⟨hx, hy2, hkl, hm⟩ := drop_cons hy
    have hj := hes j hm
    have hS1 := hS.keep0 hw hX
    have hL1 := hX.L hw hL (fun h => h) (fun h => h)
    obtain ⟨fl, hfl⟩ := hL1.A
    rw [List.map_cons, List.sum_cons] at hN
    obtain ⟨_, σ2, ⟨rfl, hX2⟩, hC2⟩ := c_mW (d := d - 1) true (by omega) hG hX.gd hS1 hj
    have hX12 := hX.trans hX2
    have hA2 := hX2.f hX.gd hA (fun h => h)
    have hA02 := hX12.at hw hA0 (fun h => h)
    have hfold : ∀ p, List.foldl (mBd c g) p (nums (j :: ys) k) = (nums ys (k + 1)).foldl (mBd c g) (mBd c g p (k, j)) := fun _ => rfl
    simp only [hfold] at kQ
    refine zr_iload dX4_shrunk_16 rfl ?_
    refine zr_iload_n dX4_shrunk_18 rfl rfl ?_
    refine zr_icmp_ge (tgt := 55) dX4_shrunk_19 (by decide) (fun h9 => absurd h9 (Int32.not_le.mpr ((nI_ltI (by omega) (by omega)).mpr hkl))) (fun _ => ?_)
    refine zr_aload dX4_shrunk_22 rfl ?_
    refine zr_iload dX4_shrunk_24 rfl ?_
    refine zr_aload_n dX4_shrunk_26 rfl rfl ?_
    refine zr_iload dX4_shrunk_27 rfl ?_
    refine zr_call51 (rest := [.int (nI k), .ref ba]) (zs_F (As := [.int (nI k)]) (by omega) okF_J2_get (by decide +kernel) q2390 q1106 q959 q56 q960 hfl rfl rfl rfl (Nat.le_of_ble_eq_true rfl) dX4_shrunk_29) (c_J2_get (by omega) hG hL1 (map_at (fun j => kA c (rB j)) hx)) ?_
    refine zr_castS (hS1.bx hj) rfl q2084 dX4_shrunk_34 ?_
    refine zr_iconst (v := 1) dX4_shrunk_37 (by decide) ?_
    show zR G yX4_shrunk cX4_shrunk 13 (Option.some (Jvm.ClassFile.FieldType.array Jvm.ClassFile.FieldType.int)) [] d 38 [(0, .ref l), (1, .ref wa), (2, .int inner), (3, .int (nI es.length)), (4, .ref ba), (5, .ref fa), (6, .int (nI k))] [.int (bI true), .ref (kA c (rB j)), .int (nI k), .ref ba] σ1 _
    refine zr_call1 (rest := [.int (nI k), .ref ba]) (zs_S (As := [.ref (kA c (rB j)), .int (bI true)]) (by omega) ok_X4_bound q2312 q2313 q77 q2314 rfl rfl (Nat.le_of_ble_eq_true rfl) dX4_shrunk_38) hC2 ?_
    refine zr_aload_n dX4_shrunk_41 rfl rfl ?_
    refine zr_iload dX4_shrunk_42 rfl ?_
    refine zr_iald (v := .int (g k)) hA02 (vp_in_nI (by omega) (by omega)) (by rw [nI_clamp (by omega)]) dX4_shrunk_44 ?_
    refine zr_min (by omega) q2376 q431 q60 q432 (Nat.le_of_ble_eq_true rfl) dX4_shrunk_45 ?_
    refine zr_iast (f2 := mBd c g p (k, j)) hA2 (vp_in_nI (by omega) (by omega)) (by rw [nI_clamp (by omega)]; rfl) dX4_shrunk_48 ?_
    refine zr_iinc (v := (nI k + 1)) (ls2 := [(0, .ref l), (1, .ref wa), (2, .int inner), (3, .int (nI es.length)), (4, .ref ba), (5, .ref fa), (6, .int (nI k + 1))]) dX4_shrunk_49 rfl rfl (Nat.le_of_ble_eq_true rfl) rfl ?_
    rw [show nI k + 1 = nI (k + 1) from nI_1 k]
    refine zr_goto (tgt := 16) dX4_shrunk_52 (by decide) ?_
    refine zr_sub (ls2 := [(0, .ref l), (1, .ref wa), (2, .int inner), (3, .int (nI es.length)), (4, .ref ba), (5, .ref fa), (6, .int (nI (k + 1)))]) [0, 1, 2, 3, 4, 5, 6] rfl ?_
    exact ih (k + 1) _ _ _ hy2 (by omega) (hX12.upNA hA2 hba) (by omega) (sF_upS _ _ _) ((sF_upN _ _ _ hne).trans (hX2.f hX.gd hFa (fun h => h))) kQ
/-- bounds, frozen, widths -/
abbrev ShM (G : zG) (σ : zT) (n ba fa wb : Nat) (bd : Nat → Int32) (b : Nat → Bool) (ws : Nat → Int32) : Prop := sF σ ba = some (aI G n bd) ∧ sF σ fa = some (aZ G n (bA b)) ∧ sF σ wb = some (aI G n ws) ∧ sT σ wb = 0
theorem ShM.upW {G : zG} {σ : zT} {n ba fa wb : Nat} {bd ws ws2 : Nat → Int32} {b : Nat → Bool} (h : ShM G σ n ba fa wb bd b ws) (hne : ba ≠ wb ∧ fa ≠ ba ∧ fa ≠ wb) : ShM G (sUp σ wb (aI G n ws2)) n ba fa wb bd b ws2 :=
  ⟨(sF_upN _ _ _ hne.1).trans h.1, (sF_upN _ _ _ hne.2.2).trans h.2.1, sF_upS _ _ _, h.2.2.2⟩
theorem ShM.upB {G : zG} {σ : zT} {n ba fa wb : Nat} {bd ws : Nat → Int32} {b b2 : Nat → Bool} (h : ShM G σ n ba fa wb bd b ws) (hne : ba ≠ wb ∧ fa ≠ ba ∧ fa ≠ wb) : ShM G (sUp σ fa (aZ G n (bA b2))) n ba fa wb bd b2 ws :=
  ⟨(sF_upN _ _ _ hne.2.1.symm).trans h.1, sF_upS _ _ _, (sF_upN _ _ _ hne.2.2.symm).trans h.2.2.1, h.2.2.2⟩
set_option maxHeartbeats 4000000 in
theorem l_X4_shr1 {G : zG} {σ : zT} {d : Nat} {c : zCS} {th ct : Int32} {tl l wa ba fa : Nat} {mod inner : Int32} {es : List Nat} {g : Nat → Int32} {Q : zO → zT → Prop} (hd : 70 ≤ d) (hG : zOk G) (hw : zGd G σ) (hS : MSys G σ c th ct) (hL : zL G σ tl l mod (es.map (fun j => kA c (rB j)))) (hes : ∀ j, j ∈ es → j < kN c) (hel : es.length ≤ 24) (hA0 : zAt G σ wa (aI G es.length g)) {wb n : Nat} {bd : Nat → Int32} {b : Nat → Bool} (hne : ba ≠ wb ∧ fa ≠ ba ∧ fa ≠ wb) (hfa : sZ σ ≤ fa) (hwb : sZ σ ≤ wb) : ∀ (ys : List Nat) (k : Nat) (p : MS1) (σ1 : zT), es.drop k = ys → k ≤ es.length → zX G S0 σ σ1 n → ShM G σ1 es.length ba fa wb bd b p.1 → (∀ σ2 x, zX G S0 σ σ2 n → ShM G σ2 es.length ba fa wb bd b ((nums ys k).foldl (mS1 c b bd g) p).1 → zR G yX4_shrunk cX4_shrunk 13 (Option.some (Jvm.ClassFile.FieldType.array Jvm.ClassFile.FieldType.int)) [] d 168 [(0, .ref l), (1, .ref wa), (2, .int inner), (3, .int (nI es.length)), (4, .ref ba), (5, .ref fa), (6, .int ((nums ys k).foldl (mS1 c b bd g) p).2.1), (7, .int ((nums ys k).foldl (mS1 c b bd g) p).2.2), (8, .ref wb), (9, .int x)] [] σ2 Q) → zR G yX4_shrunk cX4_shrunk 13 (Option.some (Jvm.ClassFile.FieldType.array Jvm.ClassFile.FieldType.int)) [] d 70 [(0, .ref l), (1, .ref wa), (2, .int inner), (3, .int (nI es.length)), (4, .ref ba), (5, .ref fa), (6, .int p.2.1), (7, .int p.2.2), (8, .ref wb), (9, .int (nI k))] [] σ1 Q := by
  intro ys
  induction ys with
  | nil =>
    intro k p σ1 hy hk hX hH kQ
    have hA1 := hX.at hw hA0 (fun h => h)
    have hkl := drop_nil hy hk
    refine zr_iload dX4_shrunk_70 rfl ?_
    refine zr_iload_n dX4_shrunk_72 rfl rfl ?_
    refine zr_icmp_ge (tgt := 168) dX4_shrunk_73 (by decide) (fun _ => ?_) (fun h9 => absurd (by rw [hkl]; exact Int32.le_refl _) h9)
    exact kQ σ1 _ hX hH
  | cons j ys ih =>
    intro k p σ1 hy hk hX hH kQ
    have hA1 := hX.at hw hA0 (fun h => h)
    obtain ⟨hx, hy2, hkl, hm⟩ := drop_cons hy
    have hj := hes j hm
    have hS1 := hS.keep0 hw hX
    have hL1 := hX.L hw hL (fun h => h) (fun h => h)
    obtain ⟨fl, hfl⟩ := hL1.A
    have hfold : ∀ p, List.foldl (mS1 c b bd g) p (nums (j :: ys) k) = (nums ys (k + 1)).foldl (mS1 c b bd g) (mS1 c b bd g p (k, j)) := fun _ => rfl
    simp only [hfold] at kQ
    refine zr_iload dX4_shrunk_70 rfl ?_
    refine zr_iload_n dX4_shrunk_72 rfl rfl ?_
    refine zr_icmp_ge (tgt := 168) dX4_shrunk_73 (by decide) (fun h9 => absurd h9 (Int32.not_le.mpr ((nI_ltI (by omega) (by omega)).mpr hkl))) (fun _ => ?_)
    refine zr_aload dX4_shrunk_76 rfl ?_
    refine zr_iload dX4_shrunk_78 rfl ?_
    refine zr_aload dX4_shrunk_80 rfl ?_
    refine zr_iload dX4_shrunk_82 rfl ?_
    refine zr_zald (v := .int (bI (b k))) (.new hH.2.1) (vp_in_nI (by omega) (by omega)) (by rw [nI_clamp (by omega)]; rfl) dX4_shrunk_84 ?_
    have key100 : ∀ z : Int32, z = (if b k = true then bd k else g k) → zR G yX4_shrunk cX4_shrunk 13 (Option.some (Jvm.ClassFile.FieldType.array Jvm.ClassFile.FieldType.int)) [] d 100 [(0, .ref l), (1, .ref wa), (2, .int inner), (3, .int (nI es.length)), (4, .ref ba), (5, .ref fa), (6, .int p.2.1), (7, .int p.2.2), (8, .ref wb), (9, .int (nI k))] [.int z, .int (nI k), .ref wb] σ1 Q := by
      intro z hz
      subst hz
      refine zr_iast (f2 := (mS1 c b bd g p (k, j)).1) hH.2.2.1 (vp_in_nI (by omega) (by omega)) (by rw [nI_clamp (by omega)]; rfl) dX4_shrunk_100 ?_
      have hH2 : ShM G (sUp σ1 wb (aI G es.length (mS1 c b bd g p (k, j)).1)) es.length ba fa wb bd b (mS1 c b bd g p (k, j)).1 := hH.upW hne
      have hX2 : zX G S0 σ (sUp σ1 wb (aI G es.length (mS1 c b bd g p (k, j)).1)) n := hX.upNA hH.2.2.1 hwb
      generalize hσ2 : sUp σ1 wb (aI G es.length (mS1 c b bd g p (k, j)).1) = σ2 at hX2 hH2 ⊢
      have hS2 := hS.keep0 hw hX2
      have hL2 := hX2.L hw hL (fun h => h) (fun h => h)
      have hA2 := hX2.at hw hA0 (fun h => h)
      obtain ⟨fl2, hfl2⟩ := hL2.A
      have hwk : (mS1 c b bd g p (k, j)).1 k = (if b k = true then bd k else g k) := by unfold mS1; simp [upd]
      refine zr_iload dX4_shrunk_101 rfl ?_
      refine zr_aload dX4_shrunk_103 rfl ?_
      refine zr_iload dX4_shrunk_105 rfl ?_
      refine zr_iald (v := .int ((mS1 c b bd g p (k, j)).1 k)) (.new hH2.2.2.1) (vp_in_nI (by omega) (by omega)) (by rw [nI_clamp (by omega)]) dX4_shrunk_107 ?_
      refine zr_aload_n dX4_shrunk_108 rfl rfl ?_
      refine zr_iload dX4_shrunk_109 rfl ?_
      rw [hwk]
      refine zr_call51 (rest := [.int ((if b k = true then bd k else g k)), .int p.2.1]) (zs_F (As := [.int (nI k)]) (by omega) okF_J2_get (by decide +kernel) q2390 q1106 q959 q56 q960 hfl2 rfl rfl rfl (Nat.le_of_ble_eq_true rfl) dX4_shrunk_111) (c_J2_get (by omega) hG hL2 (map_at (fun j => kA c (rB j)) hx)) ?_
      refine zr_castS (hS2.bx hj) rfl q2084 dX4_shrunk_116 ?_
      refine zr_call1 (rest := [.int ((if b k = true then bd k else g k)), .int p.2.1]) (zs_V (As := []) (by omega) ok_X5_sides q2337 q2338 q2339 q78 q2340 rfl (hS2.bx hj) rfl rfl rfl (Nat.le_of_ble_eq_true rfl) dX4_shrunk_119) (c_X5_sides hS2 hj) ?_
      refine zr_iadd dX4_shrunk_122 ?_
      refine zr_iadd dX4_shrunk_123 ?_
      refine zr_istore (ls2 := [(0, .ref l), (1, .ref wa), (2, .int inner), (3, .int (nI es.length)), (4, .ref ba), (5, .ref fa), (6, .int (p.2.1 + (((if b k = true then bd k else g k)) + (kSides c j)))), (7, .int p.2.2), (8, .ref wb), (9, .int (nI k))]) dX4_shrunk_124 (Nat.le_of_ble_eq_true rfl) rfl ?_
      refine zr_iload dX4_shrunk_126 rfl ?_
      refine zr_aload dX4_shrunk_128 rfl ?_
      refine zr_iload dX4_shrunk_130 rfl ?_
      refine zr_zald (v := .int (bI (b k))) (.new hH2.2.1) (vp_in_nI (by omega) (by omega)) (by rw [nI_clamp (by omega)]; rfl) dX4_shrunk_132 ?_
      have key159 : ∀ z : Int32, z = (if b k = true then (0 : Int32) else kF c j 14 * g k) → zR G yX4_shrunk cX4_shrunk 13 (Option.some (Jvm.ClassFile.FieldType.array Jvm.ClassFile.FieldType.int)) [] d 159 [(0, .ref l), (1, .ref wa), (2, .int inner), (3, .int (nI es.length)), (4, .ref ba), (5, .ref fa), (6, .int (p.2.1 + (((if b k = true then bd k else g k)) + (kSides c j)))), (7, .int p.2.2), (8, .ref wb), (9, .int (nI k))] [.int z, .int p.2.2] σ2 Q := by
        intro z hz
        subst hz
        refine zr_iadd dX4_shrunk_159 ?_
        refine zr_istore (ls2 := [(0, .ref l), (1, .ref wa), (2, .int inner), (3, .int (nI es.length)), (4, .ref ba), (5, .ref fa), (6, .int (p.2.1 + (((if b k = true then bd k else g k)) + (kSides c j)))), (7, .int (p.2.2 + (if b k = true then (0 : Int32) else kF c j 14 * g k))), (8, .ref wb), (9, .int (nI k))]) dX4_shrunk_160 (Nat.le_of_ble_eq_true rfl) rfl ?_
        refine zr_iinc (v := (nI k + 1)) (ls2 := [(0, .ref l), (1, .ref wa), (2, .int inner), (3, .int (nI es.length)), (4, .ref ba), (5, .ref fa), (6, .int (p.2.1 + (((if b k = true then bd k else g k)) + (kSides c j)))), (7, .int (p.2.2 + (if b k = true then (0 : Int32) else kF c j 14 * g k))), (8, .ref wb), (9, .int (nI k + 1))]) dX4_shrunk_162 rfl rfl (Nat.le_of_ble_eq_true rfl) rfl ?_
        rw [show nI k + 1 = nI (k + 1) from nI_1 k]
        refine zr_goto (tgt := 70) dX4_shrunk_165 (by decide) ?_
        refine zr_sub (ls2 := [(0, .ref l), (1, .ref wa), (2, .int inner), (3, .int (nI es.length)), (4, .ref ba), (5, .ref fa), (6, .int (p.2.1 + (((if b k = true then bd k else g k)) + (kSides c j)))), (7, .int (p.2.2 + (if b k = true then (0 : Int32) else kF c j 14 * g k))), (8, .ref wb), (9, .int (nI (k + 1)))]) [0, 1, 2, 3, 4, 5, 6, 7, 8, 9] rfl ?_
        exact ih (k + 1) (mS1 c b bd g p (k, j)) σ2 hy2 (by omega) hX2 hH2 kQ
      refine zr_ifeqB (tgt := 140) dX4_shrunk_133 (by decide) (fun h2 => ?_) (fun h2 => ?_)
      · refine zr_aload_n dX4_shrunk_140 rfl rfl ?_
        refine zr_iload dX4_shrunk_141 rfl ?_
        refine zr_call51 (rest := [.int p.2.2]) (zs_F (As := [.int (nI k)]) (by omega) okF_J2_get (by decide +kernel) q2390 q1106 q959 q56 q960 hfl2 rfl rfl rfl (Nat.le_of_ble_eq_true rfl) dX4_shrunk_143) (c_J2_get (by omega) hG hL2 (map_at (fun j => kA c (rB j)) hx)) ?_
        refine zr_castS (hS2.bx hj) rfl q2084 dX4_shrunk_148 ?_
        refine zr_get (k := 15) (v := .int (kF c j 14)) in_X5 (hS2.bx hj) rfl (Nat.le_of_ble_eq_true rfl) q2123 (.inl rfl) rfl dX4_shrunk_151 ?_
        refine zr_aload_n dX4_shrunk_154 rfl rfl ?_
        refine zr_iload dX4_shrunk_155 rfl ?_
        refine zr_iald (v := .int (g k)) hA2 (vp_in_nI (by omega) (by omega)) (by rw [nI_clamp (by omega)]) dX4_shrunk_157 ?_
        refine zr_imul dX4_shrunk_158 ?_
        exact key159 _ (by rw [if_neg (by rw [h2]; decide)])
      · refine zr_iconst (v := 0) dX4_shrunk_136 (by decide) ?_
        refine zr_goto (tgt := 159) dX4_shrunk_137 (by decide) ?_
        exact key159 _ (by rw [if_pos h2])
    refine zr_ifeqB (tgt := 96) dX4_shrunk_85 (by decide) (fun h1 => ?_) (fun h1 => ?_)
    · refine zr_aload_n dX4_shrunk_96 rfl rfl ?_
      refine zr_iload dX4_shrunk_97 rfl ?_
      refine zr_iald (v := .int (g k)) hA1 (vp_in_nI (by omega) (by omega)) (by rw [nI_clamp (by omega)]) dX4_shrunk_99 ?_
      exact key100 _ (by rw [if_neg (by rw [h1]; decide)])
    · refine zr_aload dX4_shrunk_88 rfl ?_
      refine zr_iload dX4_shrunk_90 rfl ?_
      refine zr_iald (v := .int (bd k)) (.new hH.1) (vp_in_nI (by omega) (by omega)) (by rw [nI_clamp (by omega)]) dX4_shrunk_92 ?_
      refine zr_goto (tgt := 100) dX4_shrunk_93 (by decide) ?_
      exact key100 _ (by rw [if_pos h1])
set_option maxHeartbeats 4000000 in
theorem l_X4_shr2 {G : zG} {σ : zT} {d : Nat} {c : zCS} {th ct : Int32} {tl l wa ba fa : Nat} {mod inner : Int32} {es : List Nat} {g : Nat → Int32} {Q : zO → zT → Prop} (hd : 70 ≤ d) (hG : zOk G) (hw : zGd G σ) (hS : MSys G σ c th ct) (hL : zL G σ tl l mod (es.map (fun j => kA c (rB j)))) (hes : ∀ j, j ∈ es → j < kN c) (hel : es.length ≤ 24) (hA0 : zAt G σ wa (aI G es.length g)) {wb n : Nat} {bd : Nat → Int32} (hne : ba ≠ wb ∧ fa ≠ ba ∧ fa ≠ wb) (hfa : sZ σ ≤ fa) (hwb : sZ σ ≤ wb) {lack wt : Int32} (hwt : ¬ wt = 0) : ∀ (ys : List Nat) (k : Nat) (p : MS2) (σ1 : zT), es.drop k = ys → k ≤ es.length → zX G S0 σ σ1 n → ShM G σ1 es.length ba fa wb bd p.2.1 p.1 → (∀ σ2 x, zX G S0 σ σ2 n → ShM G σ2 es.length ba fa wb bd ((nums ys k).foldl (mS2 c bd g lack wt) p).2.1 ((nums ys k).foldl (mS2 c bd g lack wt) p).1 → zR G yX4_shrunk cX4_shrunk 13 (Option.some (Jvm.ClassFile.FieldType.array Jvm.ClassFile.FieldType.int)) [] d 278 [(0, .ref l), (1, .ref wa), (2, .int inner), (3, .int (nI es.length)), (4, .ref ba), (5, .ref fa), (6, .int lack), (7, .int wt), (8, .ref wb), (9, .int (bI ((nums ys k).foldl (mS2 c bd g lack wt) p).2.2.1)), (10, .int ((nums ys k).foldl (mS2 c bd g lack wt) p).2.2.2), (11, .int x)] [] σ2 Q) → zR G yX4_shrunk cX4_shrunk 13 (Option.some (Jvm.ClassFile.FieldType.array Jvm.ClassFile.FieldType.int)) [] d 186 [(0, .ref l), (1, .ref wa), (2, .int inner), (3, .int (nI es.length)), (4, .ref ba), (5, .ref fa), (6, .int lack), (7, .int wt), (8, .ref wb), (9, .int (bI p.2.2.1)), (10, .int p.2.2.2), (11, .int (nI k))] [] σ1 Q := by
  intro ys
  induction ys with
  | nil =>
    intro k p σ1 hy hk hX hH kQ
    have hA1 := hX.at hw hA0 (fun h => h)
    have hkl := drop_nil hy hk
    refine zr_iload dX4_shrunk_186 rfl ?_
    refine zr_iload_n dX4_shrunk_188 rfl rfl ?_
    refine zr_icmp_ge (tgt := 278) dX4_shrunk_189 (by decide) (fun _ => ?_) (fun h9 => absurd (by rw [hkl]; exact Int32.le_refl _) h9)
    exact kQ σ1 _ hX hH
  | cons j ys ih =>
    intro k p σ1 hy hk hX hH kQ
    have hA1 := hX.at hw hA0 (fun h => h)
    obtain ⟨hx, hy2, hkl, hm⟩ := drop_cons hy
    have hj := hes j hm
    have hS1 := hS.keep0 hw hX
    have hL1 := hX.L hw hL (fun h => h) (fun h => h)
    obtain ⟨fl, hfl⟩ := hL1.A
    have hfold : ∀ p, List.foldl (mS2 c bd g lack wt) p (nums (j :: ys) k) = (nums ys (k + 1)).foldl (mS2 c bd g lack wt) (mS2 c bd g lack wt p (k, j)) := fun _ => rfl
    simp only [hfold] at kQ
    refine zr_iload dX4_shrunk_186 rfl ?_
    refine zr_iload_n dX4_shrunk_188 rfl rfl ?_
    refine zr_icmp_ge (tgt := 278) dX4_shrunk_189 (by decide) (fun h9 => absurd h9 (Int32.not_le.mpr ((nI_ltI (by omega) (by omega)).mpr hkl))) (fun _ => ?_)
    refine zr_aload dX4_shrunk_192 rfl ?_
    refine zr_iload dX4_shrunk_194 rfl ?_
    refine zr_zald (v := .int (bI (p.2.1 k))) (.new hH.2.1) (vp_in_nI (by omega) (by omega)) (by rw [nI_clamp (by omega)]; rfl) dX4_shrunk_196 ?_
    refine zr_ifeqB (tgt := 203) dX4_shrunk_197 (by decide) (fun h1 => ?_) (fun h1 => ?_)
    · have h1n : ¬ p.2.1 k = true := by rw [h1]; decide
      refine zr_iload dX4_shrunk_203 rfl ?_
      refine zr_aload_n dX4_shrunk_205 rfl rfl ?_
      refine zr_iload dX4_shrunk_206 rfl ?_
      refine zr_call51 (rest := [.int lack]) (zs_F (As := [.int (nI k)]) (by omega) okF_J2_get (by decide +kernel) q2390 q1106 q959 q56 q960 hfl rfl rfl rfl (Nat.le_of_ble_eq_true rfl) dX4_shrunk_208) (c_J2_get (by omega) hG hL1 (map_at (fun j => kA c (rB j)) hx)) ?_
      refine zr_castS (hS1.bx hj) rfl q2084 dX4_shrunk_213 ?_
      refine zr_get (k := 15) (v := .int (kF c j 14)) in_X5 (hS1.bx hj) rfl (Nat.le_of_ble_eq_true rfl) q2123 (.inl rfl) rfl dX4_shrunk_216 ?_
      refine zr_aload_n dX4_shrunk_219 rfl rfl ?_
      refine zr_iload dX4_shrunk_220 rfl ?_
      refine zr_iald (v := .int (g k)) hA1 (vp_in_nI (by omega) (by omega)) (by rw [nI_clamp (by omega)]) dX4_shrunk_222 ?_
      refine zr_imul dX4_shrunk_223 ?_
      refine zr_imul dX4_shrunk_224 ?_
      refine zr_iload dX4_shrunk_225 rfl ?_
      refine zr_idiv dX4_shrunk_227 hwt ?_
      show zR G yX4_shrunk cX4_shrunk 13 (Option.some (Jvm.ClassFile.FieldType.array Jvm.ClassFile.FieldType.int)) [] d 228 [(0, .ref l), (1, .ref wa), (2, .int inner), (3, .int (nI es.length)), (4, .ref ba), (5, .ref fa), (6, .int lack), (7, .int wt), (8, .ref wb), (9, .int (bI p.2.2.1)), (10, .int p.2.2.2), (11, .int (nI k))] [.int (mLoss c g lack wt (k, j))] σ1 _
      refine zr_istore (ls2 := [(0, .ref l), (1, .ref wa), (2, .int inner), (3, .int (nI es.length)), (4, .ref ba), (5, .ref fa), (6, .int lack), (7, .int wt), (8, .ref wb), (9, .int (bI p.2.2.1)), (10, .int p.2.2.2), (11, .int (nI k)), (12, .int (mLoss c g lack wt (k, j)))]) dX4_shrunk_228 (Nat.le_of_ble_eq_true rfl) rfl ?_
      refine zr_aload dX4_shrunk_230 rfl ?_
      refine zr_iload dX4_shrunk_232 rfl ?_
      refine zr_dup2 dX4_shrunk_234 rfl rfl ?_
      refine zr_iald (v := .int (p.1 k)) (.new hH.2.2.1) (vp_in_nI (by omega) (by omega)) (by rw [nI_clamp (by omega)]) dX4_shrunk_235 ?_
      refine zr_iload dX4_shrunk_236 rfl ?_
      refine zr_isub dX4_shrunk_238 ?_
      refine zr_iast (f2 := upd p.1 k (p.1 k - mLoss c g lack wt (k, j))) hH.2.2.1 (vp_in_nI (by omega) (by omega)) (by rw [nI_clamp (by omega)]) dX4_shrunk_239 ?_
      have hH2 : ShM G (sUp σ1 wb (aI G es.length (upd p.1 k (p.1 k - mLoss c g lack wt (k, j))))) es.length ba fa wb bd p.2.1 (upd p.1 k (p.1 k - mLoss c g lack wt (k, j))) := hH.upW hne
      have hX2 : zX G S0 σ (sUp σ1 wb (aI G es.length (upd p.1 k (p.1 k - mLoss c g lack wt (k, j))))) n := hX.upNA hH.2.2.1 hwb
      generalize hσ2 : sUp σ1 wb (aI G es.length (upd p.1 k (p.1 k - mLoss c g lack wt (k, j)))) = σ2 at hX2 hH2 ⊢
      have hwk : (upd p.1 k (p.1 k - mLoss c g lack wt (k, j))) k = p.1 k - mLoss c g lack wt (k, j) := by simp [upd]
      refine zr_iload dX4_shrunk_240 rfl ?_
      refine zr_iload dX4_shrunk_242 rfl ?_
      refine zr_isub dX4_shrunk_244 ?_
      refine zr_istore (ls2 := [(0, .ref l), (1, .ref wa), (2, .int inner), (3, .int (nI es.length)), (4, .ref ba), (5, .ref fa), (6, .int lack), (7, .int wt), (8, .ref wb), (9, .int (bI p.2.2.1)), (10, .int (p.2.2.2 - (mLoss c g lack wt (k, j)))), (11, .int (nI k)), (12, .int (mLoss c g lack wt (k, j)))]) dX4_shrunk_245 (Nat.le_of_ble_eq_true rfl) rfl ?_
      refine zr_aload dX4_shrunk_247 rfl ?_
      refine zr_iload dX4_shrunk_249 rfl ?_
      refine zr_iald (v := .int ((upd p.1 k (p.1 k - mLoss c g lack wt (k, j))) k)) (.new hH2.2.2.1) (vp_in_nI (by omega) (by omega)) (by rw [nI_clamp (by omega)]) dX4_shrunk_251 ?_
      refine zr_aload dX4_shrunk_252 rfl ?_
      refine zr_iload dX4_shrunk_254 rfl ?_
      rw [hwk]
      refine zr_iald (v := .int (bd k)) (.new hH2.1) (vp_in_nI (by omega) (by omega)) (by rw [nI_clamp (by omega)]) dX4_shrunk_256 ?_
      refine zr_icmp_lt (tgt := 263) dX4_shrunk_257 (by decide) (fun h3 => ?_) (fun h3 => ?_)
      · have h3' : ¬ bd k ≤ p.1 k - mLoss c g lack wt (k, j) := by first | exact Int32.not_le.mpr h3 | exact h3
        rw [show mS2 c bd g lack wt p (k, j) = (upd p.1 k (p.1 k - mLoss c g lack wt (k, j)), ub p.2.1 k true, true, p.2.2.2 - mLoss c g lack wt (k, j)) from (if_neg h1n).trans (if_neg h3')] at kQ
        refine zr_aload dX4_shrunk_263 rfl ?_
        refine zr_iload dX4_shrunk_265 rfl ?_
        refine zr_iconst (v := 1) dX4_shrunk_267 (by decide) ?_
        refine zr_zast (f2 := bA (ub p.2.1 k true)) hH2.2.1 (vp_in_nI (by omega) (by omega)) (by rw [nI_clamp (by omega)]; exact ub_upd p.2.1 k true) dX4_shrunk_268 ?_
        refine zr_iconst (v := 1) dX4_shrunk_269 (by decide) ?_
        refine zr_istore (ls2 := [(0, .ref l), (1, .ref wa), (2, .int inner), (3, .int (nI es.length)), (4, .ref ba), (5, .ref fa), (6, .int lack), (7, .int wt), (8, .ref wb), (9, .int 1), (10, .int (p.2.2.2 - (mLoss c g lack wt (k, j)))), (11, .int (nI k)), (12, .int (mLoss c g lack wt (k, j)))]) dX4_shrunk_270 (Nat.le_of_ble_eq_true rfl) rfl ?_
        refine zr_iinc (v := (nI k + 1)) (ls2 := [(0, .ref l), (1, .ref wa), (2, .int inner), (3, .int (nI es.length)), (4, .ref ba), (5, .ref fa), (6, .int lack), (7, .int wt), (8, .ref wb), (9, .int 1), (10, .int (p.2.2.2 - (mLoss c g lack wt (k, j)))), (11, .int (nI k + 1)), (12, .int (mLoss c g lack wt (k, j)))]) dX4_shrunk_272 rfl rfl (Nat.le_of_ble_eq_true rfl) rfl ?_
        rw [show nI k + 1 = nI (k + 1) from nI_1 k]
        refine zr_goto (tgt := 186) dX4_shrunk_275 (by decide) ?_
        refine zr_sub (ls2 := [(0, .ref l), (1, .ref wa), (2, .int inner), (3, .int (nI es.length)), (4, .ref ba), (5, .ref fa), (6, .int lack), (7, .int wt), (8, .ref wb), (9, .int 1), (10, .int (p.2.2.2 - (mLoss c g lack wt (k, j)))), (11, .int (nI (k + 1)))]) [0, 1, 2, 3, 4, 5, 6, 7, 8, 9, 10, 11] rfl ?_
        exact ih (k + 1) (upd p.1 k (p.1 k - mLoss c g lack wt (k, j)), ub p.2.1 k true, true, p.2.2.2 - mLoss c g lack wt (k, j)) _ hy2 (by omega) (hX2.upNA hH2.2.1 hfa) (hH2.upB hne) kQ
      · have h3' : bd k ≤ p.1 k - mLoss c g lack wt (k, j) := by first | exact Int32.not_lt.mp h3 | exact h3
        rw [show mS2 c bd g lack wt p (k, j) = (upd p.1 k (p.1 k - mLoss c g lack wt (k, j)), p.2.1, p.2.2.1, p.2.2.2 - mLoss c g lack wt (k, j)) from (if_neg h1n).trans (if_pos h3')] at kQ
        refine zr_goto (tgt := 272) dX4_shrunk_260 (by decide) ?_
        refine zr_iinc (v := (nI k + 1)) (ls2 := [(0, .ref l), (1, .ref wa), (2, .int inner), (3, .int (nI es.length)), (4, .ref ba), (5, .ref fa), (6, .int lack), (7, .int wt), (8, .ref wb), (9, .int (bI p.2.2.1)), (10, .int (p.2.2.2 - (mLoss c g lack wt (k, j)))), (11, .int (nI k + 1)), (12, .int (mLoss c g lack wt (k, j)))]) dX4_shrunk_272 rfl rfl (Nat.le_of_ble_eq_true rfl) rfl ?_
        rw [show nI k + 1 = nI (k + 1) from nI_1 k]
        refine zr_goto (tgt := 186) dX4_shrunk_275 (by decide) ?_
        refine zr_sub (ls2 := [(0, .ref l), (1, .ref wa), (2, .int inner), (3, .int (nI es.length)), (4, .ref ba), (5, .ref fa), (6, .int lack), (7, .int wt), (8, .ref wb), (9, .int (bI p.2.2.1)), (10, .int (p.2.2.2 - (mLoss c g lack wt (k, j)))), (11, .int (nI (k + 1)))]) [0, 1, 2, 3, 4, 5, 6, 7, 8, 9, 10, 11] rfl ?_
        exact ih (k + 1) (upd p.1 k (p.1 k - mLoss c g lack wt (k, j)), p.2.1, p.2.2.1, p.2.2.2 - mLoss c g lack wt (k, j)) σ2 hy2 (by omega) hX2 hH2 kQ
    · rw [show mS2 c bd g lack wt p (k, j) = p from if_pos h1] at kQ
      refine zr_goto (tgt := 272) dX4_shrunk_200 (by decide) ?_
      refine zr_iinc (v := (nI k + 1)) (ls2 := [(0, .ref l), (1, .ref wa), (2, .int inner), (3, .int (nI es.length)), (4, .ref ba), (5, .ref fa), (6, .int lack), (7, .int wt), (8, .ref wb), (9, .int (bI p.2.2.1)), (10, .int p.2.2.2), (11, .int (nI k + 1))]) dX4_shrunk_272 rfl rfl (Nat.le_of_ble_eq_true rfl) rfl ?_
      rw [show nI k + 1 = nI (k + 1) from nI_1 k]
      refine zr_goto (tgt := 186) dX4_shrunk_275 (by decide) ?_
      refine zr_sub (ls2 := [(0, .ref l), (1, .ref wa), (2, .int inner), (3, .int (nI es.length)), (4, .ref ba), (5, .ref fa), (6, .int lack), (7, .int wt), (8, .ref wb), (9, .int (bI p.2.2.1)), (10, .int p.2.2.2), (11, .int (nI (k + 1)))]) [0, 1, 2, 3, 4, 5, 6, 7, 8, 9, 10, 11] rfl ?_
      exact ih (k + 1) p σ1 hy2 (by omega) hX hH kQ
set_option maxHeartbeats 4000000 in
theorem l_X4_shr3 {G : zG} {σ : zT} {d : Nat} {c : zCS} {th ct : Int32} {tl l wa ba fa : Nat} {mod inner : Int32} {es : List Nat} {g : Nat → Int32} {Q : zO → zT → Prop} (hd : 70 ≤ d) (hG : zOk G) (hw : zGd G σ) (hS : MSys G σ c th ct) (hL : zL G σ tl l mod (es.map (fun j => kA c (rB j)))) (hes : ∀ j, j ∈ es → j < kN c) (hel : es.length ≤ 24) (hA0 : zAt G σ wa (aI G es.length g)) {wb n : Nat} {bd : Nat → Int32} {b : Nat → Bool} (hne : ba ≠ wb ∧ fa ≠ ba ∧ fa ≠ wb) (hfa : sZ σ ≤ fa) (hwb : sZ σ ≤ wb) {lack wt m9 : Int32} : ∀ (ys : List Nat) (k : Nat) (p : (Nat → Int32) × Int32) (σ1 : zT), es.drop k = ys → k ≤ es.length → zX G S0 σ σ1 n → ShM G σ1 es.length ba fa wb bd b p.1 → (∀ σ2 x, zX G S0 σ σ2 n → ShM G σ2 es.length ba fa wb bd b ((nums ys k).foldl (mS3 c b bd g) p).1 → zR G yX4_shrunk cX4_shrunk 13 (Option.some (Jvm.ClassFile.FieldType.array Jvm.ClassFile.FieldType.int)) [] d 364 [(0, .ref l), (1, .ref wa), (2, .int inner), (3, .int (nI es.length)), (4, .ref ba), (5, .ref fa), (6, .int lack), (7, .int wt), (8, .ref wb), (9, .int m9), (10, .int ((nums ys k).foldl (mS3 c b bd g) p).2), (11, .int x)] [] σ2 Q) → zR G yX4_shrunk cX4_shrunk 13 (Option.some (Jvm.ClassFile.FieldType.array Jvm.ClassFile.FieldType.int)) [] d 289 [(0, .ref l), (1, .ref wa), (2, .int inner), (3, .int (nI es.length)), (4, .ref ba), (5, .ref fa), (6, .int lack), (7, .int wt), (8, .ref wb), (9, .int m9), (10, .int p.2), (11, .int (nI k))] [] σ1 Q := by
  intro ys
  induction ys with
  | nil =>
    intro k p σ1 hy hk hX hH kQ
    have hA1 := hX.at hw hA0 (fun h => h)
    have hkl := drop_nil hy hk
    refine zr_iload dX4_shrunk_289 rfl ?_
    refine zr_iload_n dX4_shrunk_291 rfl rfl ?_
    refine zr_icmp_ge (tgt := 364) dX4_shrunk_292 (by decide) (fun _ => ?_) (fun h9 => absurd (by rw [hkl]; exact Int32.le_refl _) h9)
    exact kQ σ1 _ hX hH
  | cons j ys ih =>
    intro k p σ1 hy hk hX hH kQ
    have hA1 := hX.at hw hA0 (fun h => h)
    obtain ⟨hx, hy2, hkl, hm⟩ := drop_cons hy
    have hj := hes j hm
    have hS1 := hS.keep0 hw hX
    have hL1 := hX.L hw hL (fun h => h) (fun h => h)
    obtain ⟨fl, hfl⟩ := hL1.A
    have hfold : ∀ p, List.foldl (mS3 c b bd g) p (nums (j :: ys) k) = (nums ys (k + 1)).foldl (mS3 c b bd g) (mS3 c b bd g p (k, j)) := fun _ => rfl
    simp only [hfold] at kQ
    refine zr_iload dX4_shrunk_289 rfl ?_
    refine zr_iload_n dX4_shrunk_291 rfl rfl ?_
    refine zr_icmp_ge (tgt := 364) dX4_shrunk_292 (by decide) (fun h9 => absurd h9 (Int32.not_le.mpr ((nI_ltI (by omega) (by omega)).mpr hkl))) (fun _ => ?_)
    refine zr_iload dX4_shrunk_295 rfl ?_
    refine zr_if_le (tgt := 364) dX4_shrunk_297 (by decide) (fun h0 => ?_) (fun h0 => ?_)
    · have h0' : p.2 ≤ 0 := by first | exact h0 | exact Int32.not_lt.mp h0
      rw [show mS3 c b bd g p (k, j) = p from if_pos h0', mS3_stop c b bd g _ p h0'] at kQ
      exact kQ σ1 _ hX hH
    · have h0n : ¬ p.2 ≤ 0 := by first | exact h0 | exact Int32.not_le.mpr h0
      refine zr_aload dX4_shrunk_300 rfl ?_
      refine zr_iload dX4_shrunk_302 rfl ?_
      refine zr_zald (v := .int (bI (b k))) (.new hH.2.1) (vp_in_nI (by omega) (by omega)) (by rw [nI_clamp (by omega)]; rfl) dX4_shrunk_304 ?_
      refine zr_ifneB (tgt := 358) dX4_shrunk_305 (by decide) (fun h1 => ?_) (fun h1 => ?_)
      · rw [show mS3 c b bd g p (k, j) = p from (if_neg h0n).trans (if_pos (Or.inl h1))] at kQ
        refine zr_iinc (v := (nI k + 1)) (ls2 := [(0, .ref l), (1, .ref wa), (2, .int inner), (3, .int (nI es.length)), (4, .ref ba), (5, .ref fa), (6, .int lack), (7, .int wt), (8, .ref wb), (9, .int m9), (10, .int p.2), (11, .int (nI k + 1))]) dX4_shrunk_358 rfl rfl (Nat.le_of_ble_eq_true rfl) rfl ?_
        rw [show nI k + 1 = nI (k + 1) from nI_1 k]
        refine zr_goto (tgt := 289) dX4_shrunk_361 (by decide) ?_
        refine zr_sub (ls2 := [(0, .ref l), (1, .ref wa), (2, .int inner), (3, .int (nI es.length)), (4, .ref ba), (5, .ref fa), (6, .int lack), (7, .int wt), (8, .ref wb), (9, .int m9), (10, .int p.2), (11, .int (nI (k + 1)))]) [0, 1, 2, 3, 4, 5, 6, 7, 8, 9, 10, 11] rfl ?_
        exact ih (k + 1) p σ1 hy2 (by omega) hX hH kQ
      · refine zr_aload_n dX4_shrunk_308 rfl rfl ?_
        refine zr_iload dX4_shrunk_309 rfl ?_
        refine zr_call51 (rest := []) (zs_F (As := [.int (nI k)]) (by omega) okF_J2_get (by decide +kernel) q2390 q1106 q959 q56 q960 hfl rfl rfl rfl (Nat.le_of_ble_eq_true rfl) dX4_shrunk_311) (c_J2_get (by omega) hG hL1 (map_at (fun j => kA c (rB j)) hx)) ?_
        refine zr_castS (hS1.bx hj) rfl q2084 dX4_shrunk_316 ?_
        refine zr_get (k := 15) (v := .int (kF c j 14)) in_X5 (hS1.bx hj) rfl (Nat.le_of_ble_eq_true rfl) q2123 (.inl rfl) rfl dX4_shrunk_319 ?_
        refine zr_aload_n dX4_shrunk_322 rfl rfl ?_
        refine zr_iload dX4_shrunk_323 rfl ?_
        refine zr_iald (v := .int (g k)) hA1 (vp_in_nI (by omega) (by omega)) (by rw [nI_clamp (by omega)]) dX4_shrunk_325 ?_
        refine zr_imul dX4_shrunk_326 ?_
        refine zr_if_eq (tgt := 358) dX4_shrunk_327 (by decide) (fun h2 => ?_) (fun h2 => ?_)
        · rw [show mS3 c b bd g p (k, j) = p from (if_neg h0n).trans (if_pos (Or.inr (Or.inl (by first | exact h2 | exact Decidable.not_not.mp h2))))] at kQ
          refine zr_iinc (v := (nI k + 1)) (ls2 := [(0, .ref l), (1, .ref wa), (2, .int inner), (3, .int (nI es.length)), (4, .ref ba), (5, .ref fa), (6, .int lack), (7, .int wt), (8, .ref wb), (9, .int m9), (10, .int p.2), (11, .int (nI k + 1))]) dX4_shrunk_358 rfl rfl (Nat.le_of_ble_eq_true rfl) rfl ?_
          rw [show nI k + 1 = nI (k + 1) from nI_1 k]
          refine zr_goto (tgt := 289) dX4_shrunk_361 (by decide) ?_
          refine zr_sub (ls2 := [(0, .ref l), (1, .ref wa), (2, .int inner), (3, .int (nI es.length)), (4, .ref ba), (5, .ref fa), (6, .int lack), (7, .int wt), (8, .ref wb), (9, .int m9), (10, .int p.2), (11, .int (nI (k + 1)))]) [0, 1, 2, 3, 4, 5, 6, 7, 8, 9, 10, 11] rfl ?_
          exact ih (k + 1) p σ1 hy2 (by omega) hX hH kQ
        · refine zr_aload dX4_shrunk_330 rfl ?_
          refine zr_iload dX4_shrunk_332 rfl ?_
          refine zr_iald (v := .int (p.1 k)) (.new hH.2.2.1) (vp_in_nI (by omega) (by omega)) (by rw [nI_clamp (by omega)]) dX4_shrunk_334 ?_
          refine zr_aload dX4_shrunk_335 rfl ?_
          refine zr_iload dX4_shrunk_337 rfl ?_
          refine zr_iald (v := .int (bd k)) (.new hH.1) (vp_in_nI (by omega) (by omega)) (by rw [nI_clamp (by omega)]) dX4_shrunk_339 ?_
          refine zr_icmp_gt (tgt := 346) dX4_shrunk_340 (by decide) (fun h3 => ?_) (fun h3 => ?_)
          · have h3n : ¬ (b k = true ∨ kF c j 14 * g k = 0 ∨ p.1 k ≤ bd k) := fun h => h.elim (fun h => by rw [h1] at h; cases h) (fun h => h.elim (fun h => h2 h) (fun h => by first | exact absurd h (Int32.not_le.mpr h3) | exact h3 h))
            rw [show mS3 c b bd g p (k, j) = (upd p.1 k (p.1 k - 1), p.2 + (-1)) from (if_neg h0n).trans (if_neg h3n)] at kQ
            refine zr_aload dX4_shrunk_346 rfl ?_
            refine zr_iload dX4_shrunk_348 rfl ?_
            refine zr_dup2 dX4_shrunk_350 rfl rfl ?_
            refine zr_iald (v := .int (p.1 k)) (.new hH.2.2.1) (vp_in_nI (by omega) (by omega)) (by rw [nI_clamp (by omega)]) dX4_shrunk_351 ?_
            refine zr_iconst (v := 1) dX4_shrunk_352 (by decide) ?_
            refine zr_isub dX4_shrunk_353 ?_
            refine zr_iast (f2 := upd p.1 k (p.1 k - 1)) hH.2.2.1 (vp_in_nI (by omega) (by omega)) (by rw [nI_clamp (by omega)]) dX4_shrunk_354 ?_
            refine zr_iinc (v := (p.2 + (-1))) (ls2 := [(0, .ref l), (1, .ref wa), (2, .int inner), (3, .int (nI es.length)), (4, .ref ba), (5, .ref fa), (6, .int lack), (7, .int wt), (8, .ref wb), (9, .int m9), (10, .int (p.2 + (-1))), (11, .int (nI k))]) dX4_shrunk_355 rfl rfl (Nat.le_of_ble_eq_true rfl) rfl ?_
            refine zr_iinc (v := (nI k + 1)) (ls2 := [(0, .ref l), (1, .ref wa), (2, .int inner), (3, .int (nI es.length)), (4, .ref ba), (5, .ref fa), (6, .int lack), (7, .int wt), (8, .ref wb), (9, .int m9), (10, .int (p.2 + (-1))), (11, .int (nI k + 1))]) dX4_shrunk_358 rfl rfl (Nat.le_of_ble_eq_true rfl) rfl ?_
            rw [show nI k + 1 = nI (k + 1) from nI_1 k]
            refine zr_goto (tgt := 289) dX4_shrunk_361 (by decide) ?_
            refine zr_sub (ls2 := [(0, .ref l), (1, .ref wa), (2, .int inner), (3, .int (nI es.length)), (4, .ref ba), (5, .ref fa), (6, .int lack), (7, .int wt), (8, .ref wb), (9, .int m9), (10, .int (p.2 + (-1))), (11, .int (nI (k + 1)))]) [0, 1, 2, 3, 4, 5, 6, 7, 8, 9, 10, 11] rfl ?_
            exact ih (k + 1) (upd p.1 k (p.1 k - 1), p.2 + (-1)) _ hy2 (by omega) (hX.upNA hH.2.2.1 hwb) (hH.upW hne) kQ
          · rw [show mS3 c b bd g p (k, j) = p from (if_neg h0n).trans (if_pos (Or.inr (Or.inr (by first | exact Int32.not_lt.mp h3 | exact h3))))] at kQ
            refine zr_goto (tgt := 358) dX4_shrunk_343 (by decide) ?_
            refine zr_iinc (v := (nI k + 1)) (ls2 := [(0, .ref l), (1, .ref wa), (2, .int inner), (3, .int (nI es.length)), (4, .ref ba), (5, .ref fa), (6, .int lack), (7, .int wt), (8, .ref wb), (9, .int m9), (10, .int p.2), (11, .int (nI k + 1))]) dX4_shrunk_358 rfl rfl (Nat.le_of_ble_eq_true rfl) rfl ?_
            rw [show nI k + 1 = nI (k + 1) from nI_1 k]
            refine zr_goto (tgt := 289) dX4_shrunk_361 (by decide) ?_
            refine zr_sub (ls2 := [(0, .ref l), (1, .ref wa), (2, .int inner), (3, .int (nI es.length)), (4, .ref ba), (5, .ref fa), (6, .int lack), (7, .int wt), (8, .ref wb), (9, .int m9), (10, .int p.2), (11, .int (nI (k + 1)))]) [0, 1, 2, 3, 4, 5, 6, 7, 8, 9, 10, 11] rfl ?_
            exact ih (k + 1) p σ1 hy2 (by omega) hX hH kQ
