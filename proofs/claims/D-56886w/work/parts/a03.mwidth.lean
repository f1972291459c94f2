/-! ===== the reference: widths (rows printed by tools/p103.py) ===== -/
def mAll (c : zCS) (i : Nat) (w : Nat → Int32) (a : Int32) (j : Nat) : Int32 :=
  if kF c i 2 = 102 then (if kF c i 2 = 98 then imax a (w j + kSides c j) else a) + (w j + kSides c j) else (if kF c i 2 = 98 then imax a (w j + kSides c j) else a)
def mStp (c : zCS) (i : Nat) (w : Nat → Int32) (p : (Int32 × (Nat → Int32)) × Nat) (j : Nat) : (Int32 × (Nat → Int32)) × Nat :=
  if kLifted c j = true then p else ((mAll c i w p.1.1 j, colf c w (kF c i 15) p.1.2 (p.2, j)), p.2 + 1)
def mKids (c : zCS) (i : Nat) (w : Nat → Int32) : (Int32 × (Nat → Int32)) × Nat := (kCh c i).foldl (mStp c i w) ((0, fun _ => 0), 0)
def mOfC (c : zCS) (i : Nat) (w : Nat → Int32) : Int32 := if kF c i 2 = 103 then sumA (mKids c i w).1.2 (kF c i 15).toNatClampNeg 0 0 else (mKids c i w).1.1
theorem mStp_1 {c : zCS} {i : Nat} {w : Nat → Int32} (h : kF c i 2 = 98) : ∀ (l : List Nat) (p : (Int32 × (Nat → Int32)) × Nat), (l.foldl (mStp c i w) p).1.1 = l.foldl (fun a j => if kLifted c j = true then a else imax a (w j + kSides c j)) p.1.1 := by
  intro l
  induction l with
  | nil => intro p; rfl
  | cons j l ih =>
    intro p
    rw [List.foldl_cons, ih, List.foldl_cons]
    congr 1
    unfold mStp mAll
    split
    · rfl
    · rw [h]; rfl
theorem mStp_2 {c : zCS} {i : Nat} {w : Nat → Int32} (h : kF c i 2 = 102) : ∀ (l : List Nat) (p : (Int32 × (Nat → Int32)) × Nat), (l.foldl (mStp c i w) p).1.1 = (l.filter (fun j => !kLifted c j)).foldl (fun a j => a + (w j + kSides c j)) p.1.1 := by
  intro l
  induction l with
  | nil => intro p; rfl
  | cons j l ih =>
    intro p
    rw [List.foldl_cons, ih, List.filter_cons]
    cases hl : kLifted c j with
    | true =>
      rw [if_neg (by decide)]
      congr 1
      unfold mStp
      rw [if_pos hl]
    | false =>
      rw [if_pos (by decide), List.foldl_cons]
      congr 1
      unfold mStp mAll
      rw [if_neg (by rw [hl]; decide), h]
      rfl
theorem mStp_3 {c : zCS} {i : Nat} {w : Nat → Int32} : ∀ (l : List Nat) (p : (Int32 × (Nat → Int32)) × Nat), (l.foldl (mStp c i w) p).1.2 = (nums (l.filter (fun j => !kLifted c j)) p.2).foldl (colf c w (kF c i 15)) p.1.2 := by
  intro l
  induction l with
  | nil => intro p; rfl
  | cons j l ih =>
    intro p
    rw [List.foldl_cons, ih, List.filter_cons]
    cases hl : kLifted c j with
    | true =>
      rw [if_neg (by decide)]
      have e : mStp c i w p j = p := by unfold mStp; rw [if_pos hl]
      rw [e]
    | false =>
      rw [if_pos (by decide)]
      have e : mStp c i w p j = ((mAll c i w p.1.1 j, colf c w (kF c i 15) p.1.2 (p.2, j)), p.2 + 1) := by unfold mStp; rw [if_neg (by rw [hl]; decide)]
      rw [e]
      rfl
theorem mOfC_eq {c : zCS} {f i : Nat} {least : Bool} (hk : KVal 2 (kF c i 2)) (ht : ¬ kTold c i ≠ -1) (hT : kText c i = false) : 2 * kF c i 12 + mOfC c i (fun j => cCW f c j least) = cCW (f + 1) c i least := by
  have hT' : ¬ kText c i = true := by rw [hT]; decide
  have ec : cCW (f + 1) c i least = if kTold c i ≠ -1 then kTold c i else
    if kText c i = true then 2 * kF c i 12 + cTW (kWd c i) least else
    if kF c i 2 = 98 then 2 * kF c i 12 + (kCh c i).foldl (fun w j => if kLifted c j = true then w else imax w (cCW f c j least + kSides c j)) 0 else
    if kF c i 2 = 102 then 2 * kF c i 12 + (kItemsOf c i).foldl (fun w j => w + (cCW f c j least + kSides c j)) 0 else
    2 * kF c i 12 + sumA ((nums (kItemsOf c i) 0).foldl (colf c (fun j => cCW f c j least) (kF c i 15)) (fun _ => 0)) (kF c i 15).toNatClampNeg 0 0 := rfl
  rw [ec, if_neg ht, if_neg hT']
  unfold mOfC mKids
  rcases hk with h | h | h | h
  · rw [if_pos h, if_neg (by rw [h]; decide), mStp_1 h]
  · unfold kText at hT; rw [decide_eq_true h] at hT; cases hT
  · rw [if_neg (by rw [h]; decide), if_pos h, if_neg (by rw [h]; decide), mStp_2 h]
    rfl
  · rw [if_pos h, if_neg (by rw [h]; decide), if_neg (by rw [h]; decide), mStp_3]
    rfl
theorem told_ge {c : zCS} (h : KWf c) {i : Nat} (hi : i < kN c) : (0 ≤ kTold c i ↔ kTold c i ≠ -1) := by
  have hv : btw (kF c i 6) (-1) 400 = true := (h.2 i hi).2.2.2.2 6
  unfold btw at hv
  have h1 : -1 ≤ kF c i 6 := of_decide_eq_true ((Bool.and_eq_true _ _).mp hv).1
  unfold kTold
  split
  · decide
  · generalize kF c i 6 = v at h1
    rw [Int32.le_iff_toInt_le] at h1 ⊢
    rw [ne_eq, ← Int32.toInt_inj]
    have e1 : (-1 : Int32).toInt = -1 := by decide
    have e2 : (0 : Int32).toInt = 0 := by decide
    rw [e1] at h1 ⊢
    rw [e2]
    omega
set_option maxHeartbeats 4000000 in
theorem l_X4_ofText {G : zG} {σ : zT} {d : Nat} {c : zCS} {th ct : Int32} {i it b : Nat} {least : Bool} {Q : zO → zT → Prop} (hd : 4 ≤ d) (hG : zOk G) (hw : zGd G σ) (hS : MSys G σ c th ct) (hi : i < kN c) (hit : sZ σ ≤ it) : ∀ (ys : List Int32) (k : Nat) (lr : Int32) (p : Int32 × Int32) (σ1 : zT), (kWd c i).drop k = ys → k ≤ (kWd c i).length → zX G S0 σ σ1 12 → sF σ1 it = some (.inr (21, [.int (nI k), .int lr, .int (kM c (rW i)), .ref (kA c (rW i))])) → (∀ σ2, zX G S0 σ σ2 12 → Q (.inl (some (.int (if least then (ys.foldl cTWf p).1 else (ys.foldl cTWf p).2)))) σ2) → zR G yX4_ofText cX4_ofText 6 (Option.some Jvm.ClassFile.FieldType.int) [] d 13 [(0, .ref b), (1, .int (bI least)), (2, .int p.1), (3, .int p.2), (4, .ref it)] [] σ1 Q := by
  intro ys
  induction ys with
  | nil =>
    intro k lr p σ1 hy hk hX hI kQ
    have hS1 := hS.keep0 hw hX
    have hkl := drop_nil hy hk
    refine zr_aload dX4_ofText_13 rfl ?_
    refine zr_call51 (rest := []) (zs_F (As := []) (by omega) okF_J23_hasNext (by decide +kernel) q2324 q927 q929 q84 q931 (.new hI) rfl rfl rfl (Nat.le_of_ble_eq_true rfl) dX4_ofText_15) (c_hasNext0 (hS1.wdL hi) hI (by rw [List.length_map]; exact hkl)) ?_
    refine zr_if_eq (tgt := 63) dX4_ofText_20 (by decide) (fun _ => ?_) (fun h9 => absurd (rfl) h9)
    refine zr_iload_n dX4_ofText_63 rfl rfl ?_
    refine zr_ifeqB (tgt := 71) dX4_ofText_64 (by decide) (fun h => ?_) (fun h => ?_)
    · subst h
      refine zr_iload_n dX4_ofText_71 rfl rfl ?_
      exact zr_iret rfl rfl dX4_ofText_72 (kQ σ1 hX)
    · subst h
      refine zr_iload_n dX4_ofText_67 rfl rfl ?_
      refine zr_goto (tgt := 72) dX4_ofText_68 (by decide) ?_
      exact zr_iret rfl rfl dX4_ofText_72 (kQ σ1 hX)
  | cons v ys ih =>
    intro k lr p σ1 hy hk hX hI kQ
    have hS1 := hS.keep0 hw hX
    obtain ⟨hx, hy2, hkl, hm⟩ := drop_cons hy
    obtain ⟨n, hn1, hn2, rfl⟩ := (hS.wd hi).2 v hm
    have hX2 := hX.upN (gs := [.int (nI (k + 1)), .int (nI k), .int (kM c (rW i)), .ref (kA c (rW i))]) hI hit
    have hI2 : sF (sUp σ1 it (.inr (21, [.int (nI (k + 1)), .int (nI k), .int (kM c (rW i)), .ref (kA c (rW i))]))) it = _ := sF_upS _ _ _
    generalize hσ2 : sUp σ1 it (.inr (21, [.int (nI (k + 1)), .int (nI k), .int (kM c (rW i)), .ref (kA c (rW i))])) = σ2 at hX2 hI2
    have hfold : ∀ p, List.foldl cTWf p (nI n :: ys) = ys.foldl cTWf (cTWf p (nI n)) := fun _ => rfl
    simp only [hfold] at kQ
    refine zr_aload dX4_ofText_13 rfl ?_
    refine zr_call51 (rest := []) (zs_F (As := []) (by omega) okF_J23_hasNext (by decide +kernel) q2324 q927 q929 q84 q931 (.new hI) rfl rfl rfl (Nat.le_of_ble_eq_true rfl) dX4_ofText_15) (c_hasNext1 (hS1.wdL hi) hI (by rw [List.length_map]; exact hkl)) ?_
    refine zr_if_eq (tgt := 63) dX4_ofText_20 (by decide) (fun h9 => absurd h9 (by decide)) (fun _ => ?_)
    refine zr_aload dX4_ofText_23 rfl ?_
    refine zr_call51 (rest := []) (zs_F (As := []) (by omega) okF_J23_next (by decide +kernel) q2326 q1044 q1046 q84 q1048 (.new hI) rfl rfl rfl (Nat.le_of_ble_eq_true rfl) dX4_ofText_25) (c_J23_next (by omega) hG (hS1.wdL hi) hI (map_at (zbx G) hx)) ?_
    rw [hσ2]
    refine zr_castS (zbx_at hG _ (by omega)) rfl q2327 dX4_ofText_30 ?_
    refine zr_call1 (rest := []) (zs_V (As := []) (by omega) ok_J18_intValue q2328 q1155 q1156 q75 q1157 rfl (zbx_at hG _ (by omega)) rfl rfl rfl (Nat.le_of_ble_eq_true rfl) dX4_ofText_33) (c_J18_intValue (zbx_at hG _ (by omega))) ?_
    refine zr_istore (ls2 := [(0, .ref b), (1, .int (bI least)), (2, .int p.1), (3, .int p.2), (4, .ref it), (5, .int (nI n))]) dX4_ofText_36 (Nat.le_of_ble_eq_true rfl) rfl ?_
    refine zr_iload_n dX4_ofText_38 rfl rfl ?_
    refine zr_iload dX4_ofText_39 rfl ?_
    refine zr_max (by omega) q2329 q376 q60 q377 (Nat.le_of_ble_eq_true rfl) dX4_ofText_41 ?_
    refine zr_istore_n (ls2 := [(0, .ref b), (1, .int (bI least)), (2, .int (imax p.1 (nI n))), (3, .int p.2), (4, .ref it), (5, .int (nI n))]) dX4_ofText_44 rfl (Nat.le_of_ble_eq_true rfl) rfl ?_
    refine zr_iload_n dX4_ofText_45 rfl rfl ?_
    refine zr_iload dX4_ofText_46 rfl ?_
    have key : ∀ z, z = (if 0 < p.2 then (2 : Int32) else 0) → zR G yX4_ofText cX4_ofText 6 (Option.some Jvm.ClassFile.FieldType.int) [] d 57 [(0, .ref b), (1, .int (bI least)), (2, .int (imax p.1 (nI n))), (3, .int p.2), (4, .ref it), (5, .int (nI n))] [.int z, .int (nI n), .int p.2] σ2 Q := by
      intro z hz
      subst hz
      refine zr_iadd dX4_ofText_57 ?_
      refine zr_iadd dX4_ofText_58 ?_
      refine zr_istore_n (ls2 := [(0, .ref b), (1, .int (bI least)), (2, .int (imax p.1 (nI n))), (3, .int (p.2 + ((nI n) + (if 0 < p.2 then (2 : Int32) else 0)))), (4, .ref it), (5, .int (nI n))]) dX4_ofText_59 rfl (Nat.le_of_ble_eq_true rfl) rfl ?_
      refine zr_goto (tgt := 13) dX4_ofText_60 (by decide) ?_
      refine zr_sub (ls2 := [(0, .ref b), (1, .int (bI least)), (2, .int (imax p.1 (nI n))), (3, .int (p.2 + ((nI n) + (if 0 < p.2 then (2 : Int32) else 0)))), (4, .ref it)]) [0, 1, 2, 3, 4] rfl ?_
      exact ih (k + 1) _ (cTWf p (nI n)) σ2 hy2 hkl hX2 hI2 kQ
    refine zr_iload_n dX4_ofText_48 rfl rfl ?_
    refine zr_if_le (tgt := 56) dX4_ofText_49 (by decide) (fun h => ?_) (fun h => ?_)
    · refine zr_iconst (v := 0) dX4_ofText_56 (by decide) ?_
      exact key 0 (by rw [if_neg (Int32.not_lt.mpr h)])
    · refine zr_iconst (v := 2) dX4_ofText_52 (by decide) ?_
      refine zr_goto (tgt := 57) dX4_ofText_53 (by decide) ?_
      exact key 2 (by rw [if_pos (Int32.not_le.mp h)])
set_option maxHeartbeats 4000000 in
theorem c_X4_ofText {G : zG} {σ : zT} {d : Nat} {c : zCS} {th ct : Int32} {i : Nat} {least : Bool} (hd : 6 ≤ d) (hG : zOk G) (hw : zGd G σ) (hS : MSys G σ c th ct) (hi : i < kN c) : zCall G I_X4_ofText d [.ref (kA c (rB i)), .int (bI least)] σ ((fun o σ' => o = .inl (some (.int (cTW (kWd c i) least))) ∧ zX G S0 σ σ' 12)) := by
  refine zCall_of (ls := [(0, .ref (kA c (rB i))), (1, .int (bI least))]) (by decide) (Nat.le_of_ble_eq_true rfl) rfl ?_
  obtain ⟨flw, hflw⟩ := (hS.wdL hi).A
  refine zr_iconst (v := 0) dX4_ofText_0 (by decide) ?_
  refine zr_istore_n (ls2 := [(0, .ref (kA c (rB i))), (1, .int (bI least)), (2, .int 0)]) dX4_ofText_1 rfl (Nat.le_of_ble_eq_true rfl) rfl ?_
  refine zr_iconst (v := 0) dX4_ofText_2 (by decide) ?_
  refine zr_istore_n (ls2 := [(0, .ref (kA c (rB i))), (1, .int (bI least)), (2, .int 0), (3, .int 0)]) dX4_ofText_3 rfl (Nat.le_of_ble_eq_true rfl) rfl ?_
  refine zr_aload_n dX4_ofText_4 rfl rfl ?_
  refine zr_get (k := 5) (v := .ref (kA c (rW i))) in_X5 (hS.bx hi) rfl (Nat.le_of_ble_eq_true rfl) q2103 (.inl rfl) rfl dX4_ofText_5 ?_
  refine zr_call1 (rest := []) (zs_V (As := []) (by omega) ok_J2_iterator q2322 q834 q2841 q56 q836 rfl hflw rfl rfl rfl (Nat.le_of_ble_eq_true rfl) dX4_ofText_8) (c_J2_iterator (by omega) hw.1 (hS.wdL hi)) ?_
  refine zr_astore (ls2 := [(0, .ref (kA c (rB i))), (1, .int (bI least)), (2, .int 0), (3, .int 0), (4, .ref (sZ σ))]) dX4_ofText_11 (Nat.le_of_ble_eq_true rfl) rfl ?_
  exact l_X4_ofText (σ := σ) (by omega) hG hw hS hi (Nat.le_refl _) (kWd c i) 0 (-1) (0, 0) _ rfl (Nat.zero_le _) ((zX.new S0 hw 0 (by omega) _ 4).le (by omega)) (sF_newS _ _ _ _) (fun σ2 x2 => ⟨rfl, x2⟩)
abbrev HBd (G : zG) (c : zCS) (th ct : Int32) (least : Bool) (f d : Nat) : Prop := ∀ (σ : zT) (j : Nat), zGd G σ → MSys G σ c th ct → j < kN c → kN c ≤ f + j → zCall G I_X4_bound d [.ref (kA c (rB j)), .int (bI least)] σ (fun o σ' => o = .inl (some (.int (cCW f c j least))) ∧ zX G S0 σ σ' (KW f c j))
set_option maxHeartbeats 4000000 in
theorem l_X4_kids {G : zG} {σ : zT} {d f N m : Nat} {c : zCS} {th ct : Int32} {i it wa : Nat} {least : Bool} {Q : zO → zT → Prop} (hd : 6 ≤ d) (hG : zOk G) (hw : zGd G σ) (hS : MSys G σ c th ct) (hi : i < kN c) (hf : kN c ≤ f + 1 + i) (hit : sZ σ ≤ it) (hwa : sZ σ ≤ wa) (hm1 : 1 ≤ m) (hm4 : m ≤ 4) (hcol : kF c i 15 = nI m) (hB : HBd G c th ct least f (d - 1)) : ∀ (ys : List Nat) (k n : Nat) (lr : Int32) (p : (Int32 × (Nat → Int32)) × Nat) (σ1 : zT), (kCh c i).drop k = ys → k ≤ (kCh c i).length → p.2 ≤ k → zX G S0 σ σ1 n → n + (ys.map (fun j => KW f c j)).sum ≤ N → sF σ1 wa = some (aI G m p.1.2) → sF σ1 it = some (.inr (21, [.int (nI k), .int lr, .int (kM c (rC i)), .ref (kA c (rC i))])) → (∀ σ2, zX G S0 σ σ2 N → sF σ2 wa = some (aI G m (ys.foldl (mStp c i (fun j => cCW f c j least)) p).1.2) → zR G yX4_ofChildren cX4_ofChildren 10 (Option.some Jvm.ClassFile.FieldType.int) [] d 127 [(0, .ref (kA c (rB i))), (2, .ref wa), (3, .int (ys.foldl (mStp c i (fun j => cCW f c j least)) p).1.1)] [] σ2 Q) → zR G yX4_ofChildren cX4_ofChildren 10 (Option.some Jvm.ClassFile.FieldType.int) [] d 21 [(0, .ref (kA c (rB i))), (1, .int (bI least)), (2, .ref wa), (3, .int p.1.1), (4, .int (nI p.2)), (5, .ref it)] [] σ1 Q := by
  have hchl := hS.chl hi
  intro ys
  induction ys with
  | nil =>
    intro k n lr p σ1 hy hk hp hX hN hA hI kQ
    have hS1 := hS.keep0 hw hX
    have hkl := drop_nil hy hk
    refine zr_aload dX4_ofChildren_21 rfl ?_
    refine zr_call51 (rest := []) (zs_F (As := []) (by omega) okF_J23_hasNext (by decide +kernel) q2324 q927 q929 q84 q931 (.new hI) rfl rfl rfl (Nat.le_of_ble_eq_true rfl) dX4_ofChildren_23) (c_hasNext0 (hS1.chL hi) hI (by rw [List.length_map]; exact hkl)) ?_
    refine zr_if_eq (tgt := 127) dX4_ofChildren_28 (by decide) (fun _ => ?_) (fun h9 => absurd (rfl) h9)
    refine zr_sub (ls2 := [(0, .ref (kA c (rB i))), (2, .ref wa), (3, .int p.1.1)]) [0, 2, 3] rfl ?_
    exact kQ σ1 (hX.le (by simpa using hN)) hA
  | cons j ys ih =>
    intro k n lr p σ1 hy hk hp hX hN hA hI kQ
    have hS1 := hS.keep0 hw hX
    obtain ⟨hx, hy2, hkl, hm⟩ := drop_cons hy
    have hj := hS.ch hi hm
    rw [List.map_cons, List.sum_cons] at hN
    have hne : wa ≠ it := sF_ne hA hI (fun e => by cases e)
    have hX2 := hX.upN (gs := [.int (nI (k + 1)), .int (nI k), .int (kM c (rC i)), .ref (kA c (rC i))]) hI hit
    have hI2 : sF (sUp σ1 it (.inr (21, [.int (nI (k + 1)), .int (nI k), .int (kM c (rC i)), .ref (kA c (rC i))]))) it = _ := sF_upS _ _ _
    have hA2 := (sF_upN σ1 it (.inr (21, [.int (nI (k + 1)), .int (nI k), .int (kM c (rC i)), .ref (kA c (rC i))])) hne).trans hA
    generalize hσ2 : sUp σ1 it (.inr (21, [.int (nI (k + 1)), .int (nI k), .int (kM c (rC i)), .ref (kA c (rC i))])) = σ2 at hX2 hI2 hA2
    have hS2 := hS.keep0 hw hX2
    have hmod : p.2 % m < m := Nat.mod_lt _ (by omega)
    have hrem : nI p.2 - nI p.2 / nI m * nI m = nI (p.2 % m) := pk_rem (by omega) (by omega) (by omega)
    rw [List.foldl_cons] at kQ
    refine zr_aload dX4_ofChildren_21 rfl ?_
    refine zr_call51 (rest := []) (zs_F (As := []) (by omega) okF_J23_hasNext (by decide +kernel) q2324 q927 q929 q84 q931 (.new hI) rfl rfl rfl (Nat.le_of_ble_eq_true rfl) dX4_ofChildren_23) (c_hasNext1 (hS1.chL hi) hI (by rw [List.length_map]; exact hkl)) ?_
    refine zr_if_eq (tgt := 127) dX4_ofChildren_28 (by decide) (fun h9 => absurd h9 (by decide)) (fun _ => ?_)
    refine zr_aload dX4_ofChildren_31 rfl ?_
    refine zr_call51 (rest := []) (zs_F (As := []) (by omega) okF_J23_next (by decide +kernel) q2326 q1044 q1046 q84 q1048 (.new hI) rfl rfl rfl (Nat.le_of_ble_eq_true rfl) dX4_ofChildren_33) (c_J23_next (by omega) hG (hS1.chL hi) hI (map_at (fun j => kA c (rB j)) hx)) ?_
    rw [hσ2]
    refine zr_castS (hS2.bx hj.2) rfl q2084 dX4_ofChildren_38 ?_
    refine zr_astore (ls2 := [(0, .ref (kA c (rB i))), (1, .int (bI least)), (2, .ref wa), (3, .int p.1.1), (4, .int (nI p.2)), (5, .ref it), (6, .ref (kA c (rB j)))]) dX4_ofChildren_41 (Nat.le_of_ble_eq_true rfl) rfl ?_
    refine zr_aload dX4_ofChildren_43 rfl ?_
    refine zr_call1 (rest := []) (zs_V (As := []) (by omega) ok_X5_isLifted q2333 q2334 q2335 q78 q2336 rfl (hS2.bx hj.2) rfl rfl rfl (Nat.le_of_ble_eq_true rfl) dX4_ofChildren_45) (c_X5_isLifted hS2 hj.2) ?_
    refine zr_ifeqB (tgt := 54) dX4_ofChildren_48 (by decide) (fun h1 => ?_) (fun h1 => ?_)
    · refine zr_aload dX4_ofChildren_54 rfl ?_
      refine zr_iload_n dX4_ofChildren_56 rfl rfl ?_
      obtain ⟨_, σ3, ⟨rfl, hX3⟩, hC3⟩ := hB σ2 j hX2.gd hS2 hj.2 (by omega)
      have hX4 := hX2.trans hX3
      have hS3 := hS.keep0 hw hX4
      have hA3 := hX3.f hX2.gd hA2 (fun h => h)
      have hI3 := hX3.f hX2.gd hI2 (fun h => h)
      have hstp : mStp c i (fun j => cCW f c j least) p j = ((mAll c i (fun j => cCW f c j least) p.1.1 j, colf c (fun j => cCW f c j least) (kF c i 15) p.1.2 (p.2, j)), p.2 + 1) := if_neg (by rw [h1]; decide)
      rw [hstp] at kQ
      refine zr_call1 (rest := []) (zs_S (As := [.ref (kA c (rB j)), .int (bI least)]) (by omega) ok_X4_bound q2312 q2313 q77 q2314 rfl rfl (Nat.le_of_ble_eq_true rfl) dX4_ofChildren_57) hC3 ?_
      refine zr_aload dX4_ofChildren_60 rfl ?_
      refine zr_call1 (rest := [.int (cCW f c j least)]) (zs_V (As := []) (by omega) ok_X5_sides q2337 q2338 q2339 q78 q2340 rfl (hS3.bx hj.2) rfl rfl rfl (Nat.le_of_ble_eq_true rfl) dX4_ofChildren_62) (c_X5_sides hS3 hj.2) ?_
      refine zr_iadd dX4_ofChildren_65 ?_
      refine zr_istore (ls2 := [(0, .ref (kA c (rB i))), (1, .int (bI least)), (2, .ref wa), (3, .int p.1.1), (4, .int (nI p.2)), (5, .ref it), (6, .ref (kA c (rB j))), (7, .int ((cCW f c j least) + (kSides c j)))]) dX4_ofChildren_66 (Nat.le_of_ble_eq_true rfl) rfl ?_
      have key98 : ∀ a : Int32, a = mAll c i (fun j => cCW f c j least) p.1.1 j → zR G yX4_ofChildren cX4_ofChildren 10 (Option.some Jvm.ClassFile.FieldType.int) [] d 98 [(0, .ref (kA c (rB i))), (1, .int (bI least)), (2, .ref wa), (3, .int a), (4, .int (nI p.2)), (5, .ref it), (6, .ref (kA c (rB j))), (7, .int ((cCW f c j least) + (kSides c j)))] [] σ3 Q := by
        intro a ha
        subst ha
        refine zr_aload_n dX4_ofChildren_98 rfl rfl ?_
        refine zr_iload dX4_ofChildren_99 rfl ?_
        refine zr_aload_n dX4_ofChildren_101 rfl rfl ?_
        refine zr_get (k := 16) (v := .int (kF c i 15)) in_X5 (hS3.bx hi) rfl (Nat.le_of_ble_eq_true rfl) q2125 (.inl rfl) rfl dX4_ofChildren_102 ?_
        refine zr_eqi (z := (nI m)) (hcol) ?_
        refine zr_irem dX4_ofChildren_105 (nI_ne0 (by omega) (by omega)) ?_
        refine zr_eqi (z := (nI (p.2 % m))) (hrem) ?_
        refine zr_aload_n dX4_ofChildren_106 rfl rfl ?_
        refine zr_iload dX4_ofChildren_107 rfl ?_
        refine zr_aload_n dX4_ofChildren_109 rfl rfl ?_
        refine zr_get (k := 16) (v := .int (kF c i 15)) in_X5 (hS3.bx hi) rfl (Nat.le_of_ble_eq_true rfl) q2125 (.inl rfl) rfl dX4_ofChildren_110 ?_
        refine zr_eqi (z := (nI m)) (hcol) ?_
        refine zr_irem dX4_ofChildren_113 (nI_ne0 (by omega) (by omega)) ?_
        refine zr_eqi (z := (nI (p.2 % m))) (hrem) ?_
        refine zr_iald (v := .int (p.1.2 (p.2 % m))) (.new hA3) (vp_in_nI hmod (by omega)) (by rw [nI_clamp (by omega)]) dX4_ofChildren_114 ?_
        refine zr_iload dX4_ofChildren_115 rfl ?_
        refine zr_max (by omega) q2329 q376 q60 q377 (Nat.le_of_ble_eq_true rfl) dX4_ofChildren_117 ?_
        refine zr_iast (f2 := colf c (fun j => cCW f c j least) (kF c i 15) p.1.2 (p.2, j)) hA3 (vp_in_nI hmod (by omega)) (by unfold colf; rw [hcol, hrem, nI_clamp (by omega)]) dX4_ofChildren_120 ?_
        refine zr_iinc (v := nI p.2 + 1) (ls2 := [(0, .ref (kA c (rB i))), (1, .int (bI least)), (2, .ref wa), (3, .int (mAll c i (fun j => cCW f c j least) p.1.1 j)), (4, .int (nI p.2 + 1)), (5, .ref it), (6, .ref (kA c (rB j))), (7, .int ((cCW f c j least) + (kSides c j)))]) dX4_ofChildren_121 rfl rfl (Nat.le_of_ble_eq_true rfl) rfl ?_
        rw [show nI p.2 + 1 = nI (p.2 + 1) from nI_1 p.2]
        refine zr_goto (tgt := 21) dX4_ofChildren_124 (by decide) ?_
        refine zr_sub (ls2 := [(0, .ref (kA c (rB i))), (1, .int (bI least)), (2, .ref wa), (3, .int (mAll c i (fun j => cCW f c j least) p.1.1 j)), (4, .int (nI (p.2 + 1))), (5, .ref it)]) [0, 1, 2, 3, 4, 5] rfl ?_
        exact ih (k + 1) _ _ ((mAll c i (fun j => cCW f c j least) p.1.1 j, colf c (fun j => cCW f c j least) (kF c i 15) p.1.2 (p.2, j)), p.2 + 1) _ hy2 hkl (by show p.2 + 1 ≤ k + 1; omega) (hX4.upNA hA3 hwa) (by omega) (sF_upS _ _ _) ((sF_upN _ _ _ (Ne.symm hne)).trans hI3) kQ
      refine zr_aload_n dX4_ofChildren_68 rfl rfl ?_
      refine zr_get (k := 1) (v := .int (kF c i 2)) in_X5 (hS3.bx hi) rfl (Nat.le_of_ble_eq_true rfl) q2095 (.inl rfl) rfl dX4_ofChildren_69 ?_
      refine zr_bipush (v := 98) dX4_ofChildren_72 (by decide) ?_
      refine zr_icmp_ne (tgt := 84) dX4_ofChildren_74 (by decide) (fun h2 => ?_) (fun h2 => ?_)
      · refine zr_aload_n dX4_ofChildren_84 rfl rfl ?_
        refine zr_get (k := 1) (v := .int (kF c i 2)) in_X5 (hS3.bx hi) rfl (Nat.le_of_ble_eq_true rfl) q2095 (.inl rfl) rfl dX4_ofChildren_85 ?_
        refine zr_bipush (v := 102) dX4_ofChildren_88 (by decide) ?_
        refine zr_icmp_ne (tgt := 98) dX4_ofChildren_90 (by decide) (fun h3 => ?_) (fun h3 => ?_)
        · exact key98 _ (by unfold mAll; rw [if_neg h3, if_neg h2])
        · refine zr_iload_n dX4_ofChildren_93 rfl rfl ?_
          refine zr_iload dX4_ofChildren_94 rfl ?_
          refine zr_iadd dX4_ofChildren_96 ?_
          refine zr_istore_n (ls2 := [(0, .ref (kA c (rB i))), (1, .int (bI least)), (2, .ref wa), (3, .int (p.1.1 + ((cCW f c j least) + (kSides c j)))), (4, .int (nI p.2)), (5, .ref it), (6, .ref (kA c (rB j))), (7, .int ((cCW f c j least) + (kSides c j)))]) dX4_ofChildren_97 rfl (Nat.le_of_ble_eq_true rfl) rfl ?_
          exact key98 _ (by unfold mAll; rw [if_pos (by first | exact h3 | exact Decidable.not_not.mp h3), if_neg h2])
      · refine zr_iload_n dX4_ofChildren_77 rfl rfl ?_
        refine zr_iload dX4_ofChildren_78 rfl ?_
        refine zr_max (by omega) q2329 q376 q60 q377 (Nat.le_of_ble_eq_true rfl) dX4_ofChildren_80 ?_
        refine zr_istore_n (ls2 := [(0, .ref (kA c (rB i))), (1, .int (bI least)), (2, .ref wa), (3, .int (imax p.1.1 ((cCW f c j least) + (kSides c j)))), (4, .int (nI p.2)), (5, .ref it), (6, .ref (kA c (rB j))), (7, .int ((cCW f c j least) + (kSides c j)))]) dX4_ofChildren_83 rfl (Nat.le_of_ble_eq_true rfl) rfl ?_
        refine zr_aload_n dX4_ofChildren_84 rfl rfl ?_
        refine zr_get (k := 1) (v := .int (kF c i 2)) in_X5 (hS3.bx hi) rfl (Nat.le_of_ble_eq_true rfl) q2095 (.inl rfl) rfl dX4_ofChildren_85 ?_
        refine zr_bipush (v := 102) dX4_ofChildren_88 (by decide) ?_
        refine zr_icmp_ne (tgt := 98) dX4_ofChildren_90 (by decide) (fun h3 => ?_) (fun h3 => ?_)
        · exact key98 _ (by unfold mAll; rw [if_neg h3, if_pos (by first | exact h2 | exact Decidable.not_not.mp h2)])
        · refine zr_iload_n dX4_ofChildren_93 rfl rfl ?_
          refine zr_iload dX4_ofChildren_94 rfl ?_
          refine zr_iadd dX4_ofChildren_96 ?_
          refine zr_istore_n (ls2 := [(0, .ref (kA c (rB i))), (1, .int (bI least)), (2, .ref wa), (3, .int ((imax p.1.1 ((cCW f c j least) + (kSides c j))) + ((cCW f c j least) + (kSides c j)))), (4, .int (nI p.2)), (5, .ref it), (6, .ref (kA c (rB j))), (7, .int ((cCW f c j least) + (kSides c j)))]) dX4_ofChildren_97 rfl (Nat.le_of_ble_eq_true rfl) rfl ?_
          exact key98 _ (by unfold mAll; rw [if_pos (by first | exact h3 | exact Decidable.not_not.mp h3), if_pos (by first | exact h2 | exact Decidable.not_not.mp h2)])
    · refine zr_goto (tgt := 21) dX4_ofChildren_51 (by decide) ?_
      refine zr_sub (ls2 := [(0, .ref (kA c (rB i))), (1, .int (bI least)), (2, .ref wa), (3, .int p.1.1), (4, .int (nI p.2)), (5, .ref it)]) [0, 1, 2, 3, 4, 5] rfl ?_
      have e9 : mStp c i (fun j => cCW f c j least) p j = p := if_pos h1
      rw [e9] at kQ
      exact ih (k + 1) n _ p σ2 hy2 hkl (by omega) hX2 (by omega) hA2 hI2 kQ
set_option maxHeartbeats 4000000 in
theorem l_X4_sum {G : zG} {σ : zT} {d m wa : Nat} {g : Nat → Int32} {Q : zO → zT → Prop} (hm4 : m ≤ 4) (hA : sF σ wa = some (aI G m g)) : ∀ (n k : Nat) (a : Int32), k + n = m → Q (.inl (some (.int (sumA g n k a)))) σ → zR G yX4_ofChildren cX4_ofChildren 10 (Option.some Jvm.ClassFile.FieldType.int) [] d 152 [(5, .int a), (6, .ref wa), (7, .int (nI m)), (8, .int (nI k))] [] σ Q := by
  intro n
  induction n with
  | zero =>
    intro k a hk kQ
    refine zr_iload dX4_ofChildren_152 rfl ?_
    refine zr_iload dX4_ofChildren_154 rfl ?_
    refine zr_icmp_ge (tgt := 179) dX4_ofChildren_156 (by decide) (fun _ => ?_) (fun h9 => absurd (by rw [show k = m by omega]; exact Int32.le_refl _) h9)
    refine zr_iload dX4_ofChildren_179 rfl ?_
    exact zr_iret rfl rfl dX4_ofChildren_181 (kQ)
  | succ n ih =>
    intro k a hk kQ
    refine zr_iload dX4_ofChildren_152 rfl ?_
    refine zr_iload dX4_ofChildren_154 rfl ?_
    refine zr_icmp_ge (tgt := 179) dX4_ofChildren_156 (by decide) (fun h9 => absurd h9 (Int32.not_le.mpr ((nI_ltI (by omega) (by omega)).mpr (show k < m by omega)))) (fun _ => ?_)
    refine zr_aload dX4_ofChildren_159 rfl ?_
    refine zr_iload dX4_ofChildren_161 rfl ?_
    refine zr_iald (v := .int (g k)) (.new hA) (vp_in_nI (by omega) (by omega)) (by rw [nI_clamp (by omega)]) dX4_ofChildren_163 ?_
    refine zr_istore (ls2 := [(5, .int a), (6, .ref wa), (7, .int (nI m)), (8, .int (nI k)), (9, .int (g k))]) dX4_ofChildren_164 (Nat.le_of_ble_eq_true rfl) rfl ?_
    refine zr_iload dX4_ofChildren_166 rfl ?_
    refine zr_iload dX4_ofChildren_168 rfl ?_
    refine zr_iadd dX4_ofChildren_170 ?_
    refine zr_istore (ls2 := [(5, .int (a + (g k))), (6, .ref wa), (7, .int (nI m)), (8, .int (nI k)), (9, .int (g k))]) dX4_ofChildren_171 (Nat.le_of_ble_eq_true rfl) rfl ?_
    refine zr_iinc (v := nI k + 1) (ls2 := [(5, .int (a + (g k))), (6, .ref wa), (7, .int (nI m)), (8, .int (nI k + 1)), (9, .int (g k))]) dX4_ofChildren_173 rfl rfl (Nat.le_of_ble_eq_true rfl) rfl ?_
    rw [show nI k + 1 = nI (k + 1) from nI_1 k]
    refine zr_goto (tgt := 152) dX4_ofChildren_176 (by decide) ?_
    refine zr_sub (ls2 := [(5, .int (a + (g k))), (6, .ref wa), (7, .int (nI m)), (8, .int (nI (k + 1)))]) [0, 1, 2, 3] rfl ?_
    exact ih (k + 1) (a + g k) (by omega) kQ
set_option maxHeartbeats 4000000 in
theorem c_X4_ofChildren {G : zG} {σ : zT} {d : Nat} {c : zCS} {th ct : Int32} {i f : Nat} {least : Bool} (hd : 8 ≤ d) (hG : zOk G) (hw : zGd G σ) (hS : MSys G σ c th ct) (hi : i < kN c) (hf : kN c ≤ f + 1 + i) (hB : HBd G c th ct least f (d - 1)) : zCall G I_X4_ofChildren d [.ref (kA c (rB i)), .int (bI least)] σ ((fun o σ' => o = .inl (some (.int (mOfC c i (fun j => cCW f c j least)))) ∧ zX G S0 σ σ' (20 + ((kCh c i).map (fun j => KW f c j)).sum))) := by
  refine zCall_of (ls := [(0, .ref (kA c (rB i))), (1, .int (bI least))]) (by decide) (Nat.le_of_ble_eq_true rfl) rfl ?_
  obtain ⟨m, hm1, hm4, hcol⟩ : ∃ m, 1 ≤ m ∧ m ≤ 4 ∧ kF c i 15 = nI m := hS.val hi 15
  obtain ⟨flc, hflc⟩ := (hS.chL hi).A
  refine zr_aload_n dX4_ofChildren_0 rfl rfl ?_
  refine zr_get (k := 16) (v := .int (kF c i 15)) in_X5 (hS.bx hi) rfl (Nat.le_of_ble_eq_true rfl) q2125 (.inl rfl) rfl dX4_ofChildren_1 ?_
  refine zr_eqi (z := (nI m)) (hcol) ?_
  refine zr_newaI (N' := m) 0 q1302 (nI_pos (by omega)) (nI_clamp (by omega)) (by omega) dX4_ofChildren_4 ?_
  have hX0 := zX.new S0 hw 0 (by omega) (aI G m (fun _ => 0)) m
  have hA0 : sF (sNew σ 0 (aI G m (fun _ => 0)) m) (sZ σ) = _ := sF_newS _ _ _ _
  generalize hσ1 : sNew σ 0 (aI G m (fun _ => 0)) m = σ1 at hX0 hA0 ⊢
  have hS1 := hS.keep0 hw hX0
  obtain ⟨flc1, hflc1⟩ := (hS1.chL hi).A
  refine zr_astore_n (ls2 := [(0, .ref (kA c (rB i))), (1, .int (bI least)), (2, .ref (sZ σ))]) dX4_ofChildren_6 rfl (Nat.le_of_ble_eq_true rfl) rfl ?_
  refine zr_iconst (v := 0) dX4_ofChildren_7 (by decide) ?_
  refine zr_istore_n (ls2 := [(0, .ref (kA c (rB i))), (1, .int (bI least)), (2, .ref (sZ σ)), (3, .int 0)]) dX4_ofChildren_8 rfl (Nat.le_of_ble_eq_true rfl) rfl ?_
  refine zr_iconst (v := 0) dX4_ofChildren_9 (by decide) ?_
  refine zr_istore (ls2 := [(0, .ref (kA c (rB i))), (1, .int (bI least)), (2, .ref (sZ σ)), (3, .int 0), (4, .int 0)]) dX4_ofChildren_10 (Nat.le_of_ble_eq_true rfl) rfl ?_
  refine zr_aload_n dX4_ofChildren_12 rfl rfl ?_
  refine zr_get (k := 4) (v := .ref (kA c (rC i))) in_X5 (hS1.bx hi) rfl (Nat.le_of_ble_eq_true rfl) q2101 (.inl rfl) rfl dX4_ofChildren_13 ?_
  refine zr_call1 (rest := []) (zs_V (As := []) (by omega) ok_J2_iterator q2322 q834 q2841 q56 q836 rfl hflc1 rfl rfl rfl (Nat.le_of_ble_eq_true rfl) dX4_ofChildren_16) (c_J2_iterator (by omega) hX0.gd.1 (hS1.chL hi)) ?_
  refine zr_astore (ls2 := [(0, .ref (kA c (rB i))), (1, .int (bI least)), (2, .ref (sZ σ)), (3, .int 0), (4, .int 0), (5, .ref (sZ σ1))]) dX4_ofChildren_19 (Nat.le_of_ble_eq_true rfl) rfl ?_
  have hXn := zX.new S0 hX0.gd 0 (by omega) (.inr (21, [.int 0, .int (-1), .int (kM c (rC i)), .ref (kA c (rC i))])) 4
  refine l_X4_kids (σ := σ) (N := 20 + ((kCh c i).map (fun j => KW f c j)).sum) (by omega) hG hw hS hi hf hX0.sz (Nat.le_refl _) hm1 hm4 hcol hB (kCh c i) 0 _ (-1) ((0, fun _ => 0), 0) _ rfl (Nat.zero_le _) (Nat.le_refl _) (hX0.trans hXn) (by omega) (hXn.f hX0.gd hA0 (fun h => h)) (sF_newS _ _ _ _) (fun σ2 x2 a2 => ?_)
  have hS2 := hS.keep0 hw x2
  show zR G yX4_ofChildren cX4_ofChildren 10 (Option.some Jvm.ClassFile.FieldType.int) [] d 127 [(0, .ref (kA c (rB i))), (2, .ref (sZ σ)), (3, .int (mKids c i (fun j => cCW f c j least)).1.1)] [] σ2 _
  refine zr_aload_n dX4_ofChildren_127 rfl rfl ?_
  refine zr_get (k := 1) (v := .int (kF c i 2)) in_X5 (hS2.bx hi) rfl (Nat.le_of_ble_eq_true rfl) q2095 (.inl rfl) rfl dX4_ofChildren_128 ?_
  refine zr_bipush (v := 103) dX4_ofChildren_131 (by decide) ?_
  refine zr_icmp_eq (tgt := 138) dX4_ofChildren_133 (by decide) (fun h1 => ?_) (fun h1 => ?_)
  · refine zr_iconst (v := 0) dX4_ofChildren_138 (by decide) ?_
    refine zr_istore (ls2 := [(0, .ref (kA c (rB i))), (2, .ref (sZ σ)), (3, .int (mKids c i (fun j => cCW f c j least)).1.1), (5, .int 0)]) dX4_ofChildren_139 (Nat.le_of_ble_eq_true rfl) rfl ?_
    refine zr_aload_n dX4_ofChildren_141 rfl rfl ?_
    refine zr_astore (ls2 := [(0, .ref (kA c (rB i))), (2, .ref (sZ σ)), (3, .int (mKids c i (fun j => cCW f c j least)).1.1), (5, .int 0), (6, .ref (sZ σ))]) dX4_ofChildren_142 (Nat.le_of_ble_eq_true rfl) rfl ?_
    refine zr_aload dX4_ofChildren_144 rfl ?_
    refine zr_alenI (v := nI m) (.new a2) rfl dX4_ofChildren_146 ?_
    refine zr_istore (ls2 := [(0, .ref (kA c (rB i))), (2, .ref (sZ σ)), (3, .int (mKids c i (fun j => cCW f c j least)).1.1), (5, .int 0), (6, .ref (sZ σ)), (7, .int (nI m))]) dX4_ofChildren_147 (Nat.le_of_ble_eq_true rfl) rfl ?_
    refine zr_iconst (v := 0) dX4_ofChildren_149 (by decide) ?_
    refine zr_istore (ls2 := [(0, .ref (kA c (rB i))), (2, .ref (sZ σ)), (3, .int (mKids c i (fun j => cCW f c j least)).1.1), (5, .int 0), (6, .ref (sZ σ)), (7, .int (nI m)), (8, .int 0)]) dX4_ofChildren_150 (Nat.le_of_ble_eq_true rfl) rfl ?_
    refine zr_sub (ls2 := [(5, .int 0), (6, .ref (sZ σ)), (7, .int (nI m)), (8, .int 0)]) [3, 4, 5, 6] rfl ?_
    refine l_X4_sum hm4 a2 m 0 0 (by omega) ⟨?_, x2⟩
    unfold mOfC
    rw [if_pos (by first | exact h1 | exact Decidable.not_not.mp h1), hcol, nI_clamp (by omega)]
    rfl
  · refine zr_iload_n dX4_ofChildren_136 rfl rfl ?_
    exact zr_iret rfl rfl dX4_ofChildren_137 (⟨by unfold mOfC; rw [if_neg h1], x2⟩)
set_option maxHeartbeats 4000000 in
theorem c_X4_bound {G : zG} {c : zCS} {th ct : Int32} (hG : zOk G) (least : Bool) : ∀ (f d : Nat), 2 * f + 12 ≤ d → HBd G c th ct least f d := by
  intro f
  induction f with
  | zero => intro d hd σ i hw hS hi hf; omega
  | succ f ih =>
    intro d hd σ i hw hS hi hf
    have htg := told_ge hS.k hi
    have hsum : ((kCh c i).map (fun j => KW f c j + 80)).sum = ((kCh c i).map (fun j => KW f c j)).sum + 80 * (kCh c i).length := sum_add_const
    refine zCall_of (ls := [(0, .ref (kA c (rB i))), (1, .int (bI least))]) (by decide) (Nat.le_of_ble_eq_true rfl) rfl ?_
    refine zr_aload_n dX4_bound_0 rfl rfl ?_
    refine zr_call1 (rest := []) (zs_V (As := []) (by omega) ok_X5_told q2315 q2316 q2317 q78 q2318 rfl (hS.bx hi) rfl rfl rfl (Nat.le_of_ble_eq_true rfl) dX4_bound_1) (c_X5_told hS hi) ?_
    refine zr_if_lt (tgt := 12) dX4_bound_4 (by decide) (fun h1 => ?_) (fun h1 => ?_)
    · have h2 : ¬ kTold c i ≠ -1 := fun h => absurd (htg.mpr h) (by first | exact Int32.not_le.mpr h1 | exact h1)
      refine zr_iconst (v := 2) dX4_bound_12 (by decide) ?_
      refine zr_aload_n dX4_bound_13 rfl rfl ?_
      refine zr_get (k := 13) (v := .int (kF c i 12)) in_X5 (hS.bx hi) rfl (Nat.le_of_ble_eq_true rfl) q2119 (.inl rfl) rfl dX4_bound_14 ?_
      refine zr_imul dX4_bound_17 ?_
      refine zr_aload_n dX4_bound_18 rfl rfl ?_
      refine zr_get (k := 1) (v := .int (kF c i 2)) in_X5 (hS.bx hi) rfl (Nat.le_of_ble_eq_true rfl) q2095 (.inl rfl) rfl dX4_bound_19 ?_
      refine zr_bipush (v := 116) dX4_bound_22 (by decide) ?_
      refine zr_icmp_ne (tgt := 35) dX4_bound_24 (by decide) (fun h3 => ?_) (fun h3 => ?_)
      · have hT : kText c i = false := decide_eq_false h3
        obtain ⟨_, σ1, ⟨rfl, hX1⟩, hC⟩ := c_X4_ofChildren (d := d - 1) (f := f) (least := least) (by omega) hG hw hS hi (by omega) (ih (d - 1 - 1) (by omega))
        rw [← mOfC_eq (f := f) (least := least) (hS.val hi 2) h2 hT]
        refine zr_aload_n dX4_bound_35 rfl rfl ?_
        refine zr_iload_n dX4_bound_36 rfl rfl ?_
        refine zr_call1 (rest := [.int (2 * (kF c i 12))]) (zs_S (As := [.ref (kA c (rB i)), .int (bI least)]) (by omega) ok_X4_ofChildren q2330 q2331 q77 q2332 rfl rfl (Nat.le_of_ble_eq_true rfl) dX4_bound_37) hC ?_
        refine zr_iadd dX4_bound_40 ?_
        exact zr_iret rfl rfl dX4_bound_41 (⟨rfl, hX1.le (by rw [KW_succ]; omega)⟩)
      · have hT : kText c i = true := decide_eq_true (by first | exact h3 | exact Decidable.not_not.mp h3)
        rw [show cCW (f + 1) c i least = 2 * kF c i 12 + cTW (kWd c i) least from (if_neg h2).trans (if_pos hT)]
        obtain ⟨_, σ1, ⟨rfl, hX1⟩, hC⟩ := c_X4_ofText (d := d - 1) (least := least) (by omega) hG hw hS hi
        refine zr_aload_n dX4_bound_27 rfl rfl ?_
        refine zr_iload_n dX4_bound_28 rfl rfl ?_
        refine zr_call1 (rest := [.int (2 * (kF c i 12))]) (zs_S (As := [.ref (kA c (rB i)), .int (bI least)]) (by omega) ok_X4_ofText q2319 q2320 q77 q2321 rfl rfl (Nat.le_of_ble_eq_true rfl) dX4_bound_29) hC ?_
        refine zr_goto (tgt := 40) dX4_bound_32 (by decide) ?_
        refine zr_iadd dX4_bound_40 ?_
        exact zr_iret rfl rfl dX4_bound_41 (⟨rfl, hX1.le (by rw [KW_succ]; omega)⟩)
    · have h2 : kTold c i ≠ -1 := htg.mp (by first | exact Int32.not_lt.mp h1 | exact h1)
      rw [show cCW (f + 1) c i least = kTold c i from if_pos h2]
      refine zr_aload_n dX4_bound_7 rfl rfl ?_
      refine zr_call1 (rest := []) (zs_V (As := []) (by omega) ok_X5_told q2315 q2316 q2317 q78 q2318 rfl (hS.bx hi) rfl rfl rfl (Nat.le_of_ble_eq_true rfl) dX4_bound_8) (c_X5_told hS hi) ?_
      exact zr_iret rfl rfl dX4_bound_11 (⟨rfl, zX.rf _ hw _⟩)
theorem c_mW {G : zG} {σ : zT} {d : Nat} {c : zCS} {th ct : Int32} {i : Nat} (least : Bool) (hd : 60 ≤ d) (hG : zOk G) (hw : zGd G σ) (hS : MSys G σ c th ct) (hi : i < kN c) : zCall G I_X4_bound d [.ref (kA c (rB i)), .int (bI least)] σ (fun o σ' => o = .inl (some (.int (cW c i least))) ∧ zX G S0 σ σ' (KW 24 c i)) :=
  c_X4_bound hG least 24 d (by omega) σ i hw hS hi (by have := hS.le; omega)
set_option maxHeartbeats 4000000 in
theorem c_X4_fits {G : zG} {σ : zT} {d : Nat} {c : zCS} {th ct : Int32} {i : Nat} {wd : Int32} (hd : 62 ≤ d) (hG : zOk G) (hw : zGd G σ) (hS : MSys G σ c th ct) (hi : i < kN c) : zCall G I_X4_fits d [.ref (kA c (rB i)), .int wd] σ ((fun o σ' => o = .inl (some (.int (cFit c i wd))) ∧ zX G S0 σ σ' (2 * KW 24 c i))) := by
  refine zCall_of (ls := [(0, .ref (kA c (rB i))), (1, .int wd)]) (by decide) (Nat.le_of_ble_eq_true rfl) rfl ?_
  have htg := told_ge hS.k hi
  refine zr_aload_n dX4_fits_0 rfl rfl ?_
  refine zr_call1 (rest := []) (zs_V (As := []) (by omega) ok_X5_told q2315 q2316 q2317 q78 q2318 rfl (hS.bx hi) rfl rfl rfl (Nat.le_of_ble_eq_true rfl) dX4_fits_1) (c_X5_told hS hi) ?_
  refine zr_if_lt (tgt := 14) dX4_fits_4 (by decide) (fun h1 => ?_) (fun h1 => ?_)
  · have h2 : ¬ kTold c i ≠ -1 := fun h => absurd (htg.mpr h) (by first | exact Int32.not_le.mpr h1 | exact h1)
    rw [show cFit c i wd = imax (cW c i true) (imin (cW c i false) wd) from if_neg h2]
    obtain ⟨_, σ1, ⟨rfl, hX1⟩, hC1⟩ := c_mW (d := d - 1) true (by omega) hG hw hS hi
    have hS1 := hS.keep0 hw hX1
    obtain ⟨_, σ2, ⟨rfl, hX2⟩, hC2⟩ := c_mW (d := d - 1) false (by omega) hG hX1.gd hS1 hi
    refine zr_aload_n dX4_fits_14 rfl rfl ?_
    refine zr_iconst (v := 1) dX4_fits_15 (by decide) ?_
    refine zr_call1 (rest := []) (zs_S (As := [.ref (kA c (rB i)), .int 1]) (by omega) ok_X4_bound q2312 q2313 q77 q2314 rfl rfl (Nat.le_of_ble_eq_true rfl) dX4_fits_16) hC1 ?_
    refine zr_aload_n dX4_fits_19 rfl rfl ?_
    refine zr_iconst (v := 0) dX4_fits_20 (by decide) ?_
    refine zr_call1 (rest := [.int (cW c i true)]) (zs_S (As := [.ref (kA c (rB i)), .int 0]) (by omega) ok_X4_bound q2312 q2313 q77 q2314 rfl rfl (Nat.le_of_ble_eq_true rfl) dX4_fits_21) hC2 ?_
    refine zr_iload_n dX4_fits_24 rfl rfl ?_
    refine zr_min (by omega) q2376 q431 q60 q432 (Nat.le_of_ble_eq_true rfl) dX4_fits_25 ?_
    refine zr_max (by omega) q2329 q376 q60 q377 (Nat.le_of_ble_eq_true rfl) dX4_fits_28 ?_
    exact zr_iret rfl rfl dX4_fits_31 (⟨rfl, (hX1.trans hX2).le (by omega)⟩)
  · have h2 : kTold c i ≠ -1 := htg.mp (by first | exact Int32.not_lt.mp h1 | exact h1)
    rw [show cFit c i wd = kTold c i from if_pos h2]
    refine zr_aload_n dX4_fits_7 rfl rfl ?_
    refine zr_call1 (rest := []) (zs_V (As := []) (by omega) ok_X5_told q2315 q2316 q2317 q78 q2318 rfl (hS.bx hi) rfl rfl rfl (Nat.le_of_ble_eq_true rfl) dX4_fits_8) (c_X5_told hS hi) ?_
    refine zr_goto (tgt := 31) dX4_fits_11 (by decide) ?_
    exact zr_iret rfl rfl dX4_fits_31 (⟨rfl, zX.rf _ hw _⟩)
set_option maxHeartbeats 4000000 in
theorem c_X4_inner {G : zG} {σ : zT} {d : Nat} {c : zCS} {th ct : Int32} {i : Nat} (hd : 1 ≤ d) (hS : MSys G σ c th ct) (hi : i < kN c) : zC G I_X4_inner d [.ref (kA c (rB i))] σ (.inl (some (.int (kInner c i)))) σ := by
  refine zCall.exact (zCall_of (ls := [(0, .ref (kA c (rB i)))]) (by decide) (Nat.le_of_ble_eq_true rfl) rfl ?_)
  refine zr_iconst (v := 0) dX4_inner_0 (by decide) ?_
  refine zr_aload_n dX4_inner_1 rfl rfl ?_
  refine zr_get (k := 29) (v := .int (kP c i 2)) in_X5 (hS.bx hi) rfl (Nat.le_of_ble_eq_true rfl) q2151 (.inl rfl) rfl dX4_inner_2 ?_
  refine zr_iconst (v := 2) dX4_inner_5 (by decide) ?_
  refine zr_aload_n dX4_inner_6 rfl rfl ?_
  refine zr_get (k := 13) (v := .int (kF c i 12)) in_X5 (hS.bx hi) rfl (Nat.le_of_ble_eq_true rfl) q2119 (.inl rfl) rfl dX4_inner_7 ?_
  refine zr_imul dX4_inner_10 ?_
  refine zr_isub dX4_inner_11 ?_
  refine zr_max (by omega) q2329 q376 q60 q377 (Nat.le_of_ble_eq_true rfl) dX4_inner_12 ?_
  exact zr_iret rfl rfl dX4_inner_15 (⟨rfl, rfl⟩)
theorem KW_LM {c : zCS} {i : Nat} (hi : i < kN c) : KW 24 c i ≤ KM c := KW_LA hi
set_option maxHeartbeats 4000000 in
theorem c_X4_leastWidth {G : zG} {σ : zT} {d : Nat} {c : zCS} {th ct : Int32} {n : Int32} (hd : 84 ≤ d) (hG : zOk G) (hw : zGd G σ) (hS : MSys G σ c th ct) : zCall G I_X4_leastWidth d [.ref (kA c 1), .int n] σ ((fun o σ' => oM o (pBox c n (fun i => (0, .int (cW c i true)))) ∧ MSys G σ' c (nI (pBox c n (fun i => (0, .int (cW c i true)))).1) ct ∧ zX G SM σ σ' (10 + KM c))) := by
  refine zCall_of (ls := [(0, .ref (kA c 1)), (1, .int n)]) (by decide) (Nat.le_of_ble_eq_true rfl) rfl ?_
  have hle := hS.le
  refine zr_aload_n dX4_leastWidth_0 rfl rfl ?_
  refine zr_iload_n dX4_leastWidth_1 rfl rfl ?_
  refine zr_iconst (v := 1) dX4_leastWidth_2 (by decide) ?_
  show zR G yX4_leastWidth cX4_leastWidth 2 (Option.some Jvm.ClassFile.FieldType.int) [] d 3 [(0, .ref (kA c 1)), (1, .int n)] [.int (bI true), .int n, .ref (kA c 1)] σ _
  refine zr_call1 (rest := []) (zs_V (As := [.int n, .int (bI true)]) (by omega) ok_X4_wrong q2259 q2261 qs38 q77 q2262 rfl hS.one rfl rfl rfl (Nat.le_of_ble_eq_true rfl) dX4_leastWidth_3) (c_X4_wrong (n := n) (b := true) (by omega) hS) ?_
  have hX1 := hS.XO hw (mO c (nI (mWr c n true)) ct)
  have hS1 := hS.setT (nI (mWr c n true))
  generalize hσ1 : sUp σ (kA c 1) (.inr (4, mO c (nI (mWr c n true)) ct)) = σ1 at hX1 hS1 ⊢
  by_cases hb : btw n 0 (nI (kN c) - 1) = true
  · obtain ⟨i, hi, rfl⟩ := btw_idx (by omega) hb
    rw [show mWr c (nI i) true = 0 from by unfold mWr; rw [if_pos hb]; rfl] at hS1 ⊢
    rw [pBox_1 hle hi]
    have hKL := KW_LA hi
    show zR G yX4_leastWidth cX4_leastWidth 2 (Option.some Jvm.ClassFile.FieldType.int) [] d 6 [(0, .ref (kA c 1)), (1, .int (nI i))] [.int 0] σ1 _
    refine zr_if_le (tgt := 13) dX4_leastWidth_6 (by decide) (fun _ => ?_) (fun h9 => absurd (by decide) h9)
    obtain ⟨fl_hfl, hfl⟩ := hS1.bxL.A
    refine zr_aload_n dX4_leastWidth_13 rfl rfl ?_
    refine zr_get (k := 0) (v := .ref (kA c 2)) in_X4 hS1.one rfl (Nat.le_of_ble_eq_true rfl) q2218 (.inl rfl) rfl dX4_leastWidth_14 ?_
    refine zr_iload_n dX4_leastWidth_17 rfl rfl ?_
    refine zr_call1 (rest := []) (zs_V (As := [.int (nI i)]) (by omega) ok_J2_get q2250 q959 q2840 q56 q960 rfl hfl rfl rfl rfl (Nat.le_of_ble_eq_true rfl) dX4_leastWidth_18) (c_J2_get (by omega) hG hS1.bxL (MSys.bxa hi)) ?_
    refine zr_castS (hS1.bx hi) rfl q2084 dX4_leastWidth_21 ?_
    refine zr_iconst (v := 1) dX4_leastWidth_24 (by decide) ?_
    obtain ⟨_, σ2, ⟨rfl, hX2⟩, hC⟩ := c_mW (d := d - 1) true (by omega) hG hX1.gd hS1 hi
    show zR G yX4_leastWidth cX4_leastWidth 2 (Option.some Jvm.ClassFile.FieldType.int) [] d 25 [(0, .ref (kA c 1)), (1, .int (nI i))] [.int (bI true), .ref (kA c (rB i))] σ1 _
    refine zr_call1 (rest := []) (zs_S (As := [.ref (kA c (rB i)), .int (bI true)]) (by omega) ok_X4_bound q2312 q2313 q77 q2314 rfl rfl (Nat.le_of_ble_eq_true rfl) dX4_leastWidth_25) hC ?_
    exact zr_iret rfl rfl dX4_leastWidth_28 (⟨⟨_, rfl, fun _ => rfl⟩, hS1.keep0 hX1.gd hX2, (hX1.trans hX2.in).le (by omega)⟩)
  · have hb0 : btw n 0 (nI (kN c) - 1) = false := by simpa using hb
    rw [show mWr c n true = 1 from if_neg hb] at hS1 ⊢
    rw [pBox_0 hb0]
    show zR G yX4_leastWidth cX4_leastWidth 2 (Option.some Jvm.ClassFile.FieldType.int) [] d 6 [(0, .ref (kA c 1)), (1, .int n)] [.int 1] σ1 _
    refine zr_if_le (tgt := 13) dX4_leastWidth_6 (by decide) (fun h9 => absurd h9 (by decide)) (fun _ => ?_)
    refine zr_iconst (v := 0) dX4_leastWidth_9 (by decide) ?_
    refine zr_goto (tgt := 28) dX4_leastWidth_10 (by decide) ?_
    exact zr_iret rfl rfl dX4_leastWidth_28 (⟨⟨_, rfl, fun h => by cases h⟩, hS1, hX1.le (by omega)⟩)
set_option maxHeartbeats 4000000 in
theorem c_X4_greatestWidth {G : zG} {σ : zT} {d : Nat} {c : zCS} {th ct : Int32} {n : Int32} (hd : 84 ≤ d) (hG : zOk G) (hw : zGd G σ) (hS : MSys G σ c th ct) : zCall G I_X4_greatestWidth d [.ref (kA c 1), .int n] σ ((fun o σ' => oM o (pBox c n (fun i => (0, .int (cW c i false)))) ∧ MSys G σ' c (nI (pBox c n (fun i => (0, .int (cW c i false)))).1) ct ∧ zX G SM σ σ' (10 + KM c))) := by
  refine zCall_of (ls := [(0, .ref (kA c 1)), (1, .int n)]) (by decide) (Nat.le_of_ble_eq_true rfl) rfl ?_
  have hle := hS.le
  refine zr_aload_n dX4_greatestWidth_0 rfl rfl ?_
  refine zr_iload_n dX4_greatestWidth_1 rfl rfl ?_
  refine zr_iconst (v := 1) dX4_greatestWidth_2 (by decide) ?_
  show zR G yX4_greatestWidth cX4_greatestWidth 2 (Option.some Jvm.ClassFile.FieldType.int) [] d 3 [(0, .ref (kA c 1)), (1, .int n)] [.int (bI true), .int n, .ref (kA c 1)] σ _
  refine zr_call1 (rest := []) (zs_V (As := [.int n, .int (bI true)]) (by omega) ok_X4_wrong q2259 q2261 qs38 q77 q2262 rfl hS.one rfl rfl rfl (Nat.le_of_ble_eq_true rfl) dX4_greatestWidth_3) (c_X4_wrong (n := n) (b := true) (by omega) hS) ?_
  have hX1 := hS.XO hw (mO c (nI (mWr c n true)) ct)
  have hS1 := hS.setT (nI (mWr c n true))
  generalize hσ1 : sUp σ (kA c 1) (.inr (4, mO c (nI (mWr c n true)) ct)) = σ1 at hX1 hS1 ⊢
  by_cases hb : btw n 0 (nI (kN c) - 1) = true
  · obtain ⟨i, hi, rfl⟩ := btw_idx (by omega) hb
    rw [show mWr c (nI i) true = 0 from by unfold mWr; rw [if_pos hb]; rfl] at hS1 ⊢
    rw [pBox_1 hle hi]
    have hKL := KW_LA hi
    show zR G yX4_greatestWidth cX4_greatestWidth 2 (Option.some Jvm.ClassFile.FieldType.int) [] d 6 [(0, .ref (kA c 1)), (1, .int (nI i))] [.int 0] σ1 _
    refine zr_if_le (tgt := 13) dX4_greatestWidth_6 (by decide) (fun _ => ?_) (fun h9 => absurd (by decide) h9)
    obtain ⟨fl_hfl, hfl⟩ := hS1.bxL.A
    refine zr_aload_n dX4_greatestWidth_13 rfl rfl ?_
    refine zr_get (k := 0) (v := .ref (kA c 2)) in_X4 hS1.one rfl (Nat.le_of_ble_eq_true rfl) q2218 (.inl rfl) rfl dX4_greatestWidth_14 ?_
    refine zr_iload_n dX4_greatestWidth_17 rfl rfl ?_
    refine zr_call1 (rest := []) (zs_V (As := [.int (nI i)]) (by omega) ok_J2_get q2250 q959 q2840 q56 q960 rfl hfl rfl rfl rfl (Nat.le_of_ble_eq_true rfl) dX4_greatestWidth_18) (c_J2_get (by omega) hG hS1.bxL (MSys.bxa hi)) ?_
    refine zr_castS (hS1.bx hi) rfl q2084 dX4_greatestWidth_21 ?_
    refine zr_iconst (v := 0) dX4_greatestWidth_24 (by decide) ?_
    obtain ⟨_, σ2, ⟨rfl, hX2⟩, hC⟩ := c_mW (d := d - 1) false (by omega) hG hX1.gd hS1 hi
    show zR G yX4_greatestWidth cX4_greatestWidth 2 (Option.some Jvm.ClassFile.FieldType.int) [] d 25 [(0, .ref (kA c 1)), (1, .int (nI i))] [.int (bI false), .ref (kA c (rB i))] σ1 _
    refine zr_call1 (rest := []) (zs_S (As := [.ref (kA c (rB i)), .int (bI false)]) (by omega) ok_X4_bound q2312 q2313 q77 q2314 rfl rfl (Nat.le_of_ble_eq_true rfl) dX4_greatestWidth_25) hC ?_
    exact zr_iret rfl rfl dX4_greatestWidth_28 (⟨⟨_, rfl, fun _ => rfl⟩, hS1.keep0 hX1.gd hX2, (hX1.trans hX2.in).le (by omega)⟩)
  · have hb0 : btw n 0 (nI (kN c) - 1) = false := by simpa using hb
    rw [show mWr c n true = 1 from if_neg hb] at hS1 ⊢
    rw [pBox_0 hb0]
    show zR G yX4_greatestWidth cX4_greatestWidth 2 (Option.some Jvm.ClassFile.FieldType.int) [] d 6 [(0, .ref (kA c 1)), (1, .int n)] [.int 1] σ1 _
    refine zr_if_le (tgt := 13) dX4_greatestWidth_6 (by decide) (fun h9 => absurd h9 (by decide)) (fun _ => ?_)
    refine zr_iconst (v := 0) dX4_greatestWidth_9 (by decide) ?_
    refine zr_goto (tgt := 28) dX4_greatestWidth_10 (by decide) ?_
    exact zr_iret rfl rfl dX4_greatestWidth_28 (⟨⟨_, rfl, fun h => by cases h⟩, hS1, hX1.le (by omega)⟩)
