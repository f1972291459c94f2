/-! ===== the component: hit, area (rows printed by tools/p83.py) ===== -/
def hitS (c : zCS) (x y : Int32) (b : Option Nat) (j : Nat) : Option Nat :=
  if (isIn x (kXY 0 24 c j) (kP c j 2) && isIn y (kXY 1 24 c j) (kP c j 3)) = true then (match b with | none => some j | some q => if kF c j 20 < kF c q 20 then b else some j) else b
def pHit (c : zCS) (x y : Int32) : Nat × Value := if kLw c = -1 then (3, .null) else match (List.range (kN c)).foldl (hitS c x y) none with
  | none => (5, .null)
  | some j => (0, .int (nI j))
def bA_ (c : zCS) (b : Option Nat) : Option Nat := b.map (fun q => kA c (rB q))
def pArea (c : zCS) : Nat × Value := if kLw c = -1 then (3, .null) else (0, .long ((List.range (kN c)).foldl (fun s j => s + (kP c j 2).toInt64 * (kP c j 3).toInt64) 0))
theorem zr_eqv {G : zG} {y : MethodName} {cc : ByteArray} {nL : Nat} {ret : Option FieldType} {hh : List (Nat × Nat × Nat × Nat)} {d pc : Nat} {ls : List (Nat × Value)} {st : List Value} {σ : zT} {Q : zO → zT → Prop} {x z : Value} (h : x = z) (k : zR G y cc nL ret hh d pc ls (z :: st) σ Q) : zR G y cc nL ret hh d pc ls (x :: st) σ Q := by rw [h]; exact k
set_option maxHeartbeats 4000000 in
theorem l_X1_hit {G : zG} {σ : zT} {d m : Nat} {c : zCS} {x y : Int32} {it : Nat} {Q : zO → zT → Prop} (hd : 40 ≤ d) (hG : zOk G) (hw : zGd G σ) (hS : CSys G σ c) (hit : sZ σ ≤ it) : ∀ (ys : List Nat) (k : Nat) (lr : Int32) (b : Option Nat) (σ1 : zT), (List.range (kN c)).drop k = ys → k ≤ kN c → (∀ q, b = some q → q < kN c) → zX G S0 σ σ1 m → sF σ1 it = some (.inr (21, [.int (nI k), .int lr, .int (kM c 2), .ref (kA c 2)])) → (∀ σ2, zX G S0 σ σ2 m → (∀ q, (ys.foldl (hitS c x y) b) = some q → q < kN c) → zR G yX1_hit cX1_hit 7 (Option.some Jvm.ClassFile.FieldType.int) [] d 129 [(0, .ref (kA c 1)), (1, .int x), (2, .int y), (3, va_rf (bA_ c (ys.foldl (hitS c x y) b))), (4, .ref it)] [] σ2 Q) → zR G yX1_hit cX1_hit 7 (Option.some Jvm.ClassFile.FieldType.int) [] d 29 [(0, .ref (kA c 1)), (1, .int x), (2, .int y), (3, va_rf (bA_ c b)), (4, .ref it)] [] σ1 Q := by
  intro ys
  induction ys with
  | nil =>
    intro k lr b σ1 hy hk hb hX hI kQ
    have hS1 := hS.keep0 hw hX
    have hkl := drop_nil hy (by rw [List.length_range]; exact hk)
    rw [List.length_range] at hkl
    refine zr_aload dX1_hit_29 rfl ?_
    refine zr_call51 (rest := []) (zs_F (As := []) (by omega) okF_J23_hasNext (by decide +kernel) q916 q927 q929 q84 q931 (.new hI) rfl rfl rfl (Nat.le_of_ble_eq_true rfl) dX1_hit_31) (c_hasNext0 hS1.bxL hI (by rw [CSys.bxl]; exact hkl)) ?_
    refine zr_if_eq (tgt := 129) dX1_hit_36 (by decide) (fun _ => ?_) (fun h9 => absurd (rfl) h9)
    exact kQ σ1 hX hb
  | cons j ys ih =>
    intro k lr b σ1 hy hk hb hX hI kQ
    have hS1 := hS.keep0 hw hX
    have hle := hS.le
    obtain ⟨hx, hy2, hkl, hm⟩ := drop_cons hy
    rw [List.length_range] at hkl
    have hj := List.mem_range.mp hm
    have hX2 := hX.upN (gs := [.int (nI (k + 1)), .int (nI k), .int (kM c 2), .ref (kA c 2)]) hI hit
    have hI2 : sF (sUp σ1 it (.inr (21, [.int (nI (k + 1)), .int (nI k), .int (kM c 2), .ref (kA c 2)]))) it = _ := sF_upS _ _ _
    generalize hσ2 : sUp σ1 it (.inr (21, [.int (nI (k + 1)), .int (nI k), .int (kM c 2), .ref (kA c 2)])) = σ2 at hX2 hI2
    have hS2 := hS.keep0 hw hX2
    have hfold : ∀ s, List.foldl (hitS c x y) s (j :: ys) = ys.foldl (hitS c x y) (hitS c x y s j) := fun _ => rfl
    simp only [hfold] at kQ
    refine zr_aload dX1_hit_29 rfl ?_
    refine zr_call51 (rest := []) (zs_F (As := []) (by omega) okF_J23_hasNext (by decide +kernel) q916 q927 q929 q84 q931 (.new hI) rfl rfl rfl (Nat.le_of_ble_eq_true rfl) dX1_hit_31) (c_hasNext1 hS1.bxL hI (by rw [CSys.bxl]; exact hkl)) ?_
    refine zr_if_eq (tgt := 129) dX1_hit_36 (by decide) (fun h9 => absurd h9 (by decide)) (fun _ => ?_)
    refine zr_aload dX1_hit_39 rfl ?_
    refine zr_call51 (rest := []) (zs_F (As := []) (by omega) okF_J23_next (by decide +kernel) q942 q1044 q1046 q84 q1048 (.new hI) rfl rfl rfl (Nat.le_of_ble_eq_true rfl) dX1_hit_41) (c_J23_next (by omega) hG hS1.bxL hI (map_at (fun j => kA c (rB j)) hx)) ?_
    rw [hσ2]
    refine zr_castS (hS2.bx hj) rfl q151 dX1_hit_46 ?_
    refine zr_astore (ls2 := [(0, .ref (kA c 1)), (1, .int x), (2, .int y), (3, va_rf (bA_ c b)), (4, .ref it), (5, .ref (kA c (rB j)))]) dX1_hit_49 (Nat.le_of_ble_eq_true rfl) rfl ?_
    refine zr_iload_n dX1_hit_51 rfl rfl ?_
    refine zr_aload dX1_hit_52 rfl ?_
    refine zr_call1 (rest := [.int x]) (zs_V (As := []) (by omega) ok_X2_x q1820 q1821 q1822 q57 q1823 rfl (hS2.bx hj) rfl rfl rfl (Nat.le_of_ble_eq_true rfl) dX1_hit_54) (c_X2_x hS2 24 j (d - 1) (by omega) (by omega) hj) ?_
    refine zr_aload dX1_hit_57 rfl ?_
    refine zr_getN (k := 24) (v := .ref (kA c (rP j))) in_X2 (hS2.bx hj) rfl (Nat.le_of_ble_eq_true rfl) q292 (.inl rfl) rfl dX1_hit_59 ?_
    refine zr_getN (k := 2) (v := .int (kP c j 2)) in_X3 (hS2.pl hj) rfl (Nat.le_of_ble_eq_true rfl) q201 (.inl rfl) rfl dX1_hit_62 ?_
    refine zr_call1 (rest := []) (zs_S (As := [.int x, .int (kXY 0 24 c j), .int (kP c j 2)]) (by omega) ok_X1_isIn q1921 q1922 q53 q1923 rfl rfl (Nat.le_of_ble_eq_true rfl) dX1_hit_65) c_X1_isIn ?_
    have key : ∀ b2, b2 = hitS c x y b j → zR G yX1_hit cX1_hit 7 (Option.some Jvm.ClassFile.FieldType.int) [] d 125 [(0, .ref (kA c 1)), (1, .int x), (2, .int y), (3, va_rf (bA_ c b)), (4, .ref it), (5, .ref (kA c (rB j)))] [va_rf (bA_ c b2)] σ2 Q := by
      intro b2 h2
      have hb2 : ∀ q, b2 = some q → q < kN c := by
        intro q hq
        rw [h2] at hq
        unfold hitS at hq
        split at hq
        · cases b with
          | none => cases hq; exact hj
          | some z =>
            dsimp only at hq
            split at hq
            · exact hb q hq
            · cases hq; exact hj
        · exact hb q hq
      rw [← h2] at kQ
      refine zr_astore_nR (ls2 := [(0, .ref (kA c 1)), (1, .int x), (2, .int y), (3, va_rf (bA_ c b2)), (4, .ref it), (5, .ref (kA c (rB j)))]) dX1_hit_125 rfl (Nat.le_of_ble_eq_true rfl) rfl ?_
      refine zr_goto (tgt := 29) dX1_hit_126 (by decide) ?_
      refine zr_sub (ls2 := [(0, .ref (kA c 1)), (1, .int x), (2, .int y), (3, va_rf (bA_ c b2)), (4, .ref it)]) [0, 1, 2, 3, 4] rfl ?_
      exact ih (k + 1) _ b2 σ2 hy2 (by omega) hb2 hX2 hI2 kQ
    refine zr_ifeqB (tgt := 95) dX1_hit_68 (by decide) (fun h4 => ?_) (fun h4 => ?_)
    · refine zr_iconst (v := 0) dX1_hit_95 (by decide) ?_
      refine zr_istore (ls2 := [(0, .ref (kA c 1)), (1, .int x), (2, .int y), (3, va_rf (bA_ c b)), (4, .ref it), (5, .ref (kA c (rB j))), (6, .int 0)]) dX1_hit_96 (Nat.le_of_ble_eq_true rfl) rfl ?_
      refine zr_iload dX1_hit_98 rfl ?_
      refine zr_if_eq (tgt := 124) dX1_hit_100 (by decide) (fun _ => ?_) (fun h9 => absurd (rfl) h9)
      refine zr_aload_nR dX1_hit_124 rfl rfl ?_
      refine zr_sub (ls2 := [(0, .ref (kA c 1)), (1, .int x), (2, .int y), (3, va_rf (bA_ c b)), (4, .ref it), (5, .ref (kA c (rB j)))]) [0, 1, 2, 3, 4, 5] rfl ?_
      exact key b (by unfold hitS; rw [if_neg (by simp [h4])])
    · refine zr_iload_n dX1_hit_71 rfl rfl ?_
      refine zr_aload dX1_hit_72 rfl ?_
      refine zr_call1 (rest := [.int y]) (zs_V (As := []) (by omega) ok_X2_y q1837 q1838 q1839 q57 q1840 rfl (hS2.bx hj) rfl rfl rfl (Nat.le_of_ble_eq_true rfl) dX1_hit_74) (c_X2_y hS2 24 j (d - 1) (by omega) (by omega) hj) ?_
      refine zr_aload dX1_hit_77 rfl ?_
      refine zr_getN (k := 24) (v := .ref (kA c (rP j))) in_X2 (hS2.bx hj) rfl (Nat.le_of_ble_eq_true rfl) q292 (.inl rfl) rfl dX1_hit_79 ?_
      refine zr_getN (k := 3) (v := .int (kP c j 3)) in_X3 (hS2.pl hj) rfl (Nat.le_of_ble_eq_true rfl) q206 (.inl rfl) rfl dX1_hit_82 ?_
      refine zr_call1 (rest := []) (zs_S (As := [.int y, .int (kXY 1 24 c j), .int (kP c j 3)]) (by omega) ok_X1_isIn q1921 q1922 q53 q1923 rfl rfl (Nat.le_of_ble_eq_true rfl) dX1_hit_85) c_X1_isIn ?_
      refine zr_ifeqB (tgt := 95) dX1_hit_88 (by decide) (fun h5 => ?_) (fun h5 => ?_)
      · refine zr_iconst (v := 0) dX1_hit_95 (by decide) ?_
        refine zr_istore (ls2 := [(0, .ref (kA c 1)), (1, .int x), (2, .int y), (3, va_rf (bA_ c b)), (4, .ref it), (5, .ref (kA c (rB j))), (6, .int 0)]) dX1_hit_96 (Nat.le_of_ble_eq_true rfl) rfl ?_
        refine zr_iload dX1_hit_98 rfl ?_
        refine zr_if_eq (tgt := 124) dX1_hit_100 (by decide) (fun _ => ?_) (fun h9 => absurd (rfl) h9)
        refine zr_aload_nR dX1_hit_124 rfl rfl ?_
        refine zr_sub (ls2 := [(0, .ref (kA c 1)), (1, .int x), (2, .int y), (3, va_rf (bA_ c b)), (4, .ref it), (5, .ref (kA c (rB j)))]) [0, 1, 2, 3, 4, 5] rfl ?_
        exact key b (by unfold hitS; rw [if_neg (by simp [h4, h5])])
      · refine zr_iconst (v := 1) dX1_hit_91 (by decide) ?_
        refine zr_goto (tgt := 96) dX1_hit_92 (by decide) ?_
        refine zr_istore (ls2 := [(0, .ref (kA c 1)), (1, .int x), (2, .int y), (3, va_rf (bA_ c b)), (4, .ref it), (5, .ref (kA c (rB j))), (6, .int 1)]) dX1_hit_96 (Nat.le_of_ble_eq_true rfl) rfl ?_
        refine zr_iload dX1_hit_98 rfl ?_
        refine zr_if_eq (tgt := 124) dX1_hit_100 (by decide) (fun h9 => absurd h9 (by decide)) (fun _ => ?_)
        refine zr_aload_nR dX1_hit_103 rfl rfl ?_
        refine zr_ifnullR (x := (bA_ c b)) (tgt := 119) dX1_hit_104 (by decide) (fun h7 => ?_) (fun a_h7 h7 => ?_)
        · have hbn : b = none := by
            cases b with
            | none => rfl
            | some q => cases h7
          refine zr_aload dX1_hit_119 rfl ?_
          refine zr_goto (tgt := 125) dX1_hit_121 (by decide) ?_
          refine zr_sub (ls2 := [(0, .ref (kA c 1)), (1, .int x), (2, .int y), (3, va_rf (bA_ c b)), (4, .ref it), (5, .ref (kA c (rB j)))]) [0, 1, 2, 3, 4, 5] rfl ?_
          exact key (some j) (by unfold hitS; rw [if_pos (by simp [h4, h5]), hbn])
        · obtain ⟨q, hq⟩ : ∃ q, b = some q := by
            cases b with
            | none => cases h7
            | some q => exact ⟨q, rfl⟩
          have hqn := hb q hq
          have hbb : bA_ c b = some (kA c (rB q)) := by rw [hq]; rfl
          refine zr_aload dX1_hit_107 rfl ?_
          refine zr_getN (k := 20) (v := .int (kF c j 20)) in_X2 (hS2.bx hj) rfl (Nat.le_of_ble_eq_true rfl) q279 (.inl rfl) rfl dX1_hit_109 ?_
          refine zr_aload_nR dX1_hit_112 rfl rfl ?_
          have hv9 : va_rf (bA_ c b) = .ref (kA c (rB q)) := by rw [hbb]; rfl
          refine zr_eqv hv9 ?_
          refine zr_getN (k := 20) (v := .int (kF c q 20)) in_X2 (hS2.bx hqn) rfl (Nat.le_of_ble_eq_true rfl) q279 (.inl rfl) rfl dX1_hit_113 ?_
          refine zr_icmp_lt (tgt := 124) dX1_hit_116 (by decide) (fun h8 => ?_) (fun h8 => ?_)
          · refine zr_aload_nR dX1_hit_124 rfl rfl ?_
            refine zr_sub (ls2 := [(0, .ref (kA c 1)), (1, .int x), (2, .int y), (3, va_rf (bA_ c b)), (4, .ref it), (5, .ref (kA c (rB j)))]) [0, 1, 2, 3, 4, 5] rfl ?_
            exact key b (by unfold hitS; rw [if_pos (by simp [h4, h5]), hq]; exact (if_pos h8).symm)
          · refine zr_aload dX1_hit_119 rfl ?_
            refine zr_goto (tgt := 125) dX1_hit_121 (by decide) ?_
            refine zr_sub (ls2 := [(0, .ref (kA c 1)), (1, .int x), (2, .int y), (3, va_rf (bA_ c b)), (4, .ref it), (5, .ref (kA c (rB j)))]) [0, 1, 2, 3, 4, 5] rfl ?_
            exact key (some j) (by unfold hitS; rw [if_pos (by simp [h4, h5]), hq]; exact (if_neg h8).symm)
set_option maxHeartbeats 4000000 in
theorem c_X1_hit {G : zG} {σ : zT} {d : Nat} {c : zCS} {x y : Int32} (hd : 60 ≤ d) (hG : zOk G) (hw : zGd G σ) (hS : CSys G σ c) : zCall G I_X1_hit d [.ref (kA c 1), .int x, .int y] σ ((fun o σ' => oR o (pHit c x y) ∧ zX G S0 σ σ' 30)) := by
  refine zCall_of (ls := [(0, .ref (kA c 1)), (1, .int x), (2, .int y)]) (by decide) (Nat.le_of_ble_eq_true rfl) rfl ?_
  by_cases hl : kLw c = -1
  · obtain ⟨fl_hfl, hfl⟩ := hS.bxL.A
    rw [show pHit c x y = (3, .null) from if_pos hl]
    obtain ⟨_, σ1, ⟨q, rfl, hX⟩, hC⟩ := c_requireState0 (d := d - 1) (by omega) hG hw
    refine zr_aload_n dX1_hit_0 rfl rfl ?_
    refine zr_get (k := 1) (v := .int (kLw c)) in_X1 hS.one rfl (Nat.le_of_ble_eq_true rfl) q810 (.inl rfl) rfl dX1_hit_1 ?_
    refine zr_iconst (v := (-1)) dX1_hit_4 (by decide) ?_
    refine zr_icmp_eq (tgt := 12) dX1_hit_5 (by decide) (fun _ => ?_) (fun h9 => absurd (hl) h9)
    refine zr_iconst (v := 0) dX1_hit_12 (by decide) ?_
    refine zr_callX (rest := []) (zs_S (As := [.int 0]) (by omega) ok_X1_requireState q1652 q1653 q53 q1654 rfl rfl (Nat.le_of_ble_eq_true rfl) dX1_hit_13) hC ?_
    exact zx_out (by decide) ⟨oR_x (by decide), hX.le (by omega)⟩
  · obtain ⟨fl_hfl, hfl⟩ := hS.bxL.A
    refine zr_aload_n dX1_hit_0 rfl rfl ?_
    refine zr_get (k := 1) (v := .int (kLw c)) in_X1 hS.one rfl (Nat.le_of_ble_eq_true rfl) q810 (.inl rfl) rfl dX1_hit_1 ?_
    refine zr_iconst (v := (-1)) dX1_hit_4 (by decide) ?_
    refine zr_icmp_eq (tgt := 12) dX1_hit_5 (by decide) (fun h9 => absurd h9 (hl)) (fun _ => ?_)
    refine zr_iconst (v := 1) dX1_hit_8 (by decide) ?_
    refine zr_goto (tgt := 13) dX1_hit_9 (by decide) ?_
    refine zr_callv (rest := []) (zs_S (As := [.int 1]) (by omega) ok_X1_requireState q1652 q1653 q53 q1654 rfl rfl (Nat.le_of_ble_eq_true rfl) dX1_hit_13) c_requireState1 ?_
    refine zr_null dX1_hit_16 ?_
    refine zr_astore_nR (x := none) (ls2 := [(0, .ref (kA c 1)), (1, .int x), (2, .int y), (3, .null)]) dX1_hit_17 rfl (Nat.le_of_ble_eq_true rfl) rfl ?_
    refine zr_aload_n dX1_hit_18 rfl rfl ?_
    refine zr_get (k := 0) (v := .ref (kA c 2)) in_X1 hS.one rfl (Nat.le_of_ble_eq_true rfl) q806 (.inl rfl) rfl dX1_hit_19 ?_
    refine zr_call51 (rest := []) (zs_F (As := []) (by omega) okF_J2_iterator (by decide +kernel) q829 q832 q834 q56 q836 hfl rfl rfl rfl (Nat.le_of_ble_eq_true rfl) dX1_hit_22) (c_J2_iterator (by omega) hw.1 hS.bxL) ?_
    refine zr_astore (ls2 := [(0, .ref (kA c 1)), (1, .int x), (2, .int y), (3, va_rf (bA_ c none)), (4, .ref (sZ σ))]) dX1_hit_27 (Nat.le_of_ble_eq_true rfl) rfl ?_
    refine l_X1_hit (m := 8) (by omega) hG hw hS (Nat.le_refl _) (List.range (kN c)) 0 _ none _ rfl (Nat.zero_le _) (fun q h => by cases h) (zX.new S0 hw 0 (by omega) _ 4) (sF_newS _ _ _ _) (fun σ2 hX2 hb2 => ?_)
    have hS2 := hS.keep0 hw hX2
    have e9 : pHit c x y = (match ((List.range (kN c)).foldl (hitS c x y) none) with | none => (5, .null) | some j => (0, .int (nI j))) := if_neg hl
    rw [e9]
    generalize hf : ((List.range (kN c)).foldl (hitS c x y) none) = bf at hb2 ⊢
    cases bf with
    | none =>
      obtain ⟨_, σ3, ⟨q, rfl, hX3⟩, hC⟩ := c_requireElement0 (d := d - 1) (by omega) hG hX2.gd
      show zR _ _ _ _ _ _ _ _ [(0, .ref (kA c 1)), (1, .int x), (2, .int y), (3, .null), (4, .ref (sZ σ))] _ _ _
      refine zr_aload_nR (x := none) dX1_hit_129 rfl rfl ?_
      refine zr_ifnullN (tgt := 137) dX1_hit_130 (by decide) ?_
      refine zr_iconst (v := 0) dX1_hit_137 (by decide) ?_
      refine zr_callX (rest := []) (zs_S (As := [.int 0]) (by omega) ok_X1_requireElement q1879 q1880 q53 q1881 rfl rfl (Nat.le_of_ble_eq_true rfl) dX1_hit_138) hC ?_
      exact zx_out (by decide) ⟨oR_x (by decide), (hX2.trans hX3).le (by omega)⟩
    | some j =>
      have hj := hb2 j rfl
      show zR _ _ _ _ _ _ _ _ [(0, .ref (kA c 1)), (1, .int x), (2, .int y), (3, .ref (kA c (rB j))), (4, .ref (sZ σ))] _ _ _
      refine zr_aload_n dX1_hit_129 rfl rfl ?_
      refine zr_ifnull dX1_hit_130 ?_
      refine zr_iconst (v := 1) dX1_hit_133 (by decide) ?_
      refine zr_goto (tgt := 138) dX1_hit_134 (by decide) ?_
      refine zr_callv (rest := []) (zs_S (As := [.int 1]) (by omega) ok_X1_requireElement q1879 q1880 q53 q1881 rfl rfl (Nat.le_of_ble_eq_true rfl) dX1_hit_138) c_requireElement1 ?_
      refine zr_aload_n dX1_hit_141 rfl rfl ?_
      refine zr_getN (k := 0) (v := .int (nI j)) in_X2 (hS2.bx hj) rfl (Nat.le_of_ble_eq_true rfl) q227 (.inl rfl) rfl dX1_hit_142 ?_
      exact zr_iret rfl rfl dX1_hit_145 (⟨oR_ok, hX2.le (by omega)⟩)
set_option maxHeartbeats 4000000 in
theorem l_X1_area {G : zG} {σ : zT} {d m : Nat} {c : zCS} {it : Nat} {Q : zO → zT → Prop} (hd : 40 ≤ d) (hG : zOk G) (hw : zGd G σ) (hS : CSys G σ c) (hit : sZ σ ≤ it) : ∀ (ys : List Nat) (k : Nat) (lr : Int32) (s : Int64) (σ1 : zT), (List.range (kN c)).drop k = ys → k ≤ kN c → zX G S0 σ σ1 m → sF σ1 it = some (.inr (21, [.int (nI k), .int lr, .int (kM c 2), .ref (kA c 2)])) → (∀ σ2, zX G S0 σ σ2 m → Q (.inl (some (.long (ys.foldl (fun s j => s + (kP c j 2).toInt64 * (kP c j 3).toInt64) s)))) σ2) → zR G yX1_area cX1_area 5 (Option.some Jvm.ClassFile.FieldType.long) [] d 28 [(0, .ref (kA c 1)), (1, .long s), (3, .ref it)] [] σ1 Q := by
  intro ys
  induction ys with
  | nil =>
    intro k lr s σ1 hy hk hX hI kQ
    have hS1 := hS.keep0 hw hX
    have hkl := drop_nil hy (by rw [List.length_range]; exact hk)
    rw [List.length_range] at hkl
    refine zr_aload_n dX1_area_28 rfl rfl ?_
    refine zr_call51 (rest := []) (zs_F (As := []) (by omega) okF_J23_hasNext (by decide +kernel) q916 q927 q929 q84 q931 (.new hI) rfl rfl rfl (Nat.le_of_ble_eq_true rfl) dX1_area_29) (c_hasNext0 hS1.bxL hI (by rw [CSys.bxl]; exact hkl)) ?_
    refine zr_if_eq (tgt := 73) dX1_area_34 (by decide) (fun _ => ?_) (fun h9 => absurd (rfl) h9)
    refine zr_lload_n dX1_area_73 rfl rfl ?_
    exact zr_lret rfl dX1_area_74 (kQ σ1 hX)
  | cons j ys ih =>
    intro k lr s σ1 hy hk hX hI kQ
    have hS1 := hS.keep0 hw hX
    have hle := hS.le
    obtain ⟨hx, hy2, hkl, hm⟩ := drop_cons hy
    rw [List.length_range] at hkl
    have hj := List.mem_range.mp hm
    have hX2 := hX.upN (gs := [.int (nI (k + 1)), .int (nI k), .int (kM c 2), .ref (kA c 2)]) hI hit
    have hI2 : sF (sUp σ1 it (.inr (21, [.int (nI (k + 1)), .int (nI k), .int (kM c 2), .ref (kA c 2)]))) it = _ := sF_upS _ _ _
    generalize hσ2 : sUp σ1 it (.inr (21, [.int (nI (k + 1)), .int (nI k), .int (kM c 2), .ref (kA c 2)])) = σ2 at hX2 hI2
    have hS2 := hS.keep0 hw hX2
    refine zr_aload_n dX1_area_28 rfl rfl ?_
    refine zr_call51 (rest := []) (zs_F (As := []) (by omega) okF_J23_hasNext (by decide +kernel) q916 q927 q929 q84 q931 (.new hI) rfl rfl rfl (Nat.le_of_ble_eq_true rfl) dX1_area_29) (c_hasNext1 hS1.bxL hI (by rw [CSys.bxl]; exact hkl)) ?_
    refine zr_if_eq (tgt := 73) dX1_area_34 (by decide) (fun h9 => absurd h9 (by decide)) (fun _ => ?_)
    refine zr_aload_n dX1_area_37 rfl rfl ?_
    refine zr_call51 (rest := []) (zs_F (As := []) (by omega) okF_J23_next (by decide +kernel) q942 q1044 q1046 q84 q1048 (.new hI) rfl rfl rfl (Nat.le_of_ble_eq_true rfl) dX1_area_38) (c_J23_next (by omega) hG hS1.bxL hI (map_at (fun j => kA c (rB j)) hx)) ?_
    rw [hσ2]
    refine zr_castS (hS2.bx hj) rfl q151 dX1_area_43 ?_
    refine zr_astore (ls2 := [(0, .ref (kA c 1)), (1, .long s), (3, .ref it), (4, .ref (kA c (rB j)))]) dX1_area_46 (Nat.le_of_ble_eq_true rfl) rfl ?_
    refine zr_lload_n dX1_area_48 rfl rfl ?_
    refine zr_aload dX1_area_49 rfl ?_
    refine zr_getN (k := 24) (v := .ref (kA c (rP j))) in_X2 (hS2.bx hj) rfl (Nat.le_of_ble_eq_true rfl) q292 (.inl rfl) rfl dX1_area_51 ?_
    refine zr_getN (k := 2) (v := .int (kP c j 2)) in_X3 (hS2.pl hj) rfl (Nat.le_of_ble_eq_true rfl) q201 (.inl rfl) rfl dX1_area_54 ?_
    refine zr_i2l (v := (Int32.toInt64 (kP c j 2))) dX1_area_57 rfl ?_
    refine zr_aload dX1_area_58 rfl ?_
    refine zr_getN (k := 24) (v := .ref (kA c (rP j))) in_X2 (hS2.bx hj) rfl (Nat.le_of_ble_eq_true rfl) q292 (.inl rfl) rfl dX1_area_60 ?_
    refine zr_getN (k := 3) (v := .int (kP c j 3)) in_X3 (hS2.pl hj) rfl (Nat.le_of_ble_eq_true rfl) q206 (.inl rfl) rfl dX1_area_63 ?_
    refine zr_i2l (v := (Int32.toInt64 (kP c j 3))) dX1_area_66 rfl ?_
    refine zr_lmul dX1_area_67 ?_
    refine zr_ladd dX1_area_68 ?_
    refine zr_lstore_n (ls2 := [(0, .ref (kA c 1)), (1, .long (s + ((Int32.toInt64 (kP c j 2)) * (Int32.toInt64 (kP c j 3))))), (3, .ref it), (4, .ref (kA c (rB j)))]) dX1_area_69 rfl (Nat.le_of_ble_eq_true rfl) rfl ?_
    refine zr_goto (tgt := 28) dX1_area_70 (by decide) ?_
    refine zr_sub (ls2 := [(0, .ref (kA c 1)), (1, .long (s + ((Int32.toInt64 (kP c j 2)) * (Int32.toInt64 (kP c j 3))))), (3, .ref it)]) [0, 1, 2] rfl ?_
    exact ih (k + 1) _ _ σ2 hy2 (by omega) hX2 hI2 kQ
set_option maxHeartbeats 4000000 in
theorem c_X1_area {G : zG} {σ : zT} {d : Nat} {c : zCS} (hd : 60 ≤ d) (hG : zOk G) (hw : zGd G σ) (hS : CSys G σ c) : zCall G I_X1_area d [.ref (kA c 1)] σ ((fun o σ' => oR o (pArea c) ∧ zX G S0 σ σ' 30)) := by
  refine zCall_of (ls := [(0, .ref (kA c 1))]) (by decide) (Nat.le_of_ble_eq_true rfl) rfl ?_
  by_cases hl : kLw c = -1
  · obtain ⟨fl_hfl, hfl⟩ := hS.bxL.A
    rw [show pArea c = (3, .null) from if_pos hl]
    obtain ⟨_, σ1, ⟨q, rfl, hX⟩, hC⟩ := c_requireState0 (d := d - 1) (by omega) hG hw
    refine zr_aload_n dX1_area_0 rfl rfl ?_
    refine zr_get (k := 1) (v := .int (kLw c)) in_X1 hS.one rfl (Nat.le_of_ble_eq_true rfl) q810 (.inl rfl) rfl dX1_area_1 ?_
    refine zr_iconst (v := (-1)) dX1_area_4 (by decide) ?_
    refine zr_icmp_eq (tgt := 12) dX1_area_5 (by decide) (fun _ => ?_) (fun h9 => absurd (hl) h9)
    refine zr_iconst (v := 0) dX1_area_12 (by decide) ?_
    refine zr_callX (rest := []) (zs_S (As := [.int 0]) (by omega) ok_X1_requireState q1652 q1653 q53 q1654 rfl rfl (Nat.le_of_ble_eq_true rfl) dX1_area_13) hC ?_
    exact zx_out (by decide) ⟨oR_x (by decide), hX.le (by omega)⟩
  · obtain ⟨fl_hfl, hfl⟩ := hS.bxL.A
    refine zr_aload_n dX1_area_0 rfl rfl ?_
    refine zr_get (k := 1) (v := .int (kLw c)) in_X1 hS.one rfl (Nat.le_of_ble_eq_true rfl) q810 (.inl rfl) rfl dX1_area_1 ?_
    refine zr_iconst (v := (-1)) dX1_area_4 (by decide) ?_
    refine zr_icmp_eq (tgt := 12) dX1_area_5 (by decide) (fun h9 => absurd h9 (hl)) (fun _ => ?_)
    refine zr_iconst (v := 1) dX1_area_8 (by decide) ?_
    refine zr_goto (tgt := 13) dX1_area_9 (by decide) ?_
    refine zr_callv (rest := []) (zs_S (As := [.int 1]) (by omega) ok_X1_requireState q1652 q1653 q53 q1654 rfl rfl (Nat.le_of_ble_eq_true rfl) dX1_area_13) c_requireState1 ?_
    refine zr_lconst (v := 0) dX1_area_16 rfl ?_
    refine zr_lstore_n (ls2 := [(0, .ref (kA c 1)), (1, .long 0)]) dX1_area_17 rfl (Nat.le_of_ble_eq_true rfl) rfl ?_
    refine zr_aload_n dX1_area_18 rfl rfl ?_
    refine zr_get (k := 0) (v := .ref (kA c 2)) in_X1 hS.one rfl (Nat.le_of_ble_eq_true rfl) q806 (.inl rfl) rfl dX1_area_19 ?_
    refine zr_call51 (rest := []) (zs_F (As := []) (by omega) okF_J2_iterator (by decide +kernel) q829 q832 q834 q56 q836 hfl rfl rfl rfl (Nat.le_of_ble_eq_true rfl) dX1_area_22) (c_J2_iterator (by omega) hw.1 hS.bxL) ?_
    refine zr_astore_n (ls2 := [(0, .ref (kA c 1)), (1, .long 0), (3, .ref (sZ σ))]) dX1_area_27 rfl (Nat.le_of_ble_eq_true rfl) rfl ?_
    refine l_X1_area (m := 8) (by omega) hG hw hS (Nat.le_refl _) (List.range (kN c)) 0 _ 0 _ rfl (Nat.zero_le _) (zX.new S0 hw 0 (by omega) _ 4) (sF_newS _ _ _ _) (fun σ2 hX2 => ?_)
    rw [show pArea c = (0, .long ((List.range (kN c)).foldl (fun s j => s + (kP c j 2).toInt64 * (kP c j 3).toInt64) 0)) from if_neg hl]
    exact ⟨oR_ok, hX2.le (by omega)⟩
