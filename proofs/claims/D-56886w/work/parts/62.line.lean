/-! ===== the context: line (rows printed by tools/p62.py) ===== -/
def lnGo (btw : Int32) : List Int32 → Int32 → Nat → Int32 × Nat
  | [], len, m => (len, m)
  | w :: r, len, m => if len + 2 + w ≤ btw then lnGo btw r (len + (2 + w)) (m + 1) else (len, m)
theorem lnGo_m (btw : Int32) : ∀ (ys : List Int32) (len : Int32) (m : Nat), m ≤ (lnGo btw ys len m).2 ∧ (lnGo btw ys len m).2 ≤ m + ys.length := by
  intro ys
  induction ys with
  | nil => intro len m; exact ⟨Nat.le_refl _, Nat.le_refl _⟩
  | cons w r ih =>
    intro len m
    unfold lnGo
    split
    · have := ih (len + (2 + w)) (m + 1)
      rw [List.length_cons]
      omega
    · rw [List.length_cons]; exact ⟨Nat.le_refl _, by show m ≤ _; omega⟩
def lnShift (al free : Int32) : Int32 := if al = 108 then 0 else if al = 99 then free / 2 else free
set_option maxHeartbeats 4000000 in
theorem l_X7_line {G : zG} {σ : zT} {d : Nat} {c : zCS} {i cx eq fst : Nat} {left top e0 e1 : Int32} {Q : zO → zT → Prop} (hd : 6 ≤ d) (hG : zOk G) (hS : CSys G σ c) (hi : i < kN c) (heq : zAt G σ eq (.inr (9, [.int e0, .int e1]))) : ∀ (ys : List Int32) (m : Nat) (len : Int32), (kWd c i).drop (fst + m) = ys → fst + m ≤ (kWd c i).length → zR G yX7_line cX7_line 10 (Option.some (Jvm.ClassFile.FieldType.object "ColumnarPress$Line")) [(0, 33, 36, 168)] d 149 [(0, .ref cx), (1, .ref (kA c (rB i))), (2, .int (nI fst)), (3, .int left), (4, .int top), (5, .ref eq), (6, .int (lnGo (e1 - e0) ys len m).1), (7, .int (nI (lnGo (e1 - e0) ys len m).2))] [] σ Q → zR G yX7_line cX7_line 10 (Option.some (Jvm.ClassFile.FieldType.object "ColumnarPress$Line")) [(0, 33, 36, 168)] d 69 [(0, .ref cx), (1, .ref (kA c (rB i))), (2, .int (nI fst)), (3, .int left), (4, .int top), (5, .ref eq), (6, .int len), (7, .int (nI m))] [] σ Q := by
  intro ys
  induction ys with
  | nil =>
    intro m len hy hk kQ
    have hkl := drop_nil hy hk
    refine zr_iload_n dX7_line_69 rfl rfl ?_
    refine zr_iload dX7_line_70 rfl ?_
    refine zr_iadd dX7_line_72 ?_
    refine zr_eqi (z := (nI (fst + m))) (nI_add _ _) ?_
    refine zr_aload_n dX7_line_73 rfl rfl ?_
    refine zr_getN (k := 5) (v := .ref (kA c (rW i))) in_X2 (hS.bx hi) rfl (Nat.le_of_ble_eq_true rfl) q240 (.inl rfl) rfl dX7_line_74 ?_
    refine zr_call51 (rest := [.int (nI (fst + m))]) (zs_F (As := []) (by omega) okF_J2_size (by decide +kernel) q1349 q162 q164 q56 q166 (.new (hS.wdL hi).choose_spec.choose_spec.choose_spec.1) rfl rfl rfl (Nat.le_of_ble_eq_true rfl) dX7_line_77) (c_size (by omega) (hS.wdL hi) (List.length_map _)) ?_
    refine zr_icmp_ge (tgt := 149) dX7_line_82 (by decide) (fun _ => ?_) (fun h9 => absurd (by rw [hkl]; exact Int32.le_refl _) h9)
    exact kQ
  | cons v ys ih =>
    intro m len hy hk kQ
    obtain ⟨hx, hy2, hkl, hm⟩ := drop_cons hy
    have h20 := (hS.wd hi).1
    obtain ⟨n, hn1, hn2, rfl⟩ := (hS.wd hi).2 v hm
    refine zr_iload_n dX7_line_69 rfl rfl ?_
    refine zr_iload dX7_line_70 rfl ?_
    refine zr_iadd dX7_line_72 ?_
    refine zr_eqi (z := (nI (fst + m))) (nI_add _ _) ?_
    refine zr_aload_n dX7_line_73 rfl rfl ?_
    refine zr_getN (k := 5) (v := .ref (kA c (rW i))) in_X2 (hS.bx hi) rfl (Nat.le_of_ble_eq_true rfl) q240 (.inl rfl) rfl dX7_line_74 ?_
    refine zr_call51 (rest := [.int (nI (fst + m))]) (zs_F (As := []) (by omega) okF_J2_size (by decide +kernel) q1349 q162 q164 q56 q166 (.new (hS.wdL hi).choose_spec.choose_spec.choose_spec.1) rfl rfl rfl (Nat.le_of_ble_eq_true rfl) dX7_line_77) (c_size (by omega) (hS.wdL hi) (List.length_map _)) ?_
    refine zr_icmp_ge (tgt := 149) dX7_line_82 (by decide) (fun h9 => absurd h9 (nI_ge hkl (by omega))) (fun _ => ?_)
    refine zr_iload dX7_line_85 rfl ?_
    refine zr_iconst (v := 2) dX7_line_87 (by decide) ?_
    refine zr_iadd dX7_line_88 ?_
    refine zr_aload_n dX7_line_89 rfl rfl ?_
    refine zr_getN (k := 5) (v := .ref (kA c (rW i))) in_X2 (hS.bx hi) rfl (Nat.le_of_ble_eq_true rfl) q240 (.inl rfl) rfl dX7_line_90 ?_
    refine zr_iload_n dX7_line_93 rfl rfl ?_
    refine zr_iload dX7_line_94 rfl ?_
    refine zr_iadd dX7_line_96 ?_
    refine zr_eqi (z := (nI (fst + m))) (nI_add _ _) ?_
    refine zr_call51 (rest := [.int (len + 2)]) (zs_F (As := [.int (nI (fst + m))]) (by omega) okF_J2_get (by decide +kernel) q1357 q1106 q959 q56 q960 (.new (hS.wdL hi).choose_spec.choose_spec.choose_spec.1) rfl rfl rfl (Nat.le_of_ble_eq_true rfl) dX7_line_97) (c_J2_get (by omega) hG (hS.wdL hi) (map_at (zbx G) hx)) ?_
    refine zr_castS (zbx_at hG _ (by omega)) rfl q1358 dX7_line_102 ?_
    refine zr_call1 (rest := [.int (len + 2)]) (zs_V (As := []) (by omega) ok_J18_intValue q1359 q1155 q1156 q75 q1157 rfl (zbx_at hG _ (by omega)) rfl rfl rfl (Nat.le_of_ble_eq_true rfl) dX7_line_105) (c_J18_intValue (zbx_at hG _ (by omega))) ?_
    refine zr_iadd dX7_line_108 ?_
    refine zr_aload dX7_line_109 rfl ?_
    refine zr_call1 (rest := [.int ((len + 2) + (nI n))]) (zs_V (As := []) (by omega) ok_X9_between q1452 q1453 q1454 q94 q1455 rfl heq rfl rfl rfl (Nat.le_of_ble_eq_true rfl) dX7_line_111) (c_X9_between heq) ?_
    refine zr_icmp_gt (tgt := 149) dX7_line_114 (by decide) (fun h1 => ?_) (fun h1 => ?_)
    · have k9 := kQ
      rw [show lnGo (e1 - e0) (nI n :: ys) len m = (len, m) from if_neg (Int32.not_le.mpr h1)] at k9
      exact k9
    · refine zr_iload dX7_line_117 rfl ?_
      refine zr_iconst (v := 2) dX7_line_119 (by decide) ?_
      refine zr_aload_n dX7_line_120 rfl rfl ?_
      refine zr_getN (k := 5) (v := .ref (kA c (rW i))) in_X2 (hS.bx hi) rfl (Nat.le_of_ble_eq_true rfl) q240 (.inl rfl) rfl dX7_line_121 ?_
      refine zr_iload_n dX7_line_124 rfl rfl ?_
      refine zr_iload dX7_line_125 rfl ?_
      refine zr_iadd dX7_line_127 ?_
      refine zr_eqi (z := (nI (fst + m))) (nI_add _ _) ?_
      refine zr_call51 (rest := [.int 2, .int len]) (zs_F (As := [.int (nI (fst + m))]) (by omega) okF_J2_get (by decide +kernel) q1357 q1106 q959 q56 q960 (.new (hS.wdL hi).choose_spec.choose_spec.choose_spec.1) rfl rfl rfl (Nat.le_of_ble_eq_true rfl) dX7_line_128) (c_J2_get (by omega) hG (hS.wdL hi) (map_at (zbx G) hx)) ?_
      refine zr_castS (zbx_at hG _ (by omega)) rfl q1358 dX7_line_133 ?_
      refine zr_call1 (rest := [.int 2, .int len]) (zs_V (As := []) (by omega) ok_J18_intValue q1359 q1155 q1156 q75 q1157 rfl (zbx_at hG _ (by omega)) rfl rfl rfl (Nat.le_of_ble_eq_true rfl) dX7_line_136) (c_J18_intValue (zbx_at hG _ (by omega))) ?_
      refine zr_iadd dX7_line_139 ?_
      refine zr_iadd dX7_line_140 ?_
      refine zr_istore (ls2 := [(0, .ref cx), (1, .ref (kA c (rB i))), (2, .int (nI fst)), (3, .int left), (4, .int top), (5, .ref eq), (6, .int (len + (2 + (nI n)))), (7, .int (nI m))]) dX7_line_141 (Nat.le_of_ble_eq_true rfl) rfl ?_
      refine zr_iinc (v := ((nI m) + 1)) (ls2 := [(0, .ref cx), (1, .ref (kA c (rB i))), (2, .int (nI fst)), (3, .int left), (4, .int top), (5, .ref eq), (6, .int (len + (2 + (nI n)))), (7, .int ((nI m) + 1))]) dX7_line_143 rfl rfl (Nat.le_of_ble_eq_true rfl) rfl ?_
      rw [show nI m + 1 = nI (m + 1) from nI_1 m]
      refine zr_goto (tgt := 69) dX7_line_146 (by decide) ?_
      have k9 := kQ
      rw [show lnGo (e1 - e0) (nI n :: ys) len m = lnGo (e1 - e0) ys (len + (2 + nI n)) (m + 1) from if_pos (Int32.not_lt.mp h1)] at k9
      exact ih (m + 1) _ hy2 (by omega) k9
set_option maxHeartbeats 4000000 in
theorem c_X7_line {G : zG} {σ : zT} {d cx ly fa p i fst : Nat} {c : zCS} {left top w0 : Int32} {r : List Int32} {fs : List F5} (hd : 11 ≤ d) (hG : zOk G) (hw : zGd G σ) (hS : CSys G σ c) (hi : i < kN c) (hcx : zAt G σ cx (.inr (7, [.ref ly, .ref fa, .ref p]))) (hF : FlS G σ fa fs) (hy : (kWd c i).drop fst = w0 :: r) : zCall G I_X7_line d [.ref cx, .ref (kA c (rB i)), .int (nI fst), .int left, .int top] σ ((fun o σ' => zX G S0 σ σ' 100 ∧ (if (cEd fs top 10 left (left + kInner c i)).2.1 - (cEd fs top 10 left (left + kInner c i)).1 < w0 ∧ (cEd fs top 10 left (left + kInner c i)).2.2 < 2147483647 then ∃ q n, o = .inr (RX10, q) ∧ sF σ' q = some (.inr (10, [.ref n, .null, .null, .ref (zc G 5), .null, .int 0])) ∧ zAt G σ' n (.inr (8, [.null, .null, .null, .ref (zc G 4), .null, .int 0, .int (cEd fs top 10 left (left + kInner c i)).2.2])) ∧ sZ σ ≤ q else ∃ q, o = .inl (some (.ref q)) ∧ sF σ' q = some (.inr (11, [.int ((cEd fs top 10 left (left + kInner c i)).1 + lnShift (kF c i 23) (imax 0 ((cEd fs top 10 left (left + kInner c i)).2.1 - (cEd fs top 10 left (left + kInner c i)).1 - (lnGo ((cEd fs top 10 left (left + kInner c i)).2.1 - (cEd fs top 10 left (left + kInner c i)).1) r w0 1).1))), .int top, .int (nI (lnGo ((cEd fs top 10 left (left + kInner c i)).2.1 - (cEd fs top 10 left (left + kInner c i)).1) r w0 1).2)])) ∧ sT σ' q = 0))) := by
  refine zCall_ofH (ls := [(0, .ref cx), (1, .ref (kA c (rB i))), (2, .int (nI fst)), (3, .int left), (4, .int top)]) (by decide) (Nat.le_of_ble_eq_true rfl) rfl ?_
  obtain ⟨hx, hy2, hkl, hm⟩ := drop_cons hy
  have h20 := (hS.wd hi).1
  obtain ⟨n, hn1, hn2, rfl⟩ := (hS.wd hi).2 w0 hm
  refine zr_aload_n dX7_line_0 rfl rfl ?_
  refine zr_iload dX7_line_1 rfl ?_
  refine zr_bipush (v := 10) dX7_line_3 (by decide) ?_
  refine zr_iload_n dX7_line_5 rfl rfl ?_
  refine zr_iload_n dX7_line_6 rfl rfl ?_
  refine zr_aload_n dX7_line_7 rfl rfl ?_
  refine zr_call1 (rest := [.int left, .int left, .int 10, .int top, .ref cx]) (zs_V (As := []) (by omega) ok_X2_inner q1355 q1135 q1136 q57 q1137 rfl (hS.bx hi) rfl rfl rfl (Nat.le_of_ble_eq_true rfl) dX7_line_8) (c_X2_inner (by omega) hS hi) ?_
  refine zr_iadd dX7_line_11 ?_
  refine zr_aload_n dX7_line_12 rfl rfl ?_
  refine zr_getN (k := 5) (v := .ref (kA c (rW i))) in_X2 (hS.bx hi) rfl (Nat.le_of_ble_eq_true rfl) q240 (.inl rfl) rfl dX7_line_13 ?_
  refine zr_iload_n dX7_line_16 rfl rfl ?_
  refine zr_call51 (rest := [.int (left + (kInner c i)), .int left, .int 10, .int top, .ref cx]) (zs_F (As := [.int (nI fst)]) (by omega) okF_J2_get (by decide +kernel) q1357 q1106 q959 q56 q960 (.new (hS.wdL hi).choose_spec.choose_spec.choose_spec.1) rfl rfl rfl (Nat.le_of_ble_eq_true rfl) dX7_line_17) (c_J2_get (by omega) hG (hS.wdL hi) (map_at (zbx G) hx)) ?_
  refine zr_castS (zbx_at hG _ (by omega)) rfl q1358 dX7_line_22 ?_
  refine zr_call1 (rest := [.int (left + (kInner c i)), .int left, .int 10, .int top, .ref cx]) (zs_V (As := []) (by omega) ok_J18_intValue q1359 q1155 q1156 q75 q1157 rfl (zbx_at hG _ (by omega)) rfl rfl rfl (Nat.le_of_ble_eq_true rfl) dX7_line_25) (c_J18_intValue (zbx_at hG _ (by omega))) ?_
  obtain ⟨o1, σ1, ⟨hX1, hQ1⟩, hC⟩ := c_X7_edges (top := top) (h := 10) (left := left) (right := left + kInner c i) (need := nI n) (d := d - 1) (by omega) hG hw hcx hF
  have hS1 := hS.keep0 hw hX1
  by_cases hc : (cEd fs top 10 left (left + kInner c i)).2.1 - (cEd fs top 10 left (left + kInner c i)).1 < nI n ∧ (cEd fs top 10 left (left + kInner c i)).2.2 < 2147483647
  · rw [if_pos hc] at hQ1
    obtain ⟨q, rfl, hq, hqz⟩ := hQ1
    refine zr_callX (rest := []) (zs_V (As := [.int top, .int 10, .int left, .int (left + (kInner c i)), .int (nI n)]) (by omega) ok_X7_edges q1360 q1362 qs23 q91 q1363 rfl hcx rfl rfl rfl (Nat.le_of_ble_eq_true rfl) dX7_line_28) hC ?_
    refine zx_catch [] _ [] rfl (fun _ h => by cases h) (by decide) (by decide) rfl q1354 q1397 ?_
    refine zr_astore (ls2 := [(0, .ref cx), (1, .ref (kA c (rB i))), (2, .int (nI fst)), (3, .int left), (4, .int top), (6, .ref q)]) dX7_line_36 (Nat.le_of_ble_eq_true rfl) rfl ?_
    refine zr_new (ci := 10) (0) zt_X10 q1347 q1437 q95 rfl df_X10 dX7_line_38 ?_
    have hXe := zX.new S0 hX1.gd 0 (by omega) (.inr (10, d0_X10)) 6
    refine zr_dup dX7_line_41 rfl ?_
    refine zr_aload dX7_line_42 rfl ?_
    refine zr_callv (rest := [.ref (sZ σ1)]) (zs_I (As := [.ref q]) (by omega) ok_X10_init q1445 q1446 q95 q1447 rfl rfl rfl (Nat.le_of_ble_eq_true rfl) dX7_line_44) (c_X10_init (nx := 0) (by omega) hG (sF_newS _ _ _ _)) ?_
    have hXu : zX G S0 σ1 (sUp (sNew σ1 0 (.inr (10, d0_X10)) 6) (sZ σ1) (.inr (10, [.ref q, .null, .null, .ref (zc G 5), .null, .int 0]))) (6 + 4) := hXe.upN (sF_newS _ _ _ _) (Nat.le_refl _)
    refine zr_athrow (.new (sF_upS _ _ _)) rfl dX7_line_47 ?_
    refine zx_out (by decide) ⟨(hX1.trans hXu).le (by omega), ?_⟩
    rw [if_pos hc]
    exact ⟨_, q, rfl, sF_upS _ _ _, hXu.at hX1.gd hq (fun h => h), hX1.sz⟩
  · rw [if_neg hc] at hQ1
    obtain ⟨q, rfl, hq, hqz⟩ := hQ1
    refine zr_call1 (rest := []) (zs_V (As := [.int top, .int 10, .int left, .int (left + (kInner c i)), .int (nI n)]) (by omega) ok_X7_edges q1360 q1362 qs23 q91 q1363 rfl hcx rfl rfl rfl (Nat.le_of_ble_eq_true rfl) dX7_line_28) hC ?_
    refine zr_astore (ls2 := [(0, .ref cx), (1, .ref (kA c (rB i))), (2, .int (nI fst)), (3, .int left), (4, .int top), (5, .ref q)]) dX7_line_31 (Nat.le_of_ble_eq_true rfl) rfl ?_
    refine zr_goto (tgt := 48) dX7_line_33 (by decide) ?_
    refine zr_aload_n dX7_line_48 rfl rfl ?_
    refine zr_getN (k := 5) (v := .ref (kA c (rW i))) in_X2 (hS1.bx hi) rfl (Nat.le_of_ble_eq_true rfl) q240 (.inl rfl) rfl dX7_line_49 ?_
    refine zr_iload_n dX7_line_52 rfl rfl ?_
    refine zr_call51 (rest := []) (zs_F (As := [.int (nI fst)]) (by omega) okF_J2_get (by decide +kernel) q1357 q1106 q959 q56 q960 (.new (hS1.wdL hi).choose_spec.choose_spec.choose_spec.1) rfl rfl rfl (Nat.le_of_ble_eq_true rfl) dX7_line_53) (c_J2_get (by omega) hG (hS1.wdL hi) (map_at (zbx G) hx)) ?_
    refine zr_castS (zbx_at hG _ (by omega)) rfl q1358 dX7_line_58 ?_
    refine zr_call1 (rest := []) (zs_V (As := []) (by omega) ok_J18_intValue q1359 q1155 q1156 q75 q1157 rfl (zbx_at hG _ (by omega)) rfl rfl rfl (Nat.le_of_ble_eq_true rfl) dX7_line_61) (c_J18_intValue (zbx_at hG _ (by omega))) ?_
    refine zr_istore (ls2 := [(0, .ref cx), (1, .ref (kA c (rB i))), (2, .int (nI fst)), (3, .int left), (4, .int top), (5, .ref q), (6, .int (nI n))]) dX7_line_64 (Nat.le_of_ble_eq_true rfl) rfl ?_
    refine zr_iconst (v := 1) dX7_line_66 (by decide) ?_
    refine zr_istore (ls2 := [(0, .ref cx), (1, .ref (kA c (rB i))), (2, .int (nI fst)), (3, .int left), (4, .int top), (5, .ref q), (6, .int (nI n)), (7, .int 1)]) dX7_line_67 (Nat.le_of_ble_eq_true rfl) rfl ?_
    refine l_X7_line (by omega) hG hS1 hi hq r 1 (nI n) hy2 (by omega) ?_
    refine zr_iconst (v := 0) dX7_line_149 (by decide) ?_
    refine zr_aload dX7_line_150 rfl ?_
    refine zr_call1 (rest := [.int 0]) (zs_V (As := []) (by omega) ok_X9_between q1452 q1453 q1454 q94 q1455 rfl hq rfl rfl rfl (Nat.le_of_ble_eq_true rfl) dX7_line_152) (c_X9_between hq) ?_
    refine zr_iload dX7_line_155 rfl ?_
    refine zr_isub dX7_line_157 ?_
    refine zr_max (by omega) q1393 q376 q60 q377 (Nat.le_of_ble_eq_true rfl) dX7_line_158 ?_
    refine zr_istore (ls2 := [(0, .ref cx), (1, .ref (kA c (rB i))), (2, .int (nI fst)), (3, .int left), (4, .int top), (5, .ref q), (6, .int (lnGo ((cEd fs top 10 left (left + kInner c i)).2.1 - (cEd fs top 10 left (left + kInner c i)).1) r (nI n) 1).1), (7, .int (nI (lnGo ((cEd fs top 10 left (left + kInner c i)).2.1 - (cEd fs top 10 left (left + kInner c i)).1) r (nI n) 1).2)), (8, .int (imax 0 (((cEd fs top 10 left (left + kInner c i)).2.1 - (cEd fs top 10 left (left + kInner c i)).1) - (lnGo ((cEd fs top 10 left (left + kInner c i)).2.1 - (cEd fs top 10 left (left + kInner c i)).1) r (nI n) 1).1)))]) dX7_line_161 (Nat.le_of_ble_eq_true rfl) rfl ?_
    refine zr_aload_n dX7_line_163 rfl rfl ?_
    refine zr_getN (k := 23) (v := .int (kF c i 23)) in_X2 (hS1.bx hi) rfl (Nat.le_of_ble_eq_true rfl) q286 (.inl rfl) rfl dX7_line_164 ?_
    refine zr_bipush (v := 108) dX7_line_167 (by decide) ?_
    refine zr_icmp_ne (tgt := 176) dX7_line_169 (by decide) (fun h5 => ?_) (fun h5 => ?_)
    · refine zr_aload_n dX7_line_176 rfl rfl ?_
      refine zr_getN (k := 23) (v := .int (kF c i 23)) in_X2 (hS1.bx hi) rfl (Nat.le_of_ble_eq_true rfl) q286 (.inl rfl) rfl dX7_line_177 ?_
      refine zr_bipush (v := 99) dX7_line_180 (by decide) ?_
      refine zr_icmp_ne (tgt := 192) dX7_line_182 (by decide) (fun h6 => ?_) (fun h6 => ?_)
      · refine zr_iload dX7_line_192 rfl ?_
        refine zr_istore (ls2 := [(0, .ref cx), (1, .ref (kA c (rB i))), (2, .int (nI fst)), (3, .int left), (4, .int top), (5, .ref q), (6, .int (lnGo ((cEd fs top 10 left (left + kInner c i)).2.1 - (cEd fs top 10 left (left + kInner c i)).1) r (nI n) 1).1), (7, .int (nI (lnGo ((cEd fs top 10 left (left + kInner c i)).2.1 - (cEd fs top 10 left (left + kInner c i)).1) r (nI n) 1).2)), (8, .int (imax 0 (((cEd fs top 10 left (left + kInner c i)).2.1 - (cEd fs top 10 left (left + kInner c i)).1) - (lnGo ((cEd fs top 10 left (left + kInner c i)).2.1 - (cEd fs top 10 left (left + kInner c i)).1) r (nI n) 1).1))), (9, .int (imax 0 (((cEd fs top 10 left (left + kInner c i)).2.1 - (cEd fs top 10 left (left + kInner c i)).1) - (lnGo ((cEd fs top 10 left (left + kInner c i)).2.1 - (cEd fs top 10 left (left + kInner c i)).1) r (nI n) 1).1)))]) dX7_line_194 (Nat.le_of_ble_eq_true rfl) rfl ?_
        refine zr_new (ci := 11) (0) zt_X11 q1456 q1457 q96 rfl df_X11 dX7_line_196 ?_
        have hXe := zX.new S0 hX1.gd 0 (by omega) (.inr (11, d0_X11)) 3
        have hqe := hXe.at hX1.gd hq (fun h => h)
        refine zr_dup dX7_line_199 rfl ?_
        refine zr_aload dX7_line_200 rfl ?_
        refine zr_call1 (rest := [.ref (sZ σ1), .ref (sZ σ1)]) (zs_V (As := []) (by omega) ok_X9_left q1458 q1459 q1460 q94 q1461 rfl hqe rfl rfl rfl (Nat.le_of_ble_eq_true rfl) dX7_line_202) (c_X9_left hqe) ?_
        refine zr_iload dX7_line_205 rfl ?_
        refine zr_iadd dX7_line_207 ?_
        refine zr_iload dX7_line_208 rfl ?_
        refine zr_iload dX7_line_210 rfl ?_
        refine zr_callv (rest := [.ref (sZ σ1)]) (zs_IN (As := [.int ((cEd fs top 10 left (left + kInner c i)).1 + (imax 0 (((cEd fs top 10 left (left + kInner c i)).2.1 - (cEd fs top 10 left (left + kInner c i)).1) - (lnGo ((cEd fs top 10 left (left + kInner c i)).2.1 - (cEd fs top 10 left (left + kInner c i)).1) r (nI n) 1).1))), .int top, .int (nI (lnGo ((cEd fs top 10 left (left + kInner c i)).2.1 - (cEd fs top 10 left (left + kInner c i)).1) r (nI n) 1).2)]) (by omega) ok_X11_init q1462 q1463 q96 q1464 rfl rfl rfl (Nat.le_of_ble_eq_true rfl) dX7_line_212) (c_X11_init (by omega) (sF_newS _ _ _ _)) ?_
        have hXu : zX G S0 σ1 (sUp (sNew σ1 0 (.inr (11, d0_X11)) 3) (sZ σ1) (.inr (11, [.int ((cEd fs top 10 left (left + kInner c i)).1 + (imax 0 (((cEd fs top 10 left (left + kInner c i)).2.1 - (cEd fs top 10 left (left + kInner c i)).1) - (lnGo ((cEd fs top 10 left (left + kInner c i)).2.1 - (cEd fs top 10 left (left + kInner c i)).1) r (nI n) 1).1))), .int top, .int (nI (lnGo ((cEd fs top 10 left (left + kInner c i)).2.1 - (cEd fs top 10 left (left + kInner c i)).1) r (nI n) 1).2)]))) (3 + 4) := hXe.upN (sF_newS _ _ _ _) (Nat.le_refl _)
        have e9 : lnShift (kF c i 23) (imax 0 ((cEd fs top 10 left (left + kInner c i)).2.1 - (cEd fs top 10 left (left + kInner c i)).1 - (lnGo ((cEd fs top 10 left (left + kInner c i)).2.1 - (cEd fs top 10 left (left + kInner c i)).1) r (nI n) 1).1)) = (imax 0 (((cEd fs top 10 left (left + kInner c i)).2.1 - (cEd fs top 10 left (left + kInner c i)).1) - (lnGo ((cEd fs top 10 left (left + kInner c i)).2.1 - (cEd fs top 10 left (left + kInner c i)).1) r (nI n) 1).1)) := by unfold lnShift; rw [if_neg h5, if_neg h6]
        exact zr_aret rfl (.inl ⟨_, rfl⟩) (.inr ⟨_, rfl⟩) dX7_line_215 (⟨(hX1.trans hXu).le (by omega), by rw [if_neg hc, e9]; exact ⟨_, rfl, sF_upS _ _ _, (show sT (sNew σ1 0 (.inr (11, d0_X11)) 3) (sZ σ1) = 0 from sT_newS _ _ _ _)⟩⟩)
      · refine zr_iload dX7_line_185 rfl ?_
        refine zr_iconst (v := 2) dX7_line_187 (by decide) ?_
        refine zr_idiv dX7_line_188 (by decide) ?_
        refine zr_goto (tgt := 194) dX7_line_189 (by decide) ?_
        refine zr_istore (ls2 := [(0, .ref cx), (1, .ref (kA c (rB i))), (2, .int (nI fst)), (3, .int left), (4, .int top), (5, .ref q), (6, .int (lnGo ((cEd fs top 10 left (left + kInner c i)).2.1 - (cEd fs top 10 left (left + kInner c i)).1) r (nI n) 1).1), (7, .int (nI (lnGo ((cEd fs top 10 left (left + kInner c i)).2.1 - (cEd fs top 10 left (left + kInner c i)).1) r (nI n) 1).2)), (8, .int (imax 0 (((cEd fs top 10 left (left + kInner c i)).2.1 - (cEd fs top 10 left (left + kInner c i)).1) - (lnGo ((cEd fs top 10 left (left + kInner c i)).2.1 - (cEd fs top 10 left (left + kInner c i)).1) r (nI n) 1).1))), (9, .int ((imax 0 ((cEd fs top 10 left (left + kInner c i)).2.1 - (cEd fs top 10 left (left + kInner c i)).1 - (lnGo ((cEd fs top 10 left (left + kInner c i)).2.1 - (cEd fs top 10 left (left + kInner c i)).1) r (nI n) 1).1)) / 2))]) dX7_line_194 (Nat.le_of_ble_eq_true rfl) rfl ?_
        refine zr_new (ci := 11) (0) zt_X11 q1456 q1457 q96 rfl df_X11 dX7_line_196 ?_
        have hXe := zX.new S0 hX1.gd 0 (by omega) (.inr (11, d0_X11)) 3
        have hqe := hXe.at hX1.gd hq (fun h => h)
        refine zr_dup dX7_line_199 rfl ?_
        refine zr_aload dX7_line_200 rfl ?_
        refine zr_call1 (rest := [.ref (sZ σ1), .ref (sZ σ1)]) (zs_V (As := []) (by omega) ok_X9_left q1458 q1459 q1460 q94 q1461 rfl hqe rfl rfl rfl (Nat.le_of_ble_eq_true rfl) dX7_line_202) (c_X9_left hqe) ?_
        refine zr_iload dX7_line_205 rfl ?_
        refine zr_iadd dX7_line_207 ?_
        refine zr_iload dX7_line_208 rfl ?_
        refine zr_iload dX7_line_210 rfl ?_
        refine zr_callv (rest := [.ref (sZ σ1)]) (zs_IN (As := [.int ((cEd fs top 10 left (left + kInner c i)).1 + ((imax 0 ((cEd fs top 10 left (left + kInner c i)).2.1 - (cEd fs top 10 left (left + kInner c i)).1 - (lnGo ((cEd fs top 10 left (left + kInner c i)).2.1 - (cEd fs top 10 left (left + kInner c i)).1) r (nI n) 1).1)) / 2)), .int top, .int (nI (lnGo ((cEd fs top 10 left (left + kInner c i)).2.1 - (cEd fs top 10 left (left + kInner c i)).1) r (nI n) 1).2)]) (by omega) ok_X11_init q1462 q1463 q96 q1464 rfl rfl rfl (Nat.le_of_ble_eq_true rfl) dX7_line_212) (c_X11_init (by omega) (sF_newS _ _ _ _)) ?_
        have hXu : zX G S0 σ1 (sUp (sNew σ1 0 (.inr (11, d0_X11)) 3) (sZ σ1) (.inr (11, [.int ((cEd fs top 10 left (left + kInner c i)).1 + ((imax 0 ((cEd fs top 10 left (left + kInner c i)).2.1 - (cEd fs top 10 left (left + kInner c i)).1 - (lnGo ((cEd fs top 10 left (left + kInner c i)).2.1 - (cEd fs top 10 left (left + kInner c i)).1) r (nI n) 1).1)) / 2)), .int top, .int (nI (lnGo ((cEd fs top 10 left (left + kInner c i)).2.1 - (cEd fs top 10 left (left + kInner c i)).1) r (nI n) 1).2)]))) (3 + 4) := hXe.upN (sF_newS _ _ _ _) (Nat.le_refl _)
        have e9 : lnShift (kF c i 23) (imax 0 ((cEd fs top 10 left (left + kInner c i)).2.1 - (cEd fs top 10 left (left + kInner c i)).1 - (lnGo ((cEd fs top 10 left (left + kInner c i)).2.1 - (cEd fs top 10 left (left + kInner c i)).1) r (nI n) 1).1)) = ((imax 0 ((cEd fs top 10 left (left + kInner c i)).2.1 - (cEd fs top 10 left (left + kInner c i)).1 - (lnGo ((cEd fs top 10 left (left + kInner c i)).2.1 - (cEd fs top 10 left (left + kInner c i)).1) r (nI n) 1).1)) / 2) := by unfold lnShift; rw [if_neg h5, if_pos h6]
        exact zr_aret rfl (.inl ⟨_, rfl⟩) (.inr ⟨_, rfl⟩) dX7_line_215 (⟨(hX1.trans hXu).le (by omega), by rw [if_neg hc, e9]; exact ⟨_, rfl, sF_upS _ _ _, (show sT (sNew σ1 0 (.inr (11, d0_X11)) 3) (sZ σ1) = 0 from sT_newS _ _ _ _)⟩⟩)
    · refine zr_iconst (v := 0) dX7_line_172 (by decide) ?_
      refine zr_goto (tgt := 194) dX7_line_173 (by decide) ?_
      refine zr_istore (ls2 := [(0, .ref cx), (1, .ref (kA c (rB i))), (2, .int (nI fst)), (3, .int left), (4, .int top), (5, .ref q), (6, .int (lnGo ((cEd fs top 10 left (left + kInner c i)).2.1 - (cEd fs top 10 left (left + kInner c i)).1) r (nI n) 1).1), (7, .int (nI (lnGo ((cEd fs top 10 left (left + kInner c i)).2.1 - (cEd fs top 10 left (left + kInner c i)).1) r (nI n) 1).2)), (8, .int (imax 0 (((cEd fs top 10 left (left + kInner c i)).2.1 - (cEd fs top 10 left (left + kInner c i)).1) - (lnGo ((cEd fs top 10 left (left + kInner c i)).2.1 - (cEd fs top 10 left (left + kInner c i)).1) r (nI n) 1).1))), (9, .int 0)]) dX7_line_194 (Nat.le_of_ble_eq_true rfl) rfl ?_
      refine zr_new (ci := 11) (0) zt_X11 q1456 q1457 q96 rfl df_X11 dX7_line_196 ?_
      have hXe := zX.new S0 hX1.gd 0 (by omega) (.inr (11, d0_X11)) 3
      have hqe := hXe.at hX1.gd hq (fun h => h)
      refine zr_dup dX7_line_199 rfl ?_
      refine zr_aload dX7_line_200 rfl ?_
      refine zr_call1 (rest := [.ref (sZ σ1), .ref (sZ σ1)]) (zs_V (As := []) (by omega) ok_X9_left q1458 q1459 q1460 q94 q1461 rfl hqe rfl rfl rfl (Nat.le_of_ble_eq_true rfl) dX7_line_202) (c_X9_left hqe) ?_
      refine zr_iload dX7_line_205 rfl ?_
      refine zr_iadd dX7_line_207 ?_
      refine zr_iload dX7_line_208 rfl ?_
      refine zr_iload dX7_line_210 rfl ?_
      refine zr_callv (rest := [.ref (sZ σ1)]) (zs_IN (As := [.int ((cEd fs top 10 left (left + kInner c i)).1 + 0), .int top, .int (nI (lnGo ((cEd fs top 10 left (left + kInner c i)).2.1 - (cEd fs top 10 left (left + kInner c i)).1) r (nI n) 1).2)]) (by omega) ok_X11_init q1462 q1463 q96 q1464 rfl rfl rfl (Nat.le_of_ble_eq_true rfl) dX7_line_212) (c_X11_init (by omega) (sF_newS _ _ _ _)) ?_
      have hXu : zX G S0 σ1 (sUp (sNew σ1 0 (.inr (11, d0_X11)) 3) (sZ σ1) (.inr (11, [.int ((cEd fs top 10 left (left + kInner c i)).1 + 0), .int top, .int (nI (lnGo ((cEd fs top 10 left (left + kInner c i)).2.1 - (cEd fs top 10 left (left + kInner c i)).1) r (nI n) 1).2)]))) (3 + 4) := hXe.upN (sF_newS _ _ _ _) (Nat.le_refl _)
      have e9 : lnShift (kF c i 23) (imax 0 ((cEd fs top 10 left (left + kInner c i)).2.1 - (cEd fs top 10 left (left + kInner c i)).1 - (lnGo ((cEd fs top 10 left (left + kInner c i)).2.1 - (cEd fs top 10 left (left + kInner c i)).1) r (nI n) 1).1)) = 0 := by unfold lnShift; rw [if_pos h5]
      exact zr_aret rfl (.inl ⟨_, rfl⟩) (.inr ⟨_, rfl⟩) dX7_line_215 (⟨(hX1.trans hXu).le (by omega), by rw [if_neg hc, e9]; exact ⟨_, rfl, sF_upS _ _ _, (show sT (sNew σ1 0 (.inr (11, d0_X11)) 3) (sZ σ1) = 0 from sT_newS _ _ _ _)⟩⟩)
