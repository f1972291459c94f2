/-! ===== the reference: pages (rows printed by tools/p128.py) ===== -/
def nFb (c : zCS) (h tp : Int32) (j : Nat) : Bool := decide (kF c j 22 = 102) || (decide (kF c j 22 = 118) && (decide (h < kP c j 1 + kP c j 3 - tp) && decide (kP c j 3 ≤ h)))
def nFl (c : zCS) (u : Un5) : Bool := decide (kF c u.1 2 = 116) && (decide (u.2.1 = 0) && decide (1 < (kLn c u.1).length))
def nBrk (c : zCS) (h tp : Int32) (u : Un5) : Bool := u.2.2.2.2.any (nFb c h tp) || ((nFl c u && decide (h < kP c u.1 1 + lnY c u.1 1 + 10 - tp)) || decide (h < u.2.2.2.1 - tp))
abbrev PdT : Type := Int32 × Int32 × List (Nat × Int32 × Int32)
def nNew (c : zCS) (h : Int32) (s : PdT) (u : Un5) : Bool := !s.2.2.isEmpty && nBrk c h s.2.1 u
def nPg (c : zCS) (h : Int32) (s : PdT) (u : Un5) : PdT :=
  (s.1 + (if nNew c h s u = true then 1 else 0), if (nNew c h s u || s.2.2.isEmpty) = true then u.2.2.1 else s.2.1, s.2.2 ++ [(u.1, u.2.1, s.1 + (if nNew c h s u = true then 1 else 0))])
def nAllU (c : zCS) : UnT := nUs c 24 ([], []) 0
def nPaged (c : zCS) (h : Int32) : PdT := (nAllU c).2.foldl (nPg c h) (0, 0, [])
def uWf (c : zCS) (us : List Un5) : Prop := ∀ u, u ∈ us → u.1 < kN c ∧ ∀ x, x ∈ u.2.2.2.2 → x < kN c
theorem nUs_wf {c : zCS} (hK : KWf c) : ∀ (f : Nat) (s : UnT) (i : Nat), i < kN c → (∀ x, x ∈ s.1 → x < kN c) → uWf c s.2 → (∀ x, x ∈ (nUs c f s i).1 → x < kN c) ∧ uWf c (nUs c f s i).2 := by
  have hput : ∀ (s : UnT) (i : Nat) (k tp h : Int32), i < kN c → (∀ x, x ∈ s.1 → x < kN c) → uWf c s.2 → (∀ x, x ∈ (nUnit s i k tp h).1 → x < kN c) ∧ uWf c (nUnit s i k tp h).2 := by
    intro s i k tp h hi h1 h2
    refine ⟨fun x hx => absurd hx List.not_mem_nil, fun u hu => ?_⟩
    have hu' : u ∈ s.2 ++ [(i, k, tp, tp + h, s.1)] := hu
    rcases List.mem_append.mp hu' with h3 | h3
    · exact h2 u h3
    · rw [List.mem_singleton.mp h3]; exact ⟨hi, h1⟩
  intro f
  induction f with
  | zero => intro s i _ h1 h2; exact ⟨h1, h2⟩
  | succ f ih =>
    intro s i hi h1 h2
    have h9 : ∀ (ys : List Nat) (s : UnT), (∀ j, j ∈ ys → j < kN c) → (∀ x, x ∈ s.1 → x < kN c) → uWf c s.2 → (∀ x, x ∈ (ys.foldl (nKid c (nUs c f)) s).1 → x < kN c) ∧ uWf c (ys.foldl (nKid c (nUs c f)) s).2 := by
      intro ys
      induction ys with
      | nil => intro s _ h1 h2; exact ⟨h1, h2⟩
      | cons y ys ihy =>
        intro s hy h1 h2
        have hyN := hy y (List.mem_cons_self ..)
        have hk : (∀ x, x ∈ (nKid c (nUs c f) s y).1 → x < kN c) ∧ uWf c (nKid c (nUs c f) s y).2 := by
          unfold nKid
          split
          · exact ⟨h1, h2⟩
          · have h1' : ∀ x, x ∈ (s.1 ++ [y], s.2).1 → x < kN c := fun x hx => by
              rcases List.mem_append.mp hx with h3 | h3
              · exact h1 x h3
              · rw [List.mem_singleton.mp h3]; exact hyN
            have ho : uWf c (nOne c (nUs c f) (s.1 ++ [y], s.2) y).2 := by
              unfold nOne
              split
              · have h8 : ∀ (zs : List Nat) (s : UnT), (∀ x, x ∈ s.1 → x < kN c) → uWf c s.2 → uWf c (zs.foldl (nLnU c y) s).2 := by
                  intro zs
                  induction zs with
                  | nil => intro s _ h2; exact h2
                  | cons z zs ihz =>
                    intro s h1 h2
                    have h3 := hput s y (nI z) (kP c y 1 + lnY c y z) 10 hyN h1 h2
                    exact ihz _ h3.1 h3.2
                exact h8 _ _ h1' h2
              · split
                · exact (ih _ _ hyN h1' h2).2
                · split
                  · exact (hput _ _ _ _ _ hyN h1' h2).2
                  · exact h2
            refine ⟨fun x hx => ?_, ho⟩
            have hx' : x ∈ (if (nOne c (nUs c f) (s.1 ++ [y], s.2) y).1 = [] then [] else s.1) := hx
            split at hx'
            · exact absurd hx' List.not_mem_nil
            · exact h1 x hx'
        exact ihy _ (fun j hj => hy j (List.mem_cons_of_mem _ hj)) hk.1 hk.2
    exact h9 _ s (fun j hj => (hK.ch hi hj).2.1) h1 h2
set_option maxHeartbeats 4000000 in
theorem l_X4_brk {G : zG} {σ : zT} {d m : Nat} {c : zCS} {th ct tp h : Int32} {q fl it : Nat} {es : List Nat} {Q : zO → zT → Prop} (hd : 8 ≤ d) (hG : zOk G) (hw : zGd G σ) (hS : MSys G σ c th ct) (hL : zL G σ 2016 fl 0 (es.map (fun j => kA c (rB j)))) (hes : ∀ x, x ∈ es → x < kN c) (hit : sZ σ ≤ it) : ∀ (ys : List Nat) (k : Nat) (lr : Int32) (σ1 : zT), es.drop k = ys → k ≤ es.length → zX G S0 σ σ1 m → sF σ1 it = some (.inr (21, [.int (nI k), .int lr, .int 0, .ref fl])) → (∀ σ2, zX G S0 σ σ2 m → ys.any (nFb c h tp) = true → Q (.inl (some (.int 1))) σ2) → (∀ σ2, zX G S0 σ σ2 m → ys.any (nFb c h tp) = false → zR G yX4_isBreaking cX4_isBreaking 5 (Option.some Jvm.ClassFile.FieldType.boolean) [] d 79 [(0, .ref q), (1, .int tp), (2, .int h)] [] σ2 Q) → zR G yX4_isBreaking cX4_isBreaking 5 (Option.some Jvm.ClassFile.FieldType.boolean) [] d 8 [(0, .ref q), (1, .int tp), (2, .int h), (3, .ref it)] [] σ1 Q := by
  intro ys
  induction ys with
  | nil =>
    intro k lr σ1 hy hk hX hI k1 k0
    have hL1 := hX.L hw hL (fun h => h) (fun h => h)
    have hkl := drop_nil hy hk
    refine zr_aload_n dX4_isBreaking_8 rfl rfl ?_
    refine zr_call51 (rest := []) (zs_F (As := []) (by omega) okF_J23_hasNext (by decide +kernel) q2324 q927 q929 q84 q931 (.new hI) rfl rfl rfl (Nat.le_of_ble_eq_true rfl) dX4_isBreaking_9) (c_hasNext0 hL1 hI (by rw [List.length_map]; exact hkl)) ?_
    refine zr_if_eq (tgt := 79) dX4_isBreaking_14 (by decide) (fun _ => ?_) (fun h9 => absurd (rfl) h9)
    refine zr_sub (ls2 := [(0, .ref q), (1, .int tp), (2, .int h)]) [0, 1, 2] rfl ?_
    exact k0 σ1 hX rfl
  | cons j ys ih =>
    intro k lr σ1 hy hk hX hI k1 k0
    have hL1 := hX.L hw hL (fun h => h) (fun h => h)
    obtain ⟨hx, hy2, hkl, hm⟩ := drop_cons hy
    have hj := hes j hm
    have hX2 := hX.upN (gs := [.int (nI (k + 1)), .int (nI k), .int 0, .ref fl]) hI hit
    have hI2 : sF (sUp σ1 it (.inr (21, [.int (nI (k + 1)), .int (nI k), .int 0, .ref fl]))) it = _ := sF_upS _ _ _
    generalize hσ2 : sUp σ1 it (.inr (21, [.int (nI (k + 1)), .int (nI k), .int 0, .ref fl])) = σ2 at hX2 hI2
    have hS2 := hS.keep0 hw hX2
    have hyes : nFb c h tp j = true → zR G yX4_isBreaking cX4_isBreaking 5 (Option.some Jvm.ClassFile.FieldType.boolean) [] d 74 [(0, .ref q), (1, .int tp), (2, .int h), (3, .ref it), (4, .ref (kA c (rB j)))] [] σ2 Q := by
      intro hb
      refine zr_iconst (v := 1) dX4_isBreaking_74 (by decide) ?_
      exact zr_iret rfl rfl dX4_isBreaking_75 (k1 σ2 hX2 (by rw [List.any_cons, hb]; rfl))
    have hno : nFb c h tp j = false → zR G yX4_isBreaking cX4_isBreaking 5 (Option.some Jvm.ClassFile.FieldType.boolean) [] d 76 [(0, .ref q), (1, .int tp), (2, .int h), (3, .ref it), (4, .ref (kA c (rB j)))] [] σ2 Q := by
      intro hb
      refine zr_goto (tgt := 8) dX4_isBreaking_76 (by decide) ?_
      refine zr_sub (ls2 := [(0, .ref q), (1, .int tp), (2, .int h), (3, .ref it)]) [0, 1, 2, 3] rfl ?_
      have hc9 : (j :: ys).any (nFb c h tp) = ys.any (nFb c h tp) := by rw [List.any_cons, hb, Bool.false_or]
      rw [hc9] at k1 k0
      exact ih (k + 1) _ σ2 hy2 hkl hX2 hI2 k1 k0
    refine zr_aload_n dX4_isBreaking_8 rfl rfl ?_
    refine zr_call51 (rest := []) (zs_F (As := []) (by omega) okF_J23_hasNext (by decide +kernel) q2324 q927 q929 q84 q931 (.new hI) rfl rfl rfl (Nat.le_of_ble_eq_true rfl) dX4_isBreaking_9) (c_hasNext1 hL1 hI (by rw [List.length_map]; exact hkl)) ?_
    refine zr_if_eq (tgt := 79) dX4_isBreaking_14 (by decide) (fun h9 => absurd h9 (by decide)) (fun _ => ?_)
    refine zr_aload_n dX4_isBreaking_17 rfl rfl ?_
    refine zr_call51 (rest := []) (zs_F (As := []) (by omega) okF_J23_next (by decide +kernel) q2326 q1044 q1046 q84 q1048 (.new hI) rfl rfl rfl (Nat.le_of_ble_eq_true rfl) dX4_isBreaking_18) (c_J23_next (by omega) hG hL1 hI (map_at (fun j => kA c (rB j)) hx)) ?_
    rw [hσ2]
    refine zr_castS (hS2.bx hj) rfl q2084 dX4_isBreaking_23 ?_
    refine zr_astore (ls2 := [(0, .ref q), (1, .int tp), (2, .int h), (3, .ref it), (4, .ref (kA c (rB j)))]) dX4_isBreaking_26 (Nat.le_of_ble_eq_true rfl) rfl ?_
    refine zr_aload dX4_isBreaking_28 rfl ?_
    refine zr_get (k := 22) (v := .int (kF c j 22)) in_X5 (hS2.bx hj) rfl (Nat.le_of_ble_eq_true rfl) q2137 (.inl rfl) rfl dX4_isBreaking_30 ?_
    refine zr_bipush (v := 102) dX4_isBreaking_33 (by decide) ?_
    refine zr_icmp_eq (tgt := 74) dX4_isBreaking_35 (by decide) (fun h1 => ?_) (fun h1 => ?_)
    · exact hyes (by unfold nFb; rw [decide_eq_true (show kF c j 22 = 102 by first | exact h1 | exact Decidable.not_not.mp h1)]; rfl)
    · have h1n : decide (kF c j 22 = 102) = false := decide_eq_false (by first | exact h1 | exact fun h => h1 h)
      refine zr_aload dX4_isBreaking_38 rfl ?_
      refine zr_get (k := 22) (v := .int (kF c j 22)) in_X5 (hS2.bx hj) rfl (Nat.le_of_ble_eq_true rfl) q2137 (.inl rfl) rfl dX4_isBreaking_40 ?_
      refine zr_bipush (v := 118) dX4_isBreaking_43 (by decide) ?_
      refine zr_icmp_ne (tgt := 76) dX4_isBreaking_45 (by decide) (fun h2 => ?_) (fun h2 => ?_)
      · exact hno (by unfold nFb; rw [h1n, decide_eq_false (show ¬ kF c j 22 = 118 by first | exact h2 | exact fun h => h2 h)]; rfl)
      · have h2y : decide (kF c j 22 = 118) = true := decide_eq_true (by first | exact h2 | exact Decidable.not_not.mp h2)
        refine zr_aload dX4_isBreaking_48 rfl ?_
        refine zr_get (k := 28) (v := .int (kP c j 1)) in_X5 (hS2.bx hj) rfl (Nat.le_of_ble_eq_true rfl) q2149 (.inl rfl) rfl dX4_isBreaking_50 ?_
        refine zr_aload dX4_isBreaking_53 rfl ?_
        refine zr_get (k := 30) (v := .int (kP c j 3)) in_X5 (hS2.bx hj) rfl (Nat.le_of_ble_eq_true rfl) q2153 (.inl rfl) rfl dX4_isBreaking_55 ?_
        refine zr_iadd dX4_isBreaking_58 ?_
        refine zr_iload_n dX4_isBreaking_59 rfl rfl ?_
        refine zr_isub dX4_isBreaking_60 ?_
        refine zr_iload_n dX4_isBreaking_61 rfl rfl ?_
        refine zr_icmp_le (tgt := 76) dX4_isBreaking_62 (by decide) (fun h3 => ?_) (fun h3 => ?_)
        · exact hno (by unfold nFb; rw [h1n, h2y, decide_eq_false (Int32.not_lt.mpr h3)]; rfl)
        · refine zr_aload dX4_isBreaking_65 rfl ?_
          refine zr_get (k := 30) (v := .int (kP c j 3)) in_X5 (hS2.bx hj) rfl (Nat.le_of_ble_eq_true rfl) q2153 (.inl rfl) rfl dX4_isBreaking_67 ?_
          refine zr_iload_n dX4_isBreaking_70 rfl rfl ?_
          refine zr_icmp_gt (tgt := 76) dX4_isBreaking_71 (by decide) (fun h4 => ?_) (fun h4 => ?_)
          · exact hno (by unfold nFb; rw [h1n, h2y, decide_eq_false (Int32.not_le.mpr h4), Bool.and_false]; rfl)
          · exact hyes (by unfold nFb; rw [h1n, h2y, decide_eq_true (Int32.not_le.mp h3), decide_eq_true (Int32.not_lt.mp h4)]; rfl)
set_option maxHeartbeats 4000000 in
theorem c_X4_isBreaking {G : zG} {σ : zT} {d : Nat} {c : zCS} {th ct tp h : Int32} {q : Nat} {u : Un5} (hd : 10 ≤ d) (hG : zOk G) (hw : zGd G σ) (hS : MSys G σ c th ct) (hu : uOk1 G σ c q u) (hu1 : u.1 < kN c) (huf : ∀ x, x ∈ u.2.2.2.2 → x < kN c) : zCall G I_X4_isBreaking d [.ref q, .int tp, .int h] σ ((fun o σ' => o = .inl (some (.int (bI (nBrk c h tp u)))) ∧ zX G S0 σ σ' 8)) := by
  refine zCall_of (ls := [(0, .ref q), (1, .int tp), (2, .int h)]) (by decide) (Nat.le_of_ble_eq_true rfl) rfl ?_
  obtain ⟨fl, hq, hqt, hF⟩ := hu
  have key : ∀ σ2, zX G S0 σ σ2 8 → u.2.2.2.2.any (nFb c h tp) = false → zR G yX4_isBreaking cX4_isBreaking 5 (Option.some Jvm.ClassFile.FieldType.boolean) [] d 79 [(0, .ref q), (1, .int tp), (2, .int h)] [] σ2 (fun o σ' => o = .inl (some (.int (bI (nBrk c h tp u)))) ∧ zX G S0 σ σ' 8) := by
    intro σ2 hX hn
    have hS2 := hS.keep0 hw hX
    have hqz : zAt G σ2 q (.inr (18, [.ref (kA c (rB u.1)), .int u.2.1, .int u.2.2.1, .int u.2.2.2.1, .ref fl])) := .new (hX.f hw hq (fun h => h))
    obtain ⟨ml, xl, l1, l2, l3⟩ := hS2.lnL hu1
    obtain ⟨fl_l, hfll⟩ := l1.A
    refine zr_aload_n dX4_isBreaking_79 rfl rfl ?_
    refine zr_call1 (rest := []) (zs_V (As := []) (by omega) ok_X18_box q2762 q2763 q2764 q103 q2765 rfl hqz rfl rfl rfl (Nat.le_of_ble_eq_true rfl) dX4_isBreaking_80) (c_X18_box hqz) ?_
    refine zr_get (k := 6) (v := .ref (kA c (rL u.1))) in_X5 (hS2.bx hu1) rfl (Nat.le_of_ble_eq_true rfl) q2105 (.inl rfl) rfl dX4_isBreaking_83 ?_
    refine zr_astore_n (ls2 := [(0, .ref q), (1, .int tp), (2, .int h), (3, .ref (kA c (rL u.1)))]) dX4_isBreaking_86 rfl (Nat.le_of_ble_eq_true rfl) rfl ?_
    have k158 : (nFl c u && decide (h < kP c u.1 1 + lnY c u.1 1 + 10 - tp)) = false → ∀ z : Int32, zR G yX4_isBreaking cX4_isBreaking 5 (Option.some Jvm.ClassFile.FieldType.boolean) [] d 158 [(0, .ref q), (1, .int tp), (2, .int h), (3, .ref (kA c (rL u.1))), (4, .int z)] [] σ2 (fun o σ' => o = .inl (some (.int (bI (nBrk c h tp u)))) ∧ zX G S0 σ σ' 8) := by
      intro hb z
      refine zr_aload_n dX4_isBreaking_158 rfl rfl ?_
      refine zr_call1 (rest := []) (zs_V (As := []) (by omega) ok_X18_bottom q2770 q2771 q2772 q103 q2773 rfl hqz rfl rfl rfl (Nat.le_of_ble_eq_true rfl) dX4_isBreaking_159) (c_X18_bottom hqz) ?_
      refine zr_iload_n dX4_isBreaking_162 rfl rfl ?_
      refine zr_isub dX4_isBreaking_163 ?_
      refine zr_iload_n dX4_isBreaking_164 rfl rfl ?_
      refine zr_icmp_le (tgt := 172) dX4_isBreaking_165 (by decide) (fun h9 => ?_) (fun h9 => ?_)
      · refine zr_iconst (v := 0) dX4_isBreaking_172 (by decide) ?_
        exact zr_iret rfl rfl dX4_isBreaking_173 (⟨by rw [show nBrk c h tp u = false from by unfold nBrk; rw [hn, hb, decide_eq_false (Int32.not_lt.mpr h9)]; rfl]; rfl, hX⟩)
      · refine zr_iconst (v := 1) dX4_isBreaking_168 (by decide) ?_
        refine zr_goto (tgt := 173) dX4_isBreaking_169 (by decide) ?_
        exact zr_iret rfl rfl dX4_isBreaking_173 (⟨by rw [show nBrk c h tp u = true from by unfold nBrk; rw [decide_eq_true (Int32.not_le.mp h9), Bool.or_true, Bool.or_true]]; rfl, hX⟩)
    have k121 : ∀ z : Int32, z = bI (nFl c u) → zR G yX4_isBreaking cX4_isBreaking 5 (Option.some Jvm.ClassFile.FieldType.boolean) [] d 121 [(0, .ref q), (1, .int tp), (2, .int h), (3, .ref (kA c (rL u.1)))] [.int z] σ2 (fun o σ' => o = .inl (some (.int (bI (nBrk c h tp u)))) ∧ zX G S0 σ σ' 8) := by
      intro z hz
      subst hz
      refine zr_istore (ls2 := [(0, .ref q), (1, .int tp), (2, .int h), (3, .ref (kA c (rL u.1))), (4, .int (bI (nFl c u)))]) dX4_isBreaking_121 (Nat.le_of_ble_eq_true rfl) rfl ?_
      refine zr_iload dX4_isBreaking_123 rfl ?_
      refine zr_ifeqB (tgt := 158) dX4_isBreaking_125 (by decide) (fun h5 => ?_) (fun h5 => ?_)
      · exact k158 (by rw [h5]; rfl) _
      · have hln : 1 < (kLn c u.1).length := by
          unfold nFl at h5
          simp only [Bool.and_eq_true, decide_eq_true_eq] at h5
          exact h5.2.2
        obtain ⟨q1, hq1⟩ : ∃ q1, xl[1]? = some q1 := ⟨_, List.getElem?_eq_getElem (by omega)⟩
        obtain ⟨z1, hz1⟩ : ∃ z1, (kLn c u.1)[1]? = some z1 := ⟨_, List.getElem?_eq_getElem hln⟩
        have hqz1 : zAt G σ2 q1 (.inr (14, [.int z1.2.2, .int z1.1, .int z1.2.1])) := .new (l3 1 q1 z1 hq1 hz1).1
        have hly : lnY c u.1 1 = z1.2.1 := by unfold lnY; rw [List.getD_eq_getElem?_getD, hz1]; rfl
        refine zr_aload_n dX4_isBreaking_128 rfl rfl ?_
        refine zr_call1 (rest := []) (zs_V (As := []) (by omega) ok_X18_box q2762 q2763 q2764 q103 q2765 rfl hqz rfl rfl rfl (Nat.le_of_ble_eq_true rfl) dX4_isBreaking_129) (c_X18_box hqz) ?_
        refine zr_get (k := 28) (v := .int (kP c u.1 1)) in_X5 (hS2.bx hu1) rfl (Nat.le_of_ble_eq_true rfl) q2149 (.inl rfl) rfl dX4_isBreaking_132 ?_
        refine zr_aload_n dX4_isBreaking_135 rfl rfl ?_
        refine zr_iconst (v := 1) dX4_isBreaking_136 (by decide) ?_
        refine zr_call51 (rest := [.int (kP c u.1 1)]) (zs_F (As := [.int 1]) (by omega) okF_J2_get (by decide +kernel) q2390 q1106 q959 q56 q960 hfll rfl rfl rfl (Nat.le_of_ble_eq_true rfl) dX4_isBreaking_137) (c_J2_get (i := 1) (by omega) hG l1 hq1) ?_
        refine zr_castS hqz1 rfl q2481 dX4_isBreaking_142 ?_
        refine zr_call1 (rest := [.int (kP c u.1 1)]) (zs_V (As := []) (by omega) ok_X14_y q2603 q2604 q2605 q99 q2606 rfl hqz1 rfl rfl rfl (Nat.le_of_ble_eq_true rfl) dX4_isBreaking_145) (c_X14_y hqz1) ?_
        rw [← hly]
        refine zr_iadd dX4_isBreaking_148 ?_
        refine zr_bipush (v := 10) dX4_isBreaking_149 (by decide) ?_
        refine zr_iadd dX4_isBreaking_151 ?_
        refine zr_iload_n dX4_isBreaking_152 rfl rfl ?_
        refine zr_isub dX4_isBreaking_153 ?_
        refine zr_iload_n dX4_isBreaking_154 rfl rfl ?_
        refine zr_icmp_gt (tgt := 168) dX4_isBreaking_155 (by decide) (fun h6 => ?_) (fun h6 => ?_)
        · refine zr_iconst (v := 1) dX4_isBreaking_168 (by decide) ?_
          refine zr_goto (tgt := 173) dX4_isBreaking_169 (by decide) ?_
          exact zr_iret rfl rfl dX4_isBreaking_173 (⟨by rw [show nBrk c h tp u = true from by unfold nBrk; rw [h5, decide_eq_true h6, Bool.true_and, Bool.true_or, Bool.or_true]]; rfl, hX⟩)
        · exact k158 (by rw [decide_eq_false h6, Bool.and_false]) _
    refine zr_aload_n dX4_isBreaking_87 rfl rfl ?_
    refine zr_call1 (rest := []) (zs_V (As := []) (by omega) ok_X18_box q2762 q2763 q2764 q103 q2765 rfl hqz rfl rfl rfl (Nat.le_of_ble_eq_true rfl) dX4_isBreaking_88) (c_X18_box hqz) ?_
    refine zr_get (k := 1) (v := .int (kF c u.1 2)) in_X5 (hS2.bx hu1) rfl (Nat.le_of_ble_eq_true rfl) q2095 (.inl rfl) rfl dX4_isBreaking_91 ?_
    refine zr_bipush (v := 116) dX4_isBreaking_94 (by decide) ?_
    refine zr_icmp_ne (tgt := 120) dX4_isBreaking_96 (by decide) (fun h1 => ?_) (fun h1 => ?_)
    · refine zr_iconst (v := 0) dX4_isBreaking_120 (by decide) ?_
      exact k121 _ (by unfold nFl; rw [decide_eq_false (by first | exact h1 | exact fun h => h1 h)]; rfl)
    · have h1y : decide (kF c u.1 2 = 116) = true := decide_eq_true (by first | exact h1 | exact Decidable.not_not.mp h1)
      refine zr_aload_n dX4_isBreaking_99 rfl rfl ?_
      refine zr_call1 (rest := []) (zs_V (As := []) (by omega) ok_X18_line q2766 q2767 q2768 q103 q2769 rfl hqz rfl rfl rfl (Nat.le_of_ble_eq_true rfl) dX4_isBreaking_100) (c_X18_line hqz) ?_
      refine zr_if_ne (tgt := 120) dX4_isBreaking_103 (by decide) (fun h2 => ?_) (fun h2 => ?_)
      · refine zr_iconst (v := 0) dX4_isBreaking_120 (by decide) ?_
        exact k121 _ (by unfold nFl; rw [h1y, decide_eq_false (by first | exact h2 | exact fun h => h2 h)]; rfl)
      · have h2y : decide (u.2.1 = 0) = true := decide_eq_true (by first | exact h2 | exact Decidable.not_not.mp h2)
        refine zr_aload_n dX4_isBreaking_106 rfl rfl ?_
        refine zr_call51 (rest := []) (zs_F (As := []) (by omega) okF_J2_size (by decide +kernel) q2388 q162 q164 q56 q166 hfll rfl rfl rfl (Nat.le_of_ble_eq_true rfl) dX4_isBreaking_107) (c_size (by omega) l1 l2) ?_
        refine zr_iconst (v := 1) dX4_isBreaking_112 (by decide) ?_
        have hll : (kLn c u.1).length ≤ 1000000 := by obtain ⟨arr9, cap9, f9, -, -, c1, c2, -⟩ := l1; omega
        refine zr_icmp_le (tgt := 120) dX4_isBreaking_113 (by decide) (fun h3 => ?_) (fun h3 => ?_)
        · refine zr_iconst (v := 0) dX4_isBreaking_120 (by decide) ?_
          exact k121 _ (by unfold nFl; rw [decide_eq_false (show ¬ 1 < (kLn c u.1).length from Nat.not_lt.mpr ((nI_leI (by omega) (by omega)).mp (show nI (kLn c u.1).length ≤ nI 1 from h3))), Bool.and_false, Bool.and_false]; rfl)
        · refine zr_iconst (v := 1) dX4_isBreaking_116 (by decide) ?_
          refine zr_goto (tgt := 121) dX4_isBreaking_117 (by decide) ?_
          exact k121 _ (by unfold nFl; rw [h1y, h2y, decide_eq_true (show 1 < (kLn c u.1).length from Nat.lt_of_not_le (fun h9 => h3 (show nI (kLn c u.1).length ≤ nI 1 from (nI_leI (by omega) (by omega)).mpr h9)))]; rfl)
  have hqz : zAt G σ q (.inr (18, [.ref (kA c (rB u.1)), .int u.2.1, .int u.2.2.1, .int u.2.2.2.1, .ref fl])) := .new hq
  refine zr_aload_n dX4_isBreaking_0 rfl rfl ?_
  refine zr_call1 (rest := []) (zs_V (As := []) (by omega) ok_X18_firsts q2758 q2759 q2760 q103 q2761 rfl hqz rfl rfl rfl (Nat.le_of_ble_eq_true rfl) dX4_isBreaking_1) (c_X18_firsts hqz) ?_
  rcases hF with ⟨he, ⟨arr, h1⟩, -⟩ | hF
  · have hXi : zX G S0 σ (sNew σ 0 (.inr (21, [.int 0, .int (-1), .int 0, .ref fl])) 4) 8 := zX.new S0 hw 0 (by omega) _ 4
    have hIi := sF_newS σ 0 (.inr (21, [.int 0, .int (-1), .int 0, .ref fl])) 4
    have hne := List.map_eq_nil_iff.mp he
    have h1i := hXi.f hw h1 (fun h => h)
    refine zr_call1 (rest := []) (zs_V (As := []) (by omega) ok_J2_iterator q2322 q834 q2841 q56 q836 rfl (.new h1) rfl rfl rfl (Nat.le_of_ble_eq_true rfl) dX4_isBreaking_4) (c_J2_iterator0 (by omega) hw.1 h1) ?_
    refine zr_astore_n (ls2 := [(0, .ref q), (1, .int tp), (2, .int h), (3, .ref (sZ σ))]) dX4_isBreaking_7 rfl (Nat.le_of_ble_eq_true rfl) rfl ?_
    refine zr_aload_n dX4_isBreaking_8 rfl rfl ?_
    refine zr_call51 (rest := []) (zs_F (As := []) (by omega) okF_J23_hasNext (by decide +kernel) q2324 q927 q929 q84 q931 (.new hIi) rfl rfl rfl (Nat.le_of_ble_eq_true rfl) dX4_isBreaking_9) (c_hasNext00 h1i hIi) ?_
    refine zr_if_eq (tgt := 79) dX4_isBreaking_14 (by decide) (fun _ => ?_) (fun h9 => absurd (rfl) h9)
    refine zr_sub (ls2 := [(0, .ref q), (1, .int tp), (2, .int h)]) [0, 1, 2] rfl ?_
    exact key _ hXi (by rw [hne]; rfl)
  · have hXi : zX G S0 σ (sNew σ 0 (.inr (21, [.int 0, .int (-1), .int 0, .ref fl])) 4) 8 := zX.new S0 hw 0 (by omega) _ 4
    obtain ⟨fl_f, hff⟩ := hF.A
    refine zr_call1 (rest := []) (zs_V (As := []) (by omega) ok_J2_iterator q2322 q834 q2841 q56 q836 rfl hff rfl rfl rfl (Nat.le_of_ble_eq_true rfl) dX4_isBreaking_4) (c_J2_iterator (by omega) hw.1 hF) ?_
    refine zr_astore_n (ls2 := [(0, .ref q), (1, .int tp), (2, .int h), (3, .ref (sZ σ))]) dX4_isBreaking_7 rfl (Nat.le_of_ble_eq_true rfl) rfl ?_
    refine l_X4_brk (σ := σ) (m := 8) (by omega) hG hw hS hF huf (Nat.le_refl _) u.2.2.2.2 0 (-1) _ rfl (Nat.zero_le _) hXi (sF_newS _ _ _ _) (fun σ2 x2 hb => ⟨by rw [show nBrk c h tp u = true from by unfold nBrk; rw [hb, Bool.true_or]]; rfl, x2⟩) (fun σ2 x2 hb => key σ2 x2 hb)
def pOk1 (G : zG) (σ : zT) (c : zCS) (q : Nat) (z : Nat × Int32 × Int32) : Prop := ∃ (u9 fl : Nat) (a b : Int32), sF σ q = some (.inr (19, [.ref u9, .int z.2.2])) ∧ sT σ q = 2020 ∧ sF σ u9 = some (.inr (18, [.ref (kA c (rB z.1)), .int z.2.1, .int a, .int b, .ref fl])) ∧ sT σ u9 = 2012
def pPg (G : zG) (σ : zT) (c : zCS) (pl : Nat) (ps : List (Nat × Int32 × Int32)) : Prop := ∃ (mod : Int32) (xs : List Nat), zL G σ 2018 pl mod xs ∧ xs.length = ps.length ∧ ∀ (j q : Nat) (z : Nat × Int32 × Int32), xs[j]? = some q → ps[j]? = some z → pOk1 G σ c q z
theorem pOk1.keep {G : zG} {S : Nat → Prop} {σ σ1 : zT} {n q : Nat} {c : zCS} {z : Nat × Int32 × Int32} (h : pOk1 G σ c q z) (hw : zGd G σ) (hX : zX G S σ σ1 n) (h1 : ¬ S 2020) (h2 : ¬ S 2012) : pOk1 G σ1 c q z := by
  obtain ⟨u9, fl, a, b, p1, p2, p3, p4⟩ := h
  exact ⟨u9, fl, a, b, hX.f hw p1 (by rw [p2]; exact h1), (hX.t hw p1).trans p2, hX.f hw p3 (by rw [p4]; exact h2), (hX.t hw p3).trans p4⟩
theorem pPg.keep {G : zG} {S : Nat → Prop} {σ σ1 : zT} {n pl : Nat} {c : zCS} {ps : List (Nat × Int32 × Int32)} (h : pPg G σ c pl ps) (hw : zGd G σ) (hX : zX G S σ σ1 n) (h0 : ¬ S 2018) (h9 : ¬ S 2019) (h1 : ¬ S 2020) (h2 : ¬ S 2012) : pPg G σ1 c pl ps := by
  obtain ⟨mod, xs, a, b, d⟩ := h
  exact ⟨mod, xs, hX.L hw a h0 h9, b, fun j q u hq hu => (d j q u hq hu).keep hw hX h1 h2⟩
theorem pPg.add {G : zG} {σ σ1 : zT} {c : zCS} {pl q n : Nat} {xs : List Nat} {ps : List (Nat × Int32 × Int32)} {z : Nat × Int32 × Int32} (hw : zGd G σ) (hlen : xs.length = ps.length) (hps : ∀ (j q : Nat) (z : Nat × Int32 × Int32), xs[j]? = some q → ps[j]? = some z → pOk1 G σ c q z) (hq : pOk1 G σ c q z) (hX : zX G (fun s => s = 2018 ∨ s = 2018 + 1) σ σ1 n) {mod2 : Int32} (hL : zL G σ1 2018 pl mod2 (xs ++ [q])) : pPg G σ1 c pl (ps ++ [z]) := by
  refine ⟨_, _, hL, by rw [List.length_append, List.length_append, hlen]; rfl, fun j p u hp hu => ?_⟩
  have hk : pOk1 G σ c p u := by
    by_cases hj : j < xs.length
    · rw [List.getElem?_append_left hj] at hp
      rw [List.getElem?_append_left (by omega)] at hu
      exact hps j p u hp hu
    · have hj1 : j = xs.length := by
        have := (List.getElem?_eq_some_iff.mp hp).1
        rw [List.length_append, List.length_singleton] at this
        omega
      subst hj1
      rw [List.getElem?_append_right (Nat.le_refl _), Nat.sub_self] at hp
      rw [hlen, List.getElem?_append_right (Nat.le_refl _), Nat.sub_self] at hu
      cases hp
      cases hu
      exact hq
  exact hk.keep hw hX (by omega) (by omega)
set_option maxHeartbeats 4000000 in
theorem l_X4_paged {G : zG} {σ : zT} {d N M : Nat} {c : zCS} {th ct h mu : Int32} {ul pl it : Nat} {us : List Un5} {xs : List Nat} {Q : zO → zT → Prop} (hd : 20 ≤ d) (hG : zOk G) (hw : zGd G σ) (hS : MSys G σ c th ct) (hL : zL G σ 2010 ul mu xs) (hxl : xs.length = us.length) (hxs : ∀ (j q : Nat) (u : Un5), xs[j]? = some q → us[j]? = some u → uOk1 G σ c q u) (hus : uWf c us) (hM : M ≤ 900) (hit : sZ σ ≤ it) : ∀ (ys : List Un5) (k m : Nat) (lr : Int32) (s : PdT) (σ1 : zT), us.drop k = ys → k ≤ us.length → zX G (fun s => 2018 ≤ s ∧ s < 2030) σ σ1 m → m + ys.length * (40 + 2 * M) ≤ N → pPg G σ1 c pl s.2.2 → s.2.2.length + ys.length ≤ M → sF σ1 it = some (.inr (21, [.int (nI k), .int lr, .int mu, .ref ul])) → sT σ1 it = 0 → (∀ σ2, pPg G σ2 c pl (ys.foldl (nPg c h) s).2.2 → zX G (fun s => 2018 ≤ s ∧ s < 2030) σ σ2 N → Q (.inl (some (.ref pl))) σ2) → zR G yX4_paged cX4_paged 9 (Option.some (Jvm.ClassFile.FieldType.object "java/util/ArrayList")) [] d 50 [(0, .ref (kA c 1)), (1, .int h), (2, .ref ul), (3, .ref pl), (4, .int s.1), (5, .int s.2.1), (6, .ref it)] [] σ1 Q := by
  intro ys
  induction ys with
  | nil =>
    intro k m lr s σ1 hy hk hX hN hP hM2 hI hT kQ
    have hL1 := hX.L hw hL (by omega) (by omega)
    have hkl := drop_nil hy hk
    refine zr_aload dX4_paged_50 rfl ?_
    refine zr_call51 (rest := []) (zs_F (As := []) (by omega) okF_J23_hasNext (by decide +kernel) q2324 q927 q929 q84 q931 (.new hI) rfl rfl rfl (Nat.le_of_ble_eq_true rfl) dX4_paged_52) (c_hasNext0 hL1 hI (by omega)) ?_
    refine zr_if_eq (tgt := 150) dX4_paged_57 (by decide) (fun _ => ?_) (fun h9 => absurd (rfl) h9)
    refine zr_aload_n dX4_paged_150 rfl rfl ?_
    exact zr_aret rfl (.inl ⟨_, rfl⟩) (.inr ⟨_, rfl⟩) dX4_paged_151 (kQ σ1 hP (hX.le (by omega)))
  | cons u ys ih =>
    intro k m lr s σ1 hy hk hX hN hP hM2 hI hT kQ
    have hL1 := hX.L hw hL (by omega) (by omega)
    obtain ⟨hx, hy2, hkl, hm⟩ := drop_cons hy
    obtain ⟨q, hq⟩ : ∃ q, xs[k]? = some q := ⟨_, List.getElem?_eq_getElem (by omega)⟩
    have huk := hxs k q u hq hx
    have huw := hus u hm
    rw [List.length_cons] at hM2 hN
    have hN2 : (ys.length + 1) * (40 + 2 * M) = ys.length * (40 + 2 * M) + (40 + 2 * M) := Nat.succ_mul _ _
    have hfold : ∀ s, List.foldl (nPg c h) s (u :: ys) = ys.foldl (nPg c h) (nPg c h s u) := fun _ => rfl
    simp only [hfold] at kQ
    have hX2 := hX.upN (gs := [.int (nI (k + 1)), .int (nI k), .int mu, .ref ul]) hI hit
    have hX12 : zX G (ST 0) σ1 (sUp σ1 it (.inr (21, [.int (nI (k + 1)), .int (nI k), .int mu, .ref ul]))) 0 := zX.up hX.gd hI hT
    have hI2 : sF (sUp σ1 it (.inr (21, [.int (nI (k + 1)), .int (nI k), .int mu, .ref ul]))) it = _ := sF_upS _ _ _
    have hT2 : sT (sUp σ1 it (.inr (21, [.int (nI (k + 1)), .int (nI k), .int mu, .ref ul]))) it = 0 := hT
    generalize hσ2 : sUp σ1 it (.inr (21, [.int (nI (k + 1)), .int (nI k), .int mu, .ref ul])) = σ2 at hX2 hX12 hI2 hT2
    have hS2 := hS.keep hw hX2 (fun s h1 h2 h3 => by omega)
    have hu2 := huk.keep hw hX2 (by omega) (by omega) (by omega)
    have hP2 := hP.keep hX.gd hX12 (by omega) (by omega) (by omega) (by omega)
    obtain ⟨fl, huq, hut, -⟩ := id hu2
    have huz : zAt G σ2 q (.inr (18, [.ref (kA c (rB u.1)), .int u.2.1, .int u.2.2.1, .int u.2.2.2.1, .ref fl])) := .new huq
    refine zr_aload dX4_paged_50 rfl ?_
    refine zr_call51 (rest := []) (zs_F (As := []) (by omega) okF_J23_hasNext (by decide +kernel) q2324 q927 q929 q84 q931 (.new hI) rfl rfl rfl (Nat.le_of_ble_eq_true rfl) dX4_paged_52) (c_hasNext1 hL1 hI (by omega)) ?_
    refine zr_if_eq (tgt := 150) dX4_paged_57 (by decide) (fun h9 => absurd h9 (by decide)) (fun _ => ?_)
    refine zr_aload dX4_paged_60 rfl ?_
    refine zr_call51 (rest := []) (zs_F (As := []) (by omega) okF_J23_next (by decide +kernel) q2326 q1044 q1046 q84 q1048 (.new hI) rfl rfl rfl (Nat.le_of_ble_eq_true rfl) dX4_paged_62) (c_J23_next (by omega) hG hL1 hI hq) ?_
    rw [hσ2]
    refine zr_castS huz rfl q2625 dX4_paged_67 ?_
    refine zr_astore (ls2 := [(0, .ref (kA c 1)), (1, .int h), (2, .ref ul), (3, .ref pl), (4, .int s.1), (5, .int s.2.1), (6, .ref it), (7, .ref q)]) dX4_paged_70 (Nat.le_of_ble_eq_true rfl) rfl ?_
    have key : ∀ σ3, zX G S0 σ2 σ3 8 → zR G yX4_paged cX4_paged 9 (Option.some (Jvm.ClassFile.FieldType.object "java/util/ArrayList")) [] d 95 [(0, .ref (kA c 1)), (1, .int h), (2, .ref ul), (3, .ref pl), (4, .int s.1), (5, .int s.2.1), (6, .ref it), (7, .ref q)] [.int (bI (nNew c h s u))] σ3 Q := by
      intro σ3 hX3
      have hXs3 := hX2.trans hX3.in
      have hS3 := hS2.keep0 hX2.gd hX3
      have hP3 := hP2.keep hX2.gd hX3 (fun h => h) (fun h => h) (fun h => h) (fun h => h)
      have hu3 := hu2.keep hX2.gd hX3 (fun h => h) (fun h => h) (fun h => h)
      have hI3 := hX3.f hX2.gd hI2 (fun h => h)
      have hT3 := (hX3.t hX2.gd hI2).trans hT2
      obtain ⟨mp, xp, hPL, hpl, hps⟩ := id hP3
      obtain ⟨arrp, capp, ffp, hp9, -⟩ := id hPL
      obtain ⟨fl3, huq3, hut3, -⟩ := id hu3
      have huz3 : zAt G σ3 q (.inr (18, [.ref (kA c (rB u.1)), .int u.2.1, .int u.2.2.1, .int u.2.2.2.1, .ref fl3])) := .new huq3
      obtain ⟨nw, hnw⟩ : ∃ z, z = nNew c h s u := ⟨_, rfl⟩
      rw [← hnw]
      have k131 : zR G yX4_paged cX4_paged 9 (Option.some (Jvm.ClassFile.FieldType.object "java/util/ArrayList")) [] d 131 [(0, .ref (kA c 1)), (1, .int h), (2, .ref ul), (3, .ref pl), (4, .int (s.1 + (if nw = true then 1 else 0))), (5, .int (if (nw || s.2.2.isEmpty) = true then u.2.2.1 else s.2.1)), (6, .ref it), (7, .ref q)] [] σ3 Q := by
        have hXa := zX.new (fun s => 2018 ≤ s ∧ s < 2030) hXs3.gd 2020 (by omega) (.inr (19, d0_X19)) 2
        have hXa0 := zX.new S0 hXs3.gd 2020 (by omega) (.inr (19, d0_X19)) 2
        have hua := sF_newS σ3 2020 (.inr (19, d0_X19)) 2
        have hta := sT_newS σ3 2020 (.inr (19, d0_X19)) 2
        obtain ⟨pq, hpq⟩ : ∃ z, z = sZ σ3 := ⟨_, rfl⟩
        obtain ⟨σa, hσa⟩ : ∃ z, z = sNew σ3 2020 (.inr (19, d0_X19)) 2 := ⟨_, rfl⟩
        rw [← hσa] at hXa hXa0 hua hta
        rw [← hpq] at hua hta
        have hCb := c_X19_init (G := G) (d := d - 1) (v1 := (s.1 + (if nw = true then 1 else 0))) (r0 := q) (by omega) hua
        have hpx : ∀ x ∈ xp, x ≠ pq := fun x hx e => by
          obtain ⟨j, hj, hx2⟩ := List.mem_iff_getElem.mp hx
          obtain ⟨z9, hz9⟩ : ∃ z9, s.2.2[j]? = some z9 := ⟨_, List.getElem?_eq_getElem (by omega)⟩
          obtain ⟨u9, fl9, a9, b9, p1, -⟩ := hps j x z9 (by rw [List.getElem?_eq_getElem hj, hx2]) hz9
          have := hXs3.gd.1 x _ p1
          omega
        have hXb : zX G (fun s => 2018 ≤ s ∧ s < 2030) σa (sUp σa pq (.inr (19, [.ref q, .int (s.1 + (if nw = true then 1 else 0))]))) 0 := zX.up hXa.gd hua (by rw [hta]; omega)
        have hXbN : zX G S0 σ3 (sUp σa pq (.inr (19, [.ref q, .int (s.1 + (if nw = true then 1 else 0))]))) _ := hXa0.upN hua (by omega)
        have hqb := sF_upS σa pq (.inr (19, [.ref q, .int (s.1 + (if nw = true then 1 else 0))]))
        have htb : sT (sUp σa pq (.inr (19, [.ref q, .int (s.1 + (if nw = true then 1 else 0))]))) pq = 2020 := hta
        obtain ⟨σb, hσb⟩ : ∃ z, z = sUp σa pq (.inr (19, [.ref q, .int (s.1 + (if nw = true then 1 else 0))])) := ⟨_, rfl⟩
        rw [← hσb] at hCb hXb hXbN hqb htb
        have hPLb := hXbN.L hXs3.gd hPL (fun h => h) (fun h => h)
        have huqb := hXbN.f hXs3.gd huq3 (fun h => h)
        have hutb := (hXbN.t hXs3.gd huq3).trans hut3
        have hpsb : ∀ (j q : Nat) (z : Nat × Int32 × Int32), xp[j]? = some q → s.2.2[j]? = some z → pOk1 G σb c q z := fun j q z h1 h2 => (hps j q z h1 h2).keep hXs3.gd hXbN (fun h => h) (fun h => h)
        have hzp : ∀ σ9 : zT, ∀ y : Nat, (∃ fs, zAt G σ9 y (.inr (19, fs))) → zEl G σ9 y := fun σ9 y ⟨fs, h⟩ => ⟨_, _, _, _, _, h, rfl, q2878⟩
        obtain ⟨_, σc, ⟨rfl, hLc, hXc⟩, hCc⟩ := c_add (d := d - 1) (x := pq) (by omega) hG hXb.gd hPLb (by omega) (hzp _ _ ⟨_, .new hqb⟩) (fun y hy => by
          obtain ⟨j, hj, hy2⟩ := List.mem_iff_getElem.mp hy
          obtain ⟨z9, hz9⟩ : ∃ z9, s.2.2[j]? = some z9 := ⟨_, List.getElem?_eq_getElem (by omega)⟩
          obtain ⟨u9, fl9, a9, b9, p1, -⟩ := hpsb j y z9 (by rw [List.getElem?_eq_getElem hj, hy2]) hz9
          exact hzp _ _ ⟨_, .new p1⟩)
        have hPc := pPg.add (z := (u.1, u.2.1, (s.1 + (if nw = true then 1 else 0)))) hXb.gd hpl hpsb ⟨q, fl3, _, _, hqb, htb, huqb, hutb⟩ hXc hLc
        have hXbc := hXbN.in.trans hXc
        have hI5 := hXc.f hXb.gd (hXbN.f hXs3.gd hI3 (fun h => h)) (by rw [hXbN.t hXs3.gd hI3, hT3]; omega)
        have hT5 := ((hXc.t hXb.gd (hXbN.f hXs3.gd hI3 (fun h => h))).trans (hXbN.t hXs3.gd hI3)).trans hT3
        obtain ⟨arrb, capb, ffb, hpb9, -⟩ := id hPLb
        refine zr_aload_n dX4_paged_131 rfl rfl ?_
        refine zr_new (ci := 19) (2020) zt_X19 q2778 q2779 q104 rfl df_X19 dX4_paged_132 ?_
        rw [← hσa, ← hpq]
        refine zr_dup dX4_paged_135 rfl ?_
        refine zr_aload dX4_paged_136 rfl ?_
        refine zr_iload dX4_paged_138 rfl ?_
        refine zr_callv (rest := [.ref pq, .ref pl]) (zs_IN (As := [.ref q, .int (s.1 + (if nw = true then 1 else 0))]) (by omega) ok_X19_init q2780 q2781 q104 q2782 rfl rfl rfl (Nat.le_of_ble_eq_true rfl) dX4_paged_140) hCb ?_
        refine zr_call1 (rest := []) (zs_V (As := [.ref pq]) (by omega) ok_J2_add q2217 q357 q2838 q56 q359 rfl (.new hpb9) rfl rfl rfl (Nat.le_of_ble_eq_true rfl) dX4_paged_143) hCc ?_
        refine zr_pop dX4_paged_146 rfl ?_
        refine zr_goto (tgt := 50) dX4_paged_147 (by decide) ?_
        refine zr_sub (ls2 := [(0, .ref (kA c 1)), (1, .int h), (2, .ref ul), (3, .ref pl), (4, .int (s.1 + (if nw = true then 1 else 0))), (5, .int (if (nw || s.2.2.isEmpty) = true then u.2.2.1 else s.2.1)), (6, .ref it)]) [0, 1, 2, 3, 4, 5, 6] rfl ?_
        have e9 : nPg c h s u = ((s.1 + (if nw = true then 1 else 0)), (if (nw || s.2.2.isEmpty) = true then u.2.2.1 else s.2.1), s.2.2 ++ [(u.1, u.2.1, (s.1 + (if nw = true then 1 else 0)))]) := by unfold nPg; rw [← hnw]
        rw [e9] at kQ
        exact ih (k + 1) _ _ (_, _, _) σc hy2 hkl ((hXs3.trans hXa).trans (hXb.trans (hXc.mono (fun s h => by omega)))) (by omega) hPc (by show (s.2.2 ++ [_]).length + _ ≤ _; rw [List.length_append, List.length_singleton]; omega) hI5 hT5 kQ
      cases nw with
      | true =>
        show zR G yX4_paged cX4_paged 9 (Option.some (Jvm.ClassFile.FieldType.object "java/util/ArrayList")) [] d 95 [(0, .ref (kA c 1)), (1, .int h), (2, .ref ul), (3, .ref pl), (4, .int s.1), (5, .int s.2.1), (6, .ref it), (7, .ref q)] [.int 1] σ3 _
        refine zr_istore (ls2 := [(0, .ref (kA c 1)), (1, .int h), (2, .ref ul), (3, .ref pl), (4, .int s.1), (5, .int s.2.1), (6, .ref it), (7, .ref q), (8, .int 1)]) dX4_paged_95 (Nat.le_of_ble_eq_true rfl) rfl ?_
        refine zr_iload dX4_paged_97 rfl ?_
        refine zr_iload dX4_paged_99 rfl ?_
        refine zr_if_eq (tgt := 108) dX4_paged_101 (by decide) (fun h9 => absurd h9 (by decide)) (fun _ => ?_)
        refine zr_iconst (v := 1) dX4_paged_104 (by decide) ?_
        refine zr_goto (tgt := 109) dX4_paged_105 (by decide) ?_
        refine zr_iadd dX4_paged_109 ?_
        refine zr_istore (ls2 := [(0, .ref (kA c 1)), (1, .int h), (2, .ref ul), (3, .ref pl), (4, .int (s.1 + 1)), (5, .int s.2.1), (6, .ref it), (7, .ref q), (8, .int 1)]) dX4_paged_110 (Nat.le_of_ble_eq_true rfl) rfl ?_
        refine zr_iload dX4_paged_112 rfl ?_
        refine zr_if_ne (tgt := 124) dX4_paged_114 (by decide) (fun _ => ?_) (fun h9 => absurd h9 (by decide))
        refine zr_aload dX4_paged_124 rfl ?_
        refine zr_call1 (rest := []) (zs_V (As := []) (by omega) ok_X18_top q2774 q2775 q2776 q103 q2777 rfl huz3 rfl rfl rfl (Nat.le_of_ble_eq_true rfl) dX4_paged_126) (c_X18_top huz3) ?_
        refine zr_istore (ls2 := [(0, .ref (kA c 1)), (1, .int h), (2, .ref ul), (3, .ref pl), (4, .int (s.1 + 1)), (5, .int u.2.2.1), (6, .ref it), (7, .ref q), (8, .int 1)]) dX4_paged_129 (Nat.le_of_ble_eq_true rfl) rfl ?_
        refine zr_sub (ls2 := [(0, .ref (kA c 1)), (1, .int h), (2, .ref ul), (3, .ref pl), (4, .int (s.1 + 1)), (5, .int u.2.2.1), (6, .ref it), (7, .ref q)]) [0, 1, 2, 3, 4, 5, 6, 7] rfl ?_
        exact k131
      | false =>
        show zR G yX4_paged cX4_paged 9 (Option.some (Jvm.ClassFile.FieldType.object "java/util/ArrayList")) [] d 95 [(0, .ref (kA c 1)), (1, .int h), (2, .ref ul), (3, .ref pl), (4, .int s.1), (5, .int s.2.1), (6, .ref it), (7, .ref q)] [.int 0] σ3 _
        refine zr_istore (ls2 := [(0, .ref (kA c 1)), (1, .int h), (2, .ref ul), (3, .ref pl), (4, .int s.1), (5, .int s.2.1), (6, .ref it), (7, .ref q), (8, .int 0)]) dX4_paged_95 (Nat.le_of_ble_eq_true rfl) rfl ?_
        refine zr_iload dX4_paged_97 rfl ?_
        refine zr_iload dX4_paged_99 rfl ?_
        refine zr_if_eq (tgt := 108) dX4_paged_101 (by decide) (fun _ => ?_) (fun h9 => absurd (by decide) h9)
        refine zr_iconst (v := 0) dX4_paged_108 (by decide) ?_
        refine zr_iadd dX4_paged_109 ?_
        refine zr_istore (ls2 := [(0, .ref (kA c 1)), (1, .int h), (2, .ref ul), (3, .ref pl), (4, .int (s.1 + 0)), (5, .int s.2.1), (6, .ref it), (7, .ref q), (8, .int 0)]) dX4_paged_110 (Nat.le_of_ble_eq_true rfl) rfl ?_
        refine zr_iload dX4_paged_112 rfl ?_
        refine zr_if_ne (tgt := 124) dX4_paged_114 (by decide) (fun h9 => absurd (rfl) h9) (fun _ => ?_)
        refine zr_aload_n dX4_paged_117 rfl rfl ?_
        refine zr_call1 (rest := []) (zs_V (As := []) (by omega) ok_J2_isEmpty q2523 q1525 q2842 q56 q1527 rfl (.new hp9) rfl rfl rfl (Nat.le_of_ble_eq_true rfl) dX4_paged_118) (c_J2_isEmpty (by omega) hPL) ?_
        have hem : xp.isEmpty = s.2.2.isEmpty := by cases xp with | nil => (cases h9 : s.2.2 with | nil => rfl | cons a b => rw [h9] at hpl; cases hpl) | cons a b => (cases h9 : s.2.2 with | nil => rw [h9] at hpl; cases hpl | cons a b => rfl)
        rw [hem]
        generalize hsm : s.2.2.isEmpty = sm at k131
        cases sm with
        | false =>
          show zR G yX4_paged cX4_paged 9 (Option.some (Jvm.ClassFile.FieldType.object "java/util/ArrayList")) [] d 121 [(0, .ref (kA c 1)), (1, .int h), (2, .ref ul), (3, .ref pl), (4, .int (s.1 + 0)), (5, .int s.2.1), (6, .ref it), (7, .ref q), (8, .int 0)] [.int 0] σ3 _
          refine zr_if_eq (tgt := 131) dX4_paged_121 (by decide) (fun _ => ?_) (fun h9 => absurd (rfl) h9)
          refine zr_sub (ls2 := [(0, .ref (kA c 1)), (1, .int h), (2, .ref ul), (3, .ref pl), (4, .int (s.1 + 0)), (5, .int s.2.1), (6, .ref it), (7, .ref q)]) [0, 1, 2, 3, 4, 5, 6, 7] rfl ?_
          exact k131
        | true =>
          show zR G yX4_paged cX4_paged 9 (Option.some (Jvm.ClassFile.FieldType.object "java/util/ArrayList")) [] d 121 [(0, .ref (kA c 1)), (1, .int h), (2, .ref ul), (3, .ref pl), (4, .int (s.1 + 0)), (5, .int s.2.1), (6, .ref it), (7, .ref q), (8, .int 0)] [.int 1] σ3 _
          refine zr_if_eq (tgt := 131) dX4_paged_121 (by decide) (fun h9 => absurd h9 (by decide)) (fun _ => ?_)
          refine zr_aload dX4_paged_124 rfl ?_
          refine zr_call1 (rest := []) (zs_V (As := []) (by omega) ok_X18_top q2774 q2775 q2776 q103 q2777 rfl huz3 rfl rfl rfl (Nat.le_of_ble_eq_true rfl) dX4_paged_126) (c_X18_top huz3) ?_
          refine zr_istore (ls2 := [(0, .ref (kA c 1)), (1, .int h), (2, .ref ul), (3, .ref pl), (4, .int (s.1 + 0)), (5, .int u.2.2.1), (6, .ref it), (7, .ref q), (8, .int 0)]) dX4_paged_129 (Nat.le_of_ble_eq_true rfl) rfl ?_
          refine zr_sub (ls2 := [(0, .ref (kA c 1)), (1, .int h), (2, .ref ul), (3, .ref pl), (4, .int (s.1 + 0)), (5, .int u.2.2.1), (6, .ref it), (7, .ref q)]) [0, 1, 2, 3, 4, 5, 6, 7] rfl ?_
          exact k131
    obtain ⟨mp, xp, hPL, hpl, hps⟩ := id hP2
    obtain ⟨arrp, capp, ffp, hp9, -⟩ := id hPL
    have hem : xp.isEmpty = s.2.2.isEmpty := by cases xp with | nil => (cases h9 : s.2.2 with | nil => rfl | cons a b => rw [h9] at hpl; cases hpl) | cons a b => (cases h9 : s.2.2 with | nil => rw [h9] at hpl; cases hpl | cons a b => rfl)
    refine zr_aload_n dX4_paged_72 rfl rfl ?_
    refine zr_call1 (rest := []) (zs_V (As := []) (by omega) ok_J2_isEmpty q2523 q1525 q2842 q56 q1527 rfl (.new hp9) rfl rfl rfl (Nat.le_of_ble_eq_true rfl) dX4_paged_73) (c_J2_isEmpty (by omega) hPL) ?_
    rw [hem]
    refine zr_ifneB (tgt := 94) dX4_paged_76 (by decide) (fun h1 => ?_) (fun h1 => ?_)
    · refine zr_iconst (v := 0) dX4_paged_94 (by decide) ?_
      have e9 : nNew c h s u = false := by unfold nNew; rw [h1]; rfl
      have k9 := key σ2 (zX.rf _ hX2.gd _)
      rw [e9] at k9
      exact k9
    · obtain ⟨_, σ3, ⟨rfl, hX3⟩, hC3⟩ := c_X4_isBreaking (d := d - 1) (tp := s.2.1) (h := h) (by omega) hG hX2.gd hS2 hu2 huw.1 huw.2
      refine zr_aload dX4_paged_79 rfl ?_
      refine zr_iload dX4_paged_81 rfl ?_
      refine zr_iload_n dX4_paged_83 rfl rfl ?_
      refine zr_call1 (rest := []) (zs_S (As := [.ref q, .int s.2.1, .int h]) (by omega) ok_X4_isBreaking q2755 q2756 q77 q2757 rfl rfl (Nat.le_of_ble_eq_true rfl) dX4_paged_84) hC3 ?_
      refine zr_ifeqB (tgt := 94) dX4_paged_87 (by decide) (fun h2 => ?_) (fun h2 => ?_)
      · refine zr_iconst (v := 0) dX4_paged_94 (by decide) ?_
        have e9 : nNew c h s u = false := by unfold nNew; rw [h2, Bool.and_false]
        have k9 := key σ3 hX3
        rw [e9] at k9
        exact k9
      · refine zr_iconst (v := 1) dX4_paged_90 (by decide) ?_
        refine zr_goto (tgt := 95) dX4_paged_91 (by decide) ?_
        have e9 : nNew c h s u = true := by unfold nNew; rw [h1, h2]; rfl
        have k9 := key σ3 hX3
        rw [e9] at k9
        exact k9
def UCm (c : zCS) : Nat := UM c * (200 + 4 * UM c) + 100
theorem zX.U {G : zG} {σ σ1 : zT} {n : Nat} (h : zX G (fun s => 2018 ≤ s ∧ s < 2030) σ σ1 n) : zX G SU σ σ1 n := h.mono (fun s h => by unfold SU; omega)
set_option maxHeartbeats 4000000 in
theorem c_X4_paged {G : zG} {σ : zT} {d : Nat} {c : zCS} {th ct h : Int32} (hd : 70 ≤ d) (hG : zOk G) (hw : zGd G σ) (hS : MSys G σ c th ct) (h0 : 0 < kN c) (hUM : UM c ≤ 900) : zCall G I_X4_paged d [.ref (kA c 1), .int h] σ ((fun o σ' => ∃ pl, o = .inl (some (.ref pl)) ∧ pPg G σ' c pl (nPaged c h).2.2 ∧ zX G SU σ σ' (UCm c))) := by
  refine zCall_of (ls := [(0, .ref (kA c 1)), (1, .int h)]) (by decide) (Nat.le_of_ble_eq_true rfl) rfl ?_
  have hle := hS.le
  have hX0 : zX G SU σ σ 0 := zX.rf _ hw 0
  refine zr_new (ci := 20) (2010) zt_J2 q2082 q115 q56 rfl df_J2 dX4_paged_0 ?_
  refine zr_dup dX4_paged_3 rfl ?_
  refine zr_callv (rest := [.ref (sZ σ)]) (zs_I (As := []) (by omega) ok_J2_init q2083 q117 q56 q118 rfl rfl rfl (Nat.le_of_ble_eq_true rfl) dX4_paged_4) (c_J2_init (by omega) hG (sF_newS _ _ _ _)) ?_
  rw [sNew_up]
  have hzul := zX.new SU hw 2010 (by omega) (.inr (20, [.int 0, .ref (zc G 0), .int 0])) 3
  have hz0ul := zX.new S0 hw 2010 (by omega) (.inr (20, [.int 0, .ref (zc G 0), .int 0])) 3
  have hul : zL G (sNew σ 2010 (.inr (20, [.int 0, .ref (zc G 0), .int 0])) 3) 2010 (sZ σ) 0 [] := zL.mk σ 2010
  obtain ⟨ul, eul⟩ : ∃ z, z = sZ σ := ⟨_, rfl⟩
  rw [← eul] at hul ⊢
  generalize hgul : sNew σ 2010 (.inr (20, [.int 0, .ref (zc G 0), .int 0])) 3 = s1 at hzul hz0ul hul ⊢
  have hXs1 := hzul
  have hS1 := hS.keep0 hw hz0ul
  obtain ⟨fl_b, hflb⟩ := hS1.bxL.A
  refine zr_astore_n (ls2 := [(0, .ref (kA c 1)), (1, .int h), (2, .ref ul)]) dX4_paged_7 rfl (Nat.le_of_ble_eq_true rfl) rfl ?_
  refine zr_aload_n dX4_paged_8 rfl rfl ?_
  refine zr_get (k := 0) (v := .ref (kA c 2)) in_X4 hS1.one rfl (Nat.le_of_ble_eq_true rfl) q2218 (.inl rfl) rfl dX4_paged_9 ?_
  refine zr_iconst (v := 0) dX4_paged_12 (by decide) ?_
  refine zr_call1 (rest := []) (zs_V (As := [.int 0]) (by omega) ok_J2_get q2250 q959 q2840 q56 q960 rfl hflb rfl rfl rfl (Nat.le_of_ble_eq_true rfl) dX4_paged_13) (c_J2_get (i := 0) (by omega) hG hS1.bxL (MSys.bxa h0)) ?_
  refine zr_castS (hS1.bx h0) rfl q2084 dX4_paged_16 ?_
  refine zr_new (ci := 20) (2014) zt_J2 q2082 q115 q56 rfl df_J2 dX4_paged_19 ?_
  refine zr_dup dX4_paged_22 rfl ?_
  refine zr_callv (rest := [.ref (sZ s1), .ref (kA c (rB 0))]) (zs_I (As := []) (by omega) ok_J2_init q2083 q117 q56 q118 rfl rfl rfl (Nat.le_of_ble_eq_true rfl) dX4_paged_23) (c_J2_init (by omega) hG (sF_newS _ _ _ _)) ?_
  rw [sNew_up]
  have hzol := zX.new SU hXs1.gd 2014 (by omega) (.inr (20, [.int 0, .ref (zc G 0), .int 0])) 3
  have hz0ol := zX.new S0 hXs1.gd 2014 (by omega) (.inr (20, [.int 0, .ref (zc G 0), .int 0])) 3
  have hol : zL G (sNew s1 2014 (.inr (20, [.int 0, .ref (zc G 0), .int 0])) 3) 2014 (sZ s1) 0 [] := zL.mk s1 2014
  obtain ⟨ol, eol⟩ : ∃ z, z = sZ s1 := ⟨_, rfl⟩
  rw [← eol] at hol ⊢
  generalize hgol : sNew s1 2014 (.inr (20, [.int 0, .ref (zc G 0), .int 0])) 3 = s2 at hzol hz0ol hol ⊢
  have hXs2 := hXs1.trans hzol
  have hS2 := hS1.keep0 hXs1.gd hz0ol
  have hul2 := hz0ol.L hXs1.gd hul (fun h => h) (fun h => h)
  have hts := tsum_le hS.k (uA c) 24 h0
  have hUMd : UM c = ((List.range (kN c)).map (uA c)).sum := rfl
  obtain ⟨_, σ3, ⟨rfl, hO3, hU3, -, hl3, hX3⟩, hC3⟩ := c_X4_units (c := c) (th := th) (ct := ct) (ol := ol) (ul := ul) (M := UM c) hG hUM 24 (d - 1) (by omega) s2 ([], []) 0 hXs2.gd hS2 h0 (by omega) ⟨0, hol⟩ ⟨0, [], hul2, rfl, fun j q u h => by cases h⟩ (fun x h => absurd h List.not_mem_nil) (Nat.zero_le _) (by show 0 + _ ≤ _; omega)
  have hwf := (nUs_wf hS.k 24 ([], []) 0 h0 (fun x h => absurd h List.not_mem_nil) (fun u h => absurd h List.not_mem_nil)).2
  have hl3' : (nUs c 24 ([], []) 0).2.length ≤ UM c := Nat.le_trans hl3 (by show 0 + _ ≤ _; omega)
  have hX03 := hXs2.trans hX3
  refine zr_aload_n dX4_paged_26 rfl rfl ?_
  refine zr_callv (rest := []) (zs_S (As := [.ref (kA c (rB 0)), .ref ol, .ref ul]) (by omega) ok_X4_units q2619 q2620 q77 q2621 rfl rfl (Nat.le_of_ble_eq_true rfl) dX4_paged_27) hC3 ?_
  have hXσ3 := hX03
  refine zr_new (ci := 20) (2018) zt_J2 q2082 q115 q56 rfl df_J2 dX4_paged_30 ?_
  refine zr_dup dX4_paged_33 rfl ?_
  refine zr_callv (rest := [.ref (sZ σ3)]) (zs_I (As := []) (by omega) ok_J2_init q2083 q117 q56 q118 rfl rfl rfl (Nat.le_of_ble_eq_true rfl) dX4_paged_34) (c_J2_init (by omega) hG (sF_newS _ _ _ _)) ?_
  rw [sNew_up]
  have hzpl := zX.new SU hXσ3.gd 2018 (by omega) (.inr (20, [.int 0, .ref (zc G 0), .int 0])) 3
  have hz0pl := zX.new S0 hXσ3.gd 2018 (by omega) (.inr (20, [.int 0, .ref (zc G 0), .int 0])) 3
  have hpl : zL G (sNew σ3 2018 (.inr (20, [.int 0, .ref (zc G 0), .int 0])) 3) 2018 (sZ σ3) 0 [] := zL.mk σ3 2018
  obtain ⟨pl, epl⟩ : ∃ z, z = sZ σ3 := ⟨_, rfl⟩
  rw [← epl] at hpl ⊢
  generalize hgpl : sNew σ3 2018 (.inr (20, [.int 0, .ref (zc G 0), .int 0])) 3 = s4 at hzpl hz0pl hpl ⊢
  have hXs4 := hXσ3.trans hzpl
  have hS4 := hS.keep hw hXs4 SU_M
  have hU4 := hU3.keep hXσ3.gd hz0pl (fun h => h) (fun h => h) (fun h => h) (fun h => h) (fun h => h)
  obtain ⟨mu, xs, hUL4, hxl4, hxs4⟩ := hU4
  obtain ⟨fl_u, hflu⟩ := hUL4.A
  refine zr_astore_n (ls2 := [(0, .ref (kA c 1)), (1, .int h), (2, .ref ul), (3, .ref pl)]) dX4_paged_37 rfl (Nat.le_of_ble_eq_true rfl) rfl ?_
  refine zr_iconst (v := 0) dX4_paged_38 (by decide) ?_
  refine zr_istore (ls2 := [(0, .ref (kA c 1)), (1, .int h), (2, .ref ul), (3, .ref pl), (4, .int 0)]) dX4_paged_39 (Nat.le_of_ble_eq_true rfl) rfl ?_
  refine zr_iconst (v := 0) dX4_paged_41 (by decide) ?_
  refine zr_istore (ls2 := [(0, .ref (kA c 1)), (1, .int h), (2, .ref ul), (3, .ref pl), (4, .int 0), (5, .int 0)]) dX4_paged_42 (Nat.le_of_ble_eq_true rfl) rfl ?_
  refine zr_aload_n dX4_paged_44 rfl rfl ?_
  refine zr_call1 (rest := []) (zs_V (As := []) (by omega) ok_J2_iterator q2322 q834 q2841 q56 q836 rfl hflu rfl rfl rfl (Nat.le_of_ble_eq_true rfl) dX4_paged_45) (c_J2_iterator (by omega) hXs4.gd.1 hUL4) ?_
  refine zr_astore (ls2 := [(0, .ref (kA c 1)), (1, .int h), (2, .ref ul), (3, .ref pl), (4, .int 0), (5, .int 0), (6, .ref (sZ s4))]) dX4_paged_48 (Nat.le_of_ble_eq_true rfl) rfl ?_
  have hXi : zX G (fun s => 2018 ≤ s ∧ s < 2030) s4 (sNew s4 0 (.inr (21, [.int 0, .int (-1), .int mu, .ref ul])) 4) 8 := zX.new _ hXs4.gd 0 (by omega) _ 4
  have hXi0 : zX G S0 s4 (sNew s4 0 (.inr (21, [.int 0, .int (-1), .int mu, .ref ul])) 4) 8 := zX.new S0 hXs4.gd 0 (by omega) _ 4
  have hpl5 := hXi0.L hXs4.gd hpl (fun h => h) (fun h => h)
  have hmm := Nat.mul_le_mul_right (160 + 2 * UM c) (show tsum c (uA c) 24 0 ≤ UM c from hts)
  have hm2 := Nat.mul_le_mul_right (40 + 2 * UM c) hl3'
  have hm3 : UM c * (200 + 4 * UM c) = UM c * (160 + 2 * UM c) + UM c * (40 + 2 * UM c) := by rw [← Nat.mul_add]; congr 1; omega
  refine l_X4_paged (σ := s4) (M := UM c) (N := 8 + UM c * (40 + 2 * UM c)) (by omega) hG hXs4.gd hS4 hUL4 hxl4 hxs4 hwf hUM (Nat.le_refl _) _ 0 8 (-1) (0, 0, []) _ rfl (Nat.zero_le _) hXi (by rw [List.drop_zero]; omega) ⟨0, [], hpl5, rfl, fun j q u h => by cases h⟩ (by rw [List.drop_zero]; show 0 + _ ≤ _; omega) (sF_newS _ _ _ _) (sT_newS _ _ _ _) (fun σ5 h5 x5 => ?_)
  rw [List.drop_zero] at h5
  exact ⟨pl, rfl, h5, (hXs4.trans x5.U).le (by unfold UCm; omega)⟩
