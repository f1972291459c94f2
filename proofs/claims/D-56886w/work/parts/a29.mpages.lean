/-! ===== the reference: pages, pageOf (rows printed by tools/p129.py) ===== -/
abbrev SMU : Nat → Prop := fun s => 1000 ≤ s ∧ s < 2030
theorem SU_SMU (s : Nat) (h : SU s) : SMU s := ⟨by have := h.1; omega, h.2⟩
theorem SM_SMU (s : Nat) (h : SM s) : SMU s := ⟨h.1, by have := h.2; omega⟩
def nLast (l : List (Nat × Int32 × Int32)) : Int32 := match l[l.length - 1]? with
  | none => 0
  | some z => z.2.2 + 1
def nPages (c : zCS) (h : Int32) : Nat × Value := if btw h 10 400 = true then (if kLw c = 0 then (2, .null) else (0, .int (nLast (nPaged c h).2.2))) else (1, .null)
def nFind (o : Option (Nat × Int32 × Int32)) : Nat × Value := match o with
  | some u => (0, .int u.2.2)
  | none => (4, .null)
def nPageOf (c : zCS) (h n l : Int32) : Nat × Value := if btw h 10 400 = true then (if btw n 0 (nI (kN c) - 1) = true then (if kLw c = 0 then (3, .null) else nFind ((nPaged c h).2.2.find? (pIs c n.toNatClampNeg l))) else (2, .null)) else (1, .null)
theorem nPaged_wf {c : zCS} (hK : KWf c) (h0 : 0 < kN c) (h : Int32) : ∀ z, z ∈ (nPaged c h).2.2 → z.1 < kN c := by
  have hwf := (nUs_wf hK 24 ([], []) 0 h0 (fun x h => absurd h List.not_mem_nil) (fun u h => absurd h List.not_mem_nil)).2
  have h9 : ∀ (ys : List Un5) (s : PdT), (∀ u, u ∈ ys → u.1 < kN c) → (∀ z, z ∈ s.2.2 → z.1 < kN c) → ∀ z, z ∈ (ys.foldl (nPg c h) s).2.2 → z.1 < kN c := by
    intro ys
    induction ys with
    | nil => intro s _ hs; exact hs
    | cons y ys ih =>
      intro s hy hs
      refine ih (nPg c h s y) (fun u hu => hy u (List.mem_cons_of_mem _ hu)) (fun z hz => ?_)
      have hz' : z ∈ s.2.2 ++ [(y.1, y.2.1, s.1 + (if nNew c h s y = true then 1 else 0))] := hz
      rcases List.mem_append.mp hz' with h3 | h3
      · exact hs z h3
      · rw [List.mem_singleton.mp h3]; exact hy y (List.mem_cons_self ..)
  exact h9 _ (0, 0, []) (fun u hu => (hwf u hu).1) (fun z hz => absurd hz List.not_mem_nil)
set_option maxHeartbeats 4000000 in
theorem c_X4_pages {G : zG} {σ : zT} {d : Nat} {c : zCS} {th ct : Int32} {h : Int32} (hd : 80 ≤ d) (hG : zOk G) (hw : zGd G σ) (hS : MSys G σ c th ct) (h0 : 0 < kN c) (hUM : UM c ≤ 900) : zCall G I_X4_pages d [.ref (kA c 1), .int h] σ ((fun o σ' => oM o (nPages c h) ∧ MSys G σ' c (nI (nPages c h).1) ct ∧ zX G SMU σ σ' (UCm c + 20))) := by
  refine zCall_of (ls := [(0, .ref (kA c 1)), (1, .int h)]) (by decide) (Nat.le_of_ble_eq_true rfl) rfl ?_
  refine zr_aload_n dX4_pages_0 rfl rfl ?_
  refine zr_iload_n dX4_pages_1 rfl rfl ?_
  refine zr_bipush (v := 10) dX4_pages_2 (by decide) ?_
  refine zr_sipush (v := 400) dX4_pages_4 (by decide) ?_
  refine zr_call1 (rest := [.ref (kA c 1)]) (zs_S (As := [.int h, .int 10, .int 400]) (by omega) ok_X4_in q2247 q2248 q77 q2249 rfl rfl (Nat.le_of_ble_eq_true rfl) dX4_pages_7) c_X4_in ?_
  refine zr_ifneB (tgt := 17) dX4_pages_10 (by decide) (fun hb => ?_) (fun hb => ?_)
  · refine zr_aload_n dX4_pages_17 rfl rfl ?_
    refine zr_get (k := 4) (v := .int (kLw c)) in_X4 hS.one rfl (Nat.le_of_ble_eq_true rfl) q2222 (.inl rfl) rfl dX4_pages_18 ?_
    refine zr_if_ne (tgt := 28) dX4_pages_21 (by decide) (fun hc => ?_) (fun hc => ?_)
    · rw [show nPages c h = (0, .int (nLast (nPaged c h).2.2)) from (if_pos hb).trans (if_neg (by first | exact hc | exact fun h => hc h))]
      have hS1 := hS.setT 0
      have hX1 := hS.XO hw (mO c 0 ct)
      refine zr_iconst (v := 0) dX4_pages_28 (by decide) ?_
      refine zr_put (k := 1) (fs' := (mO c 0 ct)) zt_X4 hS.1.1 rfl (Nat.le_of_ble_eq_true rfl) q2219 (.inl rfl) rfl rfl rfl (Nat.le_of_ble_eq_true rfl) rfl dX4_pages_29 ?_
      generalize hσ1 : sUp σ (kA c 1) (.inr (4, mO c 0 ct)) = σ1 at hS1 hX1 ⊢
      have hone1 := hS1.one
      refine zr_aload_n dX4_pages_32 rfl rfl ?_
      refine zr_get (k := 1) (v := .int 0) in_X4 hone1 rfl (Nat.le_of_ble_eq_true rfl) q2219 (.inl rfl) rfl dX4_pages_33 ?_
      refine zr_if_le (tgt := 41) dX4_pages_36 (by decide) (fun _ => ?_) (fun h9 => absurd (by decide) h9)
      obtain ⟨_, σ2, ⟨pl, rfl, hP, hX2⟩, hC2⟩ := c_X4_paged (d := d - 1) (h := h) (by omega) hG hX1.gd hS1 h0 hUM
      refine zr_aload_n dX4_pages_41 rfl rfl ?_
      refine zr_iload_n dX4_pages_42 rfl rfl ?_
      refine zr_call1 (rest := []) (zs_V (As := [.int h]) (by omega) ok_X4_paged q2615 q2617 qs50 q77 q2618 rfl hone1 rfl rfl rfl (Nat.le_of_ble_eq_true rfl) dX4_pages_43) hC2 ?_
      refine zr_astore_n (ls2 := [(0, .ref (kA c 1)), (1, .int h), (2, .ref pl)]) dX4_pages_46 rfl (Nat.le_of_ble_eq_true rfl) rfl ?_
      have hS2 := hS1.keep hX1.gd hX2 SU_M
      have hXt := (hX1.mono SM_SMU).trans (hX2.mono SU_SMU)
      obtain ⟨mp, xp, hPL, hpl, hps⟩ := hP
      obtain ⟨arrp, capp, ffp, hp9, -, hc1, hc2, -⟩ := id hPL
      generalize hls : (nPaged c h).2.2 = ls at hpl hps ⊢
      refine zr_aload_n dX4_pages_47 rfl rfl ?_
      refine zr_call1 (rest := []) (zs_V (As := []) (by omega) ok_J2_isEmpty q2523 q1525 q2842 q56 q1527 rfl (.new hp9) rfl rfl rfl (Nat.le_of_ble_eq_true rfl) dX4_pages_48) (c_J2_isEmpty (by omega) hPL) ?_
      cases hxp : xp with
      | nil =>
        show zR G yX4_pages cX4_pages 3 (Option.some Jvm.ClassFile.FieldType.int) [] d 51 [(0, .ref (kA c 1)), (1, .int h), (2, .ref pl)] [.int 1] σ2 _
        refine zr_if_eq (tgt := 58) dX4_pages_51 (by decide) (fun h9 => absurd h9 (by decide)) (fun _ => ?_)
        refine zr_iconst (v := 0) dX4_pages_54 (by decide) ?_
        refine zr_goto (tgt := 76) dX4_pages_55 (by decide) ?_
        exact zr_iret rfl rfl dX4_pages_76 (⟨⟨_, rfl, fun _ => by
            have h0 : ls = [] := List.length_eq_zero_iff.mp (by rw [← hpl, hxp]; rfl)
            rw [h0]; rfl⟩, hS2, hXt.le (by omega)⟩)
      | cons x0 xr =>
        show zR G yX4_pages cX4_pages 3 (Option.some Jvm.ClassFile.FieldType.int) [] d 51 [(0, .ref (kA c 1)), (1, .int h), (2, .ref pl)] [.int 0] σ2 _
        have hpos : 0 < xp.length := by rw [hxp]; exact Nat.zero_lt_succ _
        obtain ⟨pq, hpq⟩ : ∃ q, xp[xp.length - 1]? = some q := ⟨_, List.getElem?_eq_getElem (by omega)⟩
        obtain ⟨z, hz⟩ : ∃ z, ls[xp.length - 1]? = some z := ⟨_, List.getElem?_eq_getElem (by omega)⟩
        obtain ⟨u9, fl, a9, b9, p1, p2, p3, p4⟩ := hps _ pq z hpq hz
        have hpz : zAt G σ2 pq (.inr (19, [.ref u9, .int z.2.2])) := .new p1
        refine zr_if_eq (tgt := 58) dX4_pages_51 (by decide) (fun _ => ?_) (fun h9 => absurd (rfl) h9)
        refine zr_aload_n dX4_pages_58 rfl rfl ?_
        refine zr_aload_n dX4_pages_59 rfl rfl ?_
        refine zr_call1 (rest := [.ref pl]) (zs_V (As := []) (by omega) ok_J2_size q2246 q164 q2839 q56 q166 rfl (.new hp9) rfl rfl rfl (Nat.le_of_ble_eq_true rfl) dX4_pages_60) (c_size (by omega) hPL rfl) ?_
        refine zr_iconst (v := 1) dX4_pages_63 (by decide) ?_
        refine zr_isub dX4_pages_64 ?_
        rw [show nI xp.length - 1 = nI (xp.length - 1) from by rw [show nI xp.length = nI (xp.length - 1 + 1) from by rw [Nat.sub_add_cancel hpos]]; exact nI_pred _]
        refine zr_call1 (rest := []) (zs_V (As := [.int (nI (xp.length - 1))]) (by omega) ok_J2_get q2250 q959 q2840 q56 q960 rfl (.new hp9) rfl rfl rfl (Nat.le_of_ble_eq_true rfl) dX4_pages_65) (c_J2_get (by omega) hG hPL hpq) ?_
        refine zr_castS hpz rfl q2778 dX4_pages_68 ?_
        refine zr_call1 (rest := []) (zs_V (As := []) (by omega) ok_X19_number q2791 q2792 q2793 q104 q2794 rfl hpz rfl rfl rfl (Nat.le_of_ble_eq_true rfl) dX4_pages_71) (c_X19_number hpz) ?_
        refine zr_iconst (v := 1) dX4_pages_74 (by decide) ?_
        refine zr_iadd dX4_pages_75 ?_
        exact zr_iret rfl rfl dX4_pages_76 (⟨⟨_, rfl, fun _ => by
            show Value.int (z.2.2 + 1) = Value.int (nLast ls)
            unfold nLast
            rw [← hpl, hz]⟩, hS2, hXt.le (by omega)⟩)
    · rw [show nPages c h = (2, .null) from (if_pos hb).trans (if_pos (by first | exact hc | exact Decidable.not_not.mp hc))]
      refine zr_iconst (v := 2) dX4_pages_24 (by decide) ?_
      refine zr_goto (tgt := 29) dX4_pages_25 (by decide) ?_
      refine zr_put (k := 1) (fs' := (mO c 2 ct)) zt_X4 hS.1.1 rfl (Nat.le_of_ble_eq_true rfl) q2219 (.inl rfl) rfl rfl rfl (Nat.le_of_ble_eq_true rfl) rfl dX4_pages_29 ?_
      refine zr_aload_n dX4_pages_32 rfl rfl ?_
      refine zr_get (k := 1) (v := .int 2) in_X4 (.new (sF_upS _ _ _)) rfl (Nat.le_of_ble_eq_true rfl) q2219 (.inl rfl) rfl dX4_pages_33 ?_
      refine zr_if_le (tgt := 41) dX4_pages_36 (by decide) (fun h9 => absurd h9 (by decide)) (fun _ => ?_)
      refine zr_iconst (v := 0) dX4_pages_39 (by decide) ?_
      exact zr_iret rfl rfl dX4_pages_40 (⟨⟨_, rfl, fun h => by cases h⟩, hS.setT 2, ((hS.XO hw _).mono SM_SMU).le (by omega)⟩)
  · rw [show nPages c h = (1, .null) from if_neg (by rw [hb]; decide)]
    refine zr_iconst (v := 1) dX4_pages_13 (by decide) ?_
    refine zr_goto (tgt := 29) dX4_pages_14 (by decide) ?_
    refine zr_put (k := 1) (fs' := (mO c 1 ct)) zt_X4 hS.1.1 rfl (Nat.le_of_ble_eq_true rfl) q2219 (.inl rfl) rfl rfl rfl (Nat.le_of_ble_eq_true rfl) rfl dX4_pages_29 ?_
    refine zr_aload_n dX4_pages_32 rfl rfl ?_
    refine zr_get (k := 1) (v := .int 1) in_X4 (.new (sF_upS _ _ _)) rfl (Nat.le_of_ble_eq_true rfl) q2219 (.inl rfl) rfl dX4_pages_33 ?_
    refine zr_if_le (tgt := 41) dX4_pages_36 (by decide) (fun h9 => absurd h9 (by decide)) (fun _ => ?_)
    refine zr_iconst (v := 0) dX4_pages_39 (by decide) ?_
    exact zr_iret rfl rfl dX4_pages_40 (⟨⟨_, rfl, fun h => by cases h⟩, hS.setT 1, ((hS.XO hw _).mono SM_SMU).le (by omega)⟩)
set_option maxHeartbeats 4000000 in
theorem l_X4_pageOf {G : zG} {σ : zT} {d : Nat} {c : zCS} {ct l mod : Int32} {pl i it m : Nat} {ps : List (Nat × Int32 × Int32)} {xs : List Nat} {Q : zO → zT → Prop} (hd : 14 ≤ d) (hG : zOk G) (hw : zGd G σ) (hS : MSys G σ c 0 ct) (hi : i < kN c) (hit : sZ σ ≤ it) (hL : zL G σ 2018 pl mod xs) (hxl : xs.length = ps.length) (hxs : ∀ (j q : Nat) (z : Nat × Int32 × Int32), xs[j]? = some q → ps[j]? = some z → pOk1 G σ c q z) (hus : ∀ u, u ∈ ps → u.1 < kN c) : ∀ (ys : List (Nat × Int32 × Int32)) (k : Nat) (lr : Int32) (σ1 : zT), ps.drop k = ys → k ≤ ps.length → zX G S0 σ σ1 m → sF σ1 it = some (.inr (21, [.int (nI k), .int lr, .int mod, .ref pl])) → (∀ o σ2, oM o (nFind (ys.find? (pIs c i l))) → MSys G σ2 c (nI (nFind (ys.find? (pIs c i l))).1) ct → zX G SM σ σ2 (m + 10) → Q o σ2) → zR G yX4_pageOf cX4_pageOf 7 (Option.some Jvm.ClassFile.FieldType.int) [] d 76 [(0, .ref (kA c 1)), (3, .int l), (4, .ref (kA c (rB i))), (5, .ref it)] [] σ1 Q := by
  intro ys
  induction ys with
  | nil =>
    intro k lr σ1 hy hk hX hI kQ
    have hL1 := hX.L hw hL (fun h => h) (fun h => h)
    have hS1 := hS.keep0 hw hX
    have hkl := drop_nil hy hk
    refine zr_aload dX4_pageOf_76 rfl ?_
    refine zr_call51 (rest := []) (zs_F (As := []) (by omega) okF_J23_hasNext (by decide +kernel) q2324 q927 q929 q84 q931 (.new hI) rfl rfl rfl (Nat.le_of_ble_eq_true rfl) dX4_pageOf_78) (c_hasNext0 hL1 hI (by omega)) ?_
    refine zr_if_eq (tgt := 142) dX4_pageOf_83 (by decide) (fun _ => ?_) (fun h9 => absurd (rfl) h9)
    refine zr_aload_n dX4_pageOf_142 rfl rfl ?_
    refine zr_iconst (v := 4) dX4_pageOf_143 (by decide) ?_
    refine zr_put (k := 1) (fs' := (mO c 4 ct)) zt_X4 hS1.1.1 rfl (Nat.le_of_ble_eq_true rfl) q2219 (.inl rfl) rfl rfl rfl (Nat.le_of_ble_eq_true rfl) rfl dX4_pageOf_144 ?_
    refine zr_iconst (v := 0) dX4_pageOf_147 (by decide) ?_
    exact zr_iret rfl rfl dX4_pageOf_148 (kQ _ _ ⟨_, rfl, fun h => by cases h⟩ (hS1.setT 4) ((hX.in.trans (hS1.XO hX.gd _)).le (by omega)))
  | cons u ys ih =>
    intro k lr σ1 hy hk hX hI kQ
    have hL1 := hX.L hw hL (fun h => h) (fun h => h)
    obtain ⟨hx, hy2, hkl, hm⟩ := drop_cons hy
    obtain ⟨q, hq⟩ : ∃ q, xs[k]? = some q := ⟨_, List.getElem?_eq_getElem (by omega)⟩
    obtain ⟨u9, fl, a9, b9, p1, p2, p3, p4⟩ := hxs k q u hq hx
    have hX2 := hX.upN (gs := [.int (nI (k + 1)), .int (nI k), .int mod, .ref pl]) hI hit
    have hI2 : sF (sUp σ1 it (.inr (21, [.int (nI (k + 1)), .int (nI k), .int mod, .ref pl]))) it = _ := sF_upS _ _ _
    generalize hσ2 : sUp σ1 it (.inr (21, [.int (nI (k + 1)), .int (nI k), .int mod, .ref pl])) = σ2 at hX2 hI2
    have hS2 := hS.keep0 hw hX2
    have hqz : zAt G σ2 q (.inr (19, [.ref u9, .int u.2.2])) := .new (hX2.f hw p1 (fun h => h))
    have huz : zAt G σ2 u9 (.inr (18, [.ref (kA c (rB u.1)), .int u.2.1, .int a9, .int b9, .ref fl])) := .new (hX2.f hw p3 (fun h => h))
    have hu := hus u hm
    have hfs : ∀ b, pIs c i l u = b → List.find? (pIs c i l) (u :: ys) = (if b = true then some u else ys.find? (pIs c i l)) := fun b hb => by
      subst hb
      rw [List.find?_cons]
      cases pIs c i l u <;> rfl
    refine zr_aload dX4_pageOf_76 rfl ?_
    refine zr_call51 (rest := []) (zs_F (As := []) (by omega) okF_J23_hasNext (by decide +kernel) q2324 q927 q929 q84 q931 (.new hI) rfl rfl rfl (Nat.le_of_ble_eq_true rfl) dX4_pageOf_78) (c_hasNext1 hL1 hI (by omega)) ?_
    refine zr_if_eq (tgt := 142) dX4_pageOf_83 (by decide) (fun h9 => absurd h9 (by decide)) (fun _ => ?_)
    refine zr_aload dX4_pageOf_86 rfl ?_
    refine zr_call51 (rest := []) (zs_F (As := []) (by omega) okF_J23_next (by decide +kernel) q2326 q1044 q1046 q84 q1048 (.new hI) rfl rfl rfl (Nat.le_of_ble_eq_true rfl) dX4_pageOf_88) (c_J23_next (by omega) hG hL1 hI hq) ?_
    rw [hσ2]
    refine zr_castS hqz rfl q2778 dX4_pageOf_93 ?_
    refine zr_astore (ls2 := [(0, .ref (kA c 1)), (3, .int l), (4, .ref (kA c (rB i))), (5, .ref it), (6, .ref q)]) dX4_pageOf_96 (Nat.le_of_ble_eq_true rfl) rfl ?_
    refine zr_aload dX4_pageOf_98 rfl ?_
    refine zr_call1 (rest := []) (zs_V (As := []) (by omega) ok_X19_unit q2799 q2800 q2801 q104 q2802 rfl hqz rfl rfl rfl (Nat.le_of_ble_eq_true rfl) dX4_pageOf_100) (c_X19_unit hqz) ?_
    refine zr_call1 (rest := []) (zs_V (As := []) (by omega) ok_X18_box q2762 q2763 q2764 q103 q2765 rfl huz rfl rfl rfl (Nat.le_of_ble_eq_true rfl) dX4_pageOf_103) (c_X18_box huz) ?_
    refine zr_aload dX4_pageOf_106 rfl ?_
    refine zr_acmp_ne (rx := (some ((kA c (rB u.1))))) (ry := (some ((kA c (rB i))))) (tgt := 139) dX4_pageOf_108 (by decide) (fun h1 => ?_) (fun h1 => ?_)
    · refine zr_goto (tgt := 76) dX4_pageOf_139 (by decide) ?_
      refine zr_sub (ls2 := [(0, .ref (kA c 1)), (3, .int l), (4, .ref (kA c (rB i))), (5, .ref it)]) [0, 1, 2, 3] rfl ?_
      rw [hfs false (by unfold pIs; rw [decide_eq_false (fun e => h1 (by rw [e])), Bool.false_and]), if_neg (by decide)] at kQ
      exact ih (k + 1) _ σ2 hy2 hkl hX2 hI2 kQ
    · have hui : u.1 = i := by
        rcases Decidable.em (u.1 = i) with e | e
        · exact e
        · exact absurd (Option.some.inj (by first | exact h1 | exact Decidable.not_not.mp h1)) (hS2.bne hu hi e)
      refine zr_aload dX4_pageOf_111 rfl ?_
      refine zr_get (k := 1) (v := .int (kF c i 2)) in_X5 (hS2.bx hi) rfl (Nat.le_of_ble_eq_true rfl) q2095 (.inl rfl) rfl dX4_pageOf_113 ?_
      refine zr_bipush (v := 116) dX4_pageOf_116 (by decide) ?_
      refine zr_icmp_ne (tgt := 133) dX4_pageOf_118 (by decide) (fun h2 => ?_) (fun h2 => ?_)
      · refine zr_aload dX4_pageOf_133 rfl ?_
        refine zr_call1 (rest := []) (zs_V (As := []) (by omega) ok_X19_number q2791 q2792 q2793 q104 q2794 rfl hqz rfl rfl rfl (Nat.le_of_ble_eq_true rfl) dX4_pageOf_135) (c_X19_number hqz) ?_
        rw [hfs true (by unfold pIs kText; rw [decide_eq_true hui, decide_eq_false (by first | exact h2 | exact fun h => h2 h)]; rfl), if_pos rfl] at kQ
        exact zr_iret rfl rfl dX4_pageOf_138 (kQ _ σ2 ⟨_, rfl, fun _ => rfl⟩ hS2 (hX2.in.le (by omega)))
      · have h2y : kText c i = true := decide_eq_true (by first | exact h2 | exact Decidable.not_not.mp h2)
        refine zr_aload dX4_pageOf_121 rfl ?_
        refine zr_call1 (rest := []) (zs_V (As := []) (by omega) ok_X19_unit q2799 q2800 q2801 q104 q2802 rfl hqz rfl rfl rfl (Nat.le_of_ble_eq_true rfl) dX4_pageOf_123) (c_X19_unit hqz) ?_
        refine zr_call1 (rest := []) (zs_V (As := []) (by omega) ok_X18_line q2766 q2767 q2768 q103 q2769 rfl huz rfl rfl rfl (Nat.le_of_ble_eq_true rfl) dX4_pageOf_126) (c_X18_line huz) ?_
        refine zr_iload_n dX4_pageOf_129 rfl rfl ?_
        refine zr_icmp_ne (tgt := 139) dX4_pageOf_130 (by decide) (fun h3 => ?_) (fun h3 => ?_)
        · refine zr_goto (tgt := 76) dX4_pageOf_139 (by decide) ?_
          refine zr_sub (ls2 := [(0, .ref (kA c 1)), (3, .int l), (4, .ref (kA c (rB i))), (5, .ref it)]) [0, 1, 2, 3] rfl ?_
          rw [hfs false (by unfold pIs; rw [h2y, decide_eq_false (show ¬ u.2.1 = l by first | exact h3 | exact fun h => h3 h)]; simp), if_neg (by decide)] at kQ
          exact ih (k + 1) _ σ2 hy2 hkl hX2 hI2 kQ
        · refine zr_aload dX4_pageOf_133 rfl ?_
          refine zr_call1 (rest := []) (zs_V (As := []) (by omega) ok_X19_number q2791 q2792 q2793 q104 q2794 rfl hqz rfl rfl rfl (Nat.le_of_ble_eq_true rfl) dX4_pageOf_135) (c_X19_number hqz) ?_
          rw [hfs true (by unfold pIs; rw [decide_eq_true hui, decide_eq_true (show u.2.1 = l by first | exact h3 | exact Decidable.not_not.mp h3)]; simp), if_pos rfl] at kQ
          exact zr_iret rfl rfl dX4_pageOf_138 (kQ _ σ2 ⟨_, rfl, fun _ => rfl⟩ hS2 (hX2.in.le (by omega)))
set_option maxHeartbeats 4000000 in
theorem c_X4_pageOf {G : zG} {σ : zT} {d : Nat} {c : zCS} {th ct : Int32} {h n l : Int32} (hd : 80 ≤ d) (hG : zOk G) (hw : zGd G σ) (hS : MSys G σ c th ct) (h0 : 0 < kN c) (hUM : UM c ≤ 900) : zCall G I_X4_pageOf d [.ref (kA c 1), .int h, .int n, .int l] σ ((fun o σ' => oM o (nPageOf c h n l) ∧ MSys G σ' c (nI (nPageOf c h n l).1) ct ∧ zX G SMU σ σ' (UCm c + 40))) := by
  refine zCall_of (ls := [(0, .ref (kA c 1)), (1, .int h), (2, .int n), (3, .int l)]) (by decide) (Nat.le_of_ble_eq_true rfl) rfl ?_
  have hle := hS.le
  refine zr_aload_n dX4_pageOf_0 rfl rfl ?_
  refine zr_iload_n dX4_pageOf_1 rfl rfl ?_
  refine zr_bipush (v := 10) dX4_pageOf_2 (by decide) ?_
  refine zr_sipush (v := 400) dX4_pageOf_4 (by decide) ?_
  refine zr_call1 (rest := [.ref (kA c 1)]) (zs_S (As := [.int h, .int 10, .int 400]) (by omega) ok_X4_in q2247 q2248 q77 q2249 rfl rfl (Nat.le_of_ble_eq_true rfl) dX4_pageOf_7) c_X4_in ?_
  refine zr_ifneB (tgt := 17) dX4_pageOf_10 (by decide) (fun hb => ?_) (fun hb => ?_)
  · refine zr_aload_n dX4_pageOf_17 rfl rfl ?_
    refine zr_iload_n dX4_pageOf_18 rfl rfl ?_
    refine zr_call1 (rest := [.ref (kA c 1)]) (zs_V (As := [.int n]) (by omega) ok_X4_isBox q2242 q2244 qs36 q77 q2245 rfl hS.one rfl rfl rfl (Nat.le_of_ble_eq_true rfl) dX4_pageOf_19) (c_X4_isBox (n := n) (by omega) hS) ?_
    refine zr_ifneB (tgt := 29) dX4_pageOf_22 (by decide) (fun hn => ?_) (fun hn => ?_)
    · refine zr_aload_n dX4_pageOf_29 rfl rfl ?_
      refine zr_get (k := 4) (v := .int (kLw c)) in_X4 hS.one rfl (Nat.le_of_ble_eq_true rfl) q2222 (.inl rfl) rfl dX4_pageOf_30 ?_
      refine zr_if_ne (tgt := 40) dX4_pageOf_33 (by decide) (fun hc => ?_) (fun hc => ?_)
      · rw [show nPageOf c h n l = nFind ((nPaged c h).2.2.find? (pIs c n.toNatClampNeg l)) from (if_pos hb).trans ((if_pos hn).trans (if_neg (by first | exact hc | exact fun h => hc h)))]
        obtain ⟨i, hi, rfl⟩ := btw_idx (by omega) hn
        rw [show (nI i).toNatClampNeg = i from nI_clamp (by omega)]
        have hS1 := hS.setT 0
        have hX1 := hS.XO hw (mO c 0 ct)
        refine zr_iconst (v := 0) dX4_pageOf_40 (by decide) ?_
        refine zr_put (k := 1) (fs' := (mO c 0 ct)) zt_X4 hS.1.1 rfl (Nat.le_of_ble_eq_true rfl) q2219 (.inl rfl) rfl rfl rfl (Nat.le_of_ble_eq_true rfl) rfl dX4_pageOf_41 ?_
        generalize hσ1 : sUp σ (kA c 1) (.inr (4, mO c 0 ct)) = σ1 at hS1 hX1 ⊢
        have hone1 := hS1.one
        obtain ⟨fl_hfl9, hfl9⟩ := hS1.bxL.A
        refine zr_aload_n dX4_pageOf_44 rfl rfl ?_
        refine zr_get (k := 1) (v := .int 0) in_X4 hone1 rfl (Nat.le_of_ble_eq_true rfl) q2219 (.inl rfl) rfl dX4_pageOf_45 ?_
        refine zr_if_le (tgt := 53) dX4_pageOf_48 (by decide) (fun _ => ?_) (fun h9 => absurd (by decide) h9)
        refine zr_aload_n dX4_pageOf_53 rfl rfl ?_
        refine zr_get (k := 0) (v := .ref (kA c 2)) in_X4 hone1 rfl (Nat.le_of_ble_eq_true rfl) q2218 (.inl rfl) rfl dX4_pageOf_54 ?_
        refine zr_iload_n dX4_pageOf_57 rfl rfl ?_
        refine zr_call1 (rest := []) (zs_V (As := [.int (nI i)]) (by omega) ok_J2_get q2250 q959 q2840 q56 q960 rfl hfl9 rfl rfl rfl (Nat.le_of_ble_eq_true rfl) dX4_pageOf_58) (c_J2_get (by omega) hG hS1.bxL (MSys.bxa hi)) ?_
        refine zr_castS (hS1.bx hi) rfl q2084 dX4_pageOf_61 ?_
        obtain ⟨_, σ2, ⟨pl, rfl, hP, hX2⟩, hC2⟩ := c_X4_paged (d := d - 1) (h := h) (by omega) hG hX1.gd hS1 h0 hUM
        refine zr_astore (ls2 := [(0, .ref (kA c 1)), (1, .int h), (2, .int (nI i)), (3, .int l), (4, .ref (kA c (rB i)))]) dX4_pageOf_64 (Nat.le_of_ble_eq_true rfl) rfl ?_
        refine zr_aload_n dX4_pageOf_66 rfl rfl ?_
        refine zr_iload_n dX4_pageOf_67 rfl rfl ?_
        refine zr_call1 (rest := []) (zs_V (As := [.int h]) (by omega) ok_X4_paged q2615 q2617 qs50 q77 q2618 rfl hone1 rfl rfl rfl (Nat.le_of_ble_eq_true rfl) dX4_pageOf_68) hC2 ?_
        have hS2 := hS1.keep hX1.gd hX2 SU_M
        have hXt := (hX1.mono SM_SMU).trans (hX2.mono SU_SMU)
        have hwf := nPaged_wf hS.k h0 h
        obtain ⟨mp, xp, hPL, hpl, hps⟩ := hP
        obtain ⟨arrp, capp, ffp, hp9, -⟩ := id hPL
        have hXi := zX.new S0 hXt.gd 0 (by omega) (.inr (21, [.int 0, .int (-1), .int mp, .ref pl])) 4
        refine zr_call1 (rest := []) (zs_V (As := []) (by omega) ok_J2_iterator q2322 q834 q2841 q56 q836 rfl (.new hp9) rfl rfl rfl (Nat.le_of_ble_eq_true rfl) dX4_pageOf_71) (c_J2_iterator (by omega) hXt.gd.1 hPL) ?_
        refine zr_astore (ls2 := [(0, .ref (kA c 1)), (1, .int h), (2, .int (nI i)), (3, .int l), (4, .ref (kA c (rB i))), (5, .ref (sZ σ2))]) dX4_pageOf_74 (Nat.le_of_ble_eq_true rfl) rfl ?_
        refine zr_sub (ls2 := [(0, .ref (kA c 1)), (3, .int l), (4, .ref (kA c (rB i))), (5, .ref (sZ σ2))]) [0, 3, 4, 5] rfl ?_
        refine l_X4_pageOf (σ := σ2) (m := 8) (by omega) hG hXt.gd hS2 hi (Nat.le_refl _) hPL hpl hps hwf _ 0 (-1) _ rfl (Nat.zero_le _) hXi (sF_newS _ _ _ _) (fun o σ3 h3 h4 h5 => ?_)
        rw [List.drop_zero] at h3 h4
        exact ⟨h3, h4, (hXt.trans (h5.mono SM_SMU)).le (by omega)⟩
      · rw [show nPageOf c h n l = (3, .null) from (if_pos hb).trans ((if_pos hn).trans (if_pos (by first | exact hc | exact Decidable.not_not.mp hc)))]
        refine zr_iconst (v := 3) dX4_pageOf_36 (by decide) ?_
        refine zr_goto (tgt := 41) dX4_pageOf_37 (by decide) ?_
        refine zr_put (k := 1) (fs' := (mO c 3 ct)) zt_X4 hS.1.1 rfl (Nat.le_of_ble_eq_true rfl) q2219 (.inl rfl) rfl rfl rfl (Nat.le_of_ble_eq_true rfl) rfl dX4_pageOf_41 ?_
        refine zr_aload_n dX4_pageOf_44 rfl rfl ?_
        refine zr_get (k := 1) (v := .int 3) in_X4 (.new (sF_upS _ _ _)) rfl (Nat.le_of_ble_eq_true rfl) q2219 (.inl rfl) rfl dX4_pageOf_45 ?_
        refine zr_if_le (tgt := 53) dX4_pageOf_48 (by decide) (fun h9 => absurd h9 (by decide)) (fun _ => ?_)
        refine zr_iconst (v := 0) dX4_pageOf_51 (by decide) ?_
        exact zr_iret rfl rfl dX4_pageOf_52 (⟨⟨_, rfl, fun h => by cases h⟩, hS.setT 3, ((hS.XO hw _).mono SM_SMU).le (by omega)⟩)
    · rw [show nPageOf c h n l = (2, .null) from (if_pos hb).trans (if_neg (by rw [hn]; decide))]
      refine zr_iconst (v := 2) dX4_pageOf_25 (by decide) ?_
      refine zr_goto (tgt := 41) dX4_pageOf_26 (by decide) ?_
      refine zr_put (k := 1) (fs' := (mO c 2 ct)) zt_X4 hS.1.1 rfl (Nat.le_of_ble_eq_true rfl) q2219 (.inl rfl) rfl rfl rfl (Nat.le_of_ble_eq_true rfl) rfl dX4_pageOf_41 ?_
      refine zr_aload_n dX4_pageOf_44 rfl rfl ?_
      refine zr_get (k := 1) (v := .int 2) in_X4 (.new (sF_upS _ _ _)) rfl (Nat.le_of_ble_eq_true rfl) q2219 (.inl rfl) rfl dX4_pageOf_45 ?_
      refine zr_if_le (tgt := 53) dX4_pageOf_48 (by decide) (fun h9 => absurd h9 (by decide)) (fun _ => ?_)
      refine zr_iconst (v := 0) dX4_pageOf_51 (by decide) ?_
      exact zr_iret rfl rfl dX4_pageOf_52 (⟨⟨_, rfl, fun h => by cases h⟩, hS.setT 2, ((hS.XO hw _).mono SM_SMU).le (by omega)⟩)
  · rw [show nPageOf c h n l = (1, .null) from if_neg (by rw [hb]; decide)]
    refine zr_iconst (v := 1) dX4_pageOf_13 (by decide) ?_
    refine zr_goto (tgt := 41) dX4_pageOf_14 (by decide) ?_
    refine zr_put (k := 1) (fs' := (mO c 1 ct)) zt_X4 hS.1.1 rfl (Nat.le_of_ble_eq_true rfl) q2219 (.inl rfl) rfl rfl rfl (Nat.le_of_ble_eq_true rfl) rfl dX4_pageOf_41 ?_
    refine zr_aload_n dX4_pageOf_44 rfl rfl ?_
    refine zr_get (k := 1) (v := .int 1) in_X4 (.new (sF_upS _ _ _)) rfl (Nat.le_of_ble_eq_true rfl) q2219 (.inl rfl) rfl dX4_pageOf_45 ?_
    refine zr_if_le (tgt := 53) dX4_pageOf_48 (by decide) (fun h9 => absurd h9 (by decide)) (fun _ => ?_)
    refine zr_iconst (v := 0) dX4_pageOf_51 (by decide) ?_
    exact zr_iret rfl rfl dX4_pageOf_52 (⟨⟨_, rfl, fun h => by cases h⟩, hS.setT 1, ((hS.XO hw _).mono SM_SMU).le (by omega)⟩)
