/-! ===== pages: put (rows printed by tools/p90.py) ===== -/
def pgY (c : zCS) (i k : Nat) (y : Int32) : Int32 := if kText c i = true then y - ((kLn c i).getD k (0, 0, 0)).2.1 else y
def pgBr (c : zCS) (h : Int32) (s : PgT) (i k : Nat) (y bo : Int32) (hl : Bool) : Bool := pgMB c h (gT s) (gB s) 24 i (pgY c i k y) false || (hl || pLow h (gT s) bo)
def pgNew (c : zCS) (h : Int32) (s : PgT) (i k : Nat) (y bo : Int32) (hl : Bool) : Bool := decide (gP s = -1) || (pgBr c h s i k y bo hl && !gI s)
def pgPut (c : zCS) (h : Int32) (s : PgT) (i k : Nat) (y bo : Int32) (hl : Bool) : PgT :=
  (pgMk c 24 i (gB s), (if pgNew c h s i k y bo hl = true then gP s + 1 else gP s), (if pgNew c h s i k y bo hl = true then y else gT s), false, gU s ++ [(i, nI k, (if pgNew c h s i k y bo hl = true then gP s + 1 else gP s))])
abbrev S20 : Nat → Prop := fun s => s = 2000
abbrev S21 : Nat → Prop := fun s => s = 2001
set_option maxHeartbeats 4000000 in
theorem l_X16_mark {G : zG} {d : Nat} {c : zCS} {h pg tp : Int32} {pa ul bg : Nat} {fi : Bool} {i0 k : Nat} {y bo w6 w7 : Int32} {hl : Bool} {Q : zO → zT → Prop} (hd : 4 ≤ d) : ∀ (f i : Nat) (b : Nat → Bool) (σ1 : zT), i < f → i < kN c → zGd G σ1 → CSys G σ1 c → PgO G σ1 c h pa ul bg pg tp fi → PgB G σ1 bg b → (∀ σ2, PgB G σ2 bg (pgMk c f i b) → zX G S21 σ1 σ2 0 → Q (.inl none) σ2) → zR G yX16_put cX16_put 9 (Option.none : Option Jvm.ClassFile.FieldType) [] d 131 [(0, .ref pa), (1, .ref (kA c (rB i0))), (2, .int (nI k)), (3, .int y), (4, .int bo), (5, .int (bI hl)), (6, .int w6), (7, .int w7), (8, .ref (kA c (rB i)))] [] σ1 Q := by
  intro f
  induction f with
  | zero => intro i b σ1 h; omega
  | succ f ih =>
    intro i b σ1 hf hi hw hS hP hB kQ
    have hle := hS.le
    have hp : zAt G σ1 pa (.inr (16, [.int h, .ref ul, .ref bg, .int pg, .int tp, .int (bI fi), .ref (kA c 1)])) := .new hP.1
    refine zr_aload dX16_put_131 rfl ?_
    refine zr_call1 (rest := []) (zs_V (As := []) (by omega) ok_X2_isRoot q1963 q1129 q1130 q57 q1131 rfl (hS.bx hi) rfl rfl rfl (Nat.le_of_ble_eq_true rfl) dX16_put_133) (c_X2_isRoot (by omega) hS hi) ?_
    refine zr_ifneB (tgt := 160) dX16_put_136 (by decide) (fun h1 => ?_) (fun h1 => ?_)
    · rw [pgMk_0 h1] at kQ
      exact zr_vret rfl dX16_put_160 (kQ σ1 hB (zX.rf _ hw 0))
    · obtain ⟨p, hpp⟩ := root_no h1
      have hpi := hS.parlt hi hpp
      rw [pgMk_1 hpp] at kQ
      refine zr_aload_n dX16_put_139 rfl rfl ?_
      refine zr_get (k := 2) (v := .ref bg) in_X16 hp rfl (Nat.le_of_ble_eq_true rfl) q1995 (.inl rfl) rfl dX16_put_140 ?_
      refine zr_aload dX16_put_143 rfl ?_
      refine zr_getN (k := 0) (v := .int (nI i)) in_X2 (hS.bx hi) rfl (Nat.le_of_ble_eq_true rfl) q226 (.inl rfl) rfl dX16_put_145 ?_
      refine zr_iconst (v := 1) dX16_put_148 (by decide) ?_
      have hst : zAt G σ1 (kA c (rB i)) (.inr (2, kBx c i)) := hS.bx hi
      refine zr_zast (f2 := bA (ub b i true)) hB.1 (vp_in_nI (by omega) (by omega)) (by rw [nI_clamp (by omega)]; exact ub_upd b i true) dX16_put_149 ?_
      have hX2 : zX G S21 σ1 (sUp σ1 bg (aZ G 24 (bA (ub b i true)))) 0 := zX.upA hw hB.1 hB.2
      have hB2 : PgB G (sUp σ1 bg (aZ G 24 (bA (ub b i true)))) bg (ub b i true) := ⟨sF_upS _ _ _, hB.2⟩
      generalize hσ2 : sUp σ1 bg (aZ G 24 (bA (ub b i true))) = σ2 at hX2 hB2 ⊢
      have hS2 := hS.keep hw hX2 (fun s h1 h2 h3 => by rw [h3] at h2; omega)
      have hP2 := hP.keep hw hX2 (by decide)
      refine zr_aload dX16_put_150 rfl ?_
      refine zr_getN (k := 1) (v := va_rf (kPr c i)) in_X2 (hS2.bx hi) rfl (Nat.le_of_ble_eq_true rfl) q229 (.inl rfl) rfl dX16_put_152 ?_
      rw [show kPr c i = some (kA c (rB p)) from by unfold kPr; rw [hpp]; rfl]
      show zR _ _ _ _ _ _ _ _ _ [.ref (kA c (rB p))] _ _
      refine zr_astore (ls2 := [(0, .ref pa), (1, .ref (kA c (rB i0))), (2, .int (nI k)), (3, .int y), (4, .int bo), (5, .int (bI hl)), (6, .int w6), (7, .int w7), (8, .ref (kA c (rB p)))]) dX16_put_155 (Nat.le_of_ble_eq_true rfl) rfl ?_
      refine zr_goto (tgt := 131) dX16_put_157 (by decide) ?_
      exact ih p _ σ2 (by omega) (by omega) hX2.gd hS2 hP2 hB2 (fun σ3 h3 x3 => kQ σ3 h3 (hX2.trans x3))
set_option maxHeartbeats 4000000 in
theorem c_X16_put {G : zG} {σ : zT} {d : Nat} {c : zCS} {h y bo : Int32} {pa ul bg i k : Nat} {s : PgT} {hl : Bool} (hd : 12 ≤ d) (hG : zOk G) (hw : zGd G σ) (hS : CSys G σ c) (hi : i < kN c) (hk : kText c i = true → k < (kLn c i).length) (hP : PgS G σ c h pa ul bg s) (hU : (gU s).length ≤ 1000) : zCall G I_X16_put d [.ref pa, .ref (kA c (rB i)), .int (nI k), .int y, .int bo, .int (bI hl)] σ ((fun o σ' => o = .inl none ∧ PgS G σ' c h pa ul bg (pgPut c h s i k y bo hl) ∧ zX G SP σ σ' (30 + 2 * (gU s).length))) := by
  refine zCall_of (ls := [(0, .ref pa), (1, .ref (kA c (rB i))), (2, .int (nI k)), (3, .int y), (4, .int bo), (5, .int (bI hl))]) (by decide) (Nat.le_of_ble_eq_true rfl) rfl ?_
  have hle := hS.le
  obtain ⟨hO, hB, hUs⟩ := hP
  obtain ⟨pg, hpg⟩ : ∃ z, z = gP s := ⟨_, rfl⟩
  obtain ⟨tp, htp⟩ : ∃ z, z = gT s := ⟨_, rfl⟩
  obtain ⟨fi, hfi⟩ : ∃ z, z = gI s := ⟨_, rfl⟩
  obtain ⟨b, hb⟩ : ∃ z, z = gB s := ⟨_, rfl⟩
  rw [← hpg, ← htp, ← hfi] at hO
  rw [← hb] at hB
  have hp : zAt G σ pa (.inr (16, [.int h, .ref ul, .ref bg, .int pg, .int tp, .int (bI fi), .ref (kA c 1)])) := .new hO.1
  have key100 : ∀ (w6 w7 pg' tp' : Int32) (σ1 : zT), PgO G σ1 c h pa ul bg pg' tp' fi → zX G S20 σ σ1 0 → pg' = (if pgNew c h s i k y bo hl = true then gP s + 1 else gP s) → tp' = (if pgNew c h s i k y bo hl = true then y else gT s) → zR G yX16_put cX16_put 9 (Option.none : Option Jvm.ClassFile.FieldType) [] d 100 [(0, .ref pa), (1, .ref (kA c (rB i))), (2, .int (nI k)), (3, .int y), (4, .int bo), (5, .int (bI hl)), (6, .int w6), (7, .int w7)] [] σ1 (fun o σ' => o = .inl none ∧ PgS G σ' c h pa ul bg (pgPut c h s i k y bo hl) ∧ zX G SP σ σ' (30 + 2 * (gU s).length)) := by
    intro w6 w7 pg' tp' σ1 hO1 hX1 e1 e2
    refine zr_aload_n dX16_put_100 rfl rfl ?_
    refine zr_iconst (v := 0) dX16_put_101 (by decide) ?_
    refine zr_put (k := 5) (fs' := [.int h, .ref ul, .ref bg, .int pg', .int tp', .int 0, .ref (kA c 1)]) zt_X16 hO1.1 rfl (Nat.le_of_ble_eq_true rfl) q1999 (.inl rfl) rfl rfl rfl (Nat.le_of_ble_eq_true rfl) rfl dX16_put_102 ?_
    have hX2 : zX G S20 σ (sUp σ1 pa (.inr (16, [.int h, .ref ul, .ref bg, .int pg', .int tp', .int 0, .ref (kA c 1)]))) 0 := hX1.trans (zX.up hX1.gd hO1.1 hO1.2)
    have hO2 : PgO G (sUp σ1 pa (.inr (16, [.int h, .ref ul, .ref bg, .int pg', .int tp', .int 0, .ref (kA c 1)]))) c h pa ul bg pg' tp' false := ⟨sF_upS _ _ _, hO1.2⟩
    generalize hσ2 : sUp σ1 pa (.inr (16, [.int h, .ref ul, .ref bg, .int pg', .int tp', .int 0, .ref (kA c 1)])) = σ2 at hX2 hO2 ⊢
    have hB2 := hB.keep hw hX2 (by decide)
    obtain ⟨mod, xs, u1, u2, u3⟩ := hUs.keep hw hX2 (by decide) (by decide) (by decide)
    have hS2 := hS.keep hw hX2 (fun s h1 h2 h3 => by rw [h3] at h2; omega)
    have hp2 : zAt G σ2 pa (.inr (16, [.int h, .ref ul, .ref bg, .int pg', .int tp', .int (bI false), .ref (kA c 1)])) := .new hO2.1
    refine zr_aload_n dX16_put_105 rfl rfl ?_
    refine zr_get (k := 1) (v := .ref ul) in_X16 hp2 rfl (Nat.le_of_ble_eq_true rfl) q1993 (.inl rfl) rfl dX16_put_106 ?_
    refine zr_new (ci := 17) (2004) zt_X17 q1964 q1965 q102 rfl df_X17 dX16_put_109 ?_
    have hXn := zX.new S0 hX2.gd 2004 (by omega) (.inr (17, d0_X17)) 3
    have hpn := hXn.f hX2.gd hO2.1 (fun h => h)
    have hpn : zAt G (sNew σ2 2004 (.inr (17, d0_X17)) 3) pa (.inr (16, [.int h, .ref ul, .ref bg, .int pg', .int tp', .int (bI false), .ref (kA c 1)])) := .new hpn
    refine zr_dup dX16_put_112 rfl ?_
    refine zr_aload_n dX16_put_113 rfl rfl ?_
    refine zr_iload_n dX16_put_114 rfl rfl ?_
    refine zr_aload_n dX16_put_115 rfl rfl ?_
    refine zr_get (k := 3) (v := .int pg') in_X16 hpn rfl (Nat.le_of_ble_eq_true rfl) q1996 (.inl rfl) rfl dX16_put_116 ?_
    refine zr_callv (rest := [.ref (sZ σ2), .ref ul]) (zs_IN (As := [.ref (kA c (rB i)), .int (nI k), .int pg']) (by omega) ok_X17_init q1966 q1967 q102 q1968 rfl rfl rfl (Nat.le_of_ble_eq_true rfl) dX16_put_119) (c_X17_init (by omega) (sF_newS _ _ _ _)) ?_
    have hX3 : zX G S0 σ2 (sUp (sNew σ2 2004 (.inr (17, d0_X17)) 3) (sZ σ2) (.inr (17, [.ref (kA c (rB i)), .int (nI k), .int pg']))) 7 := hXn.upN (sF_newS _ _ _ _) (Nat.le_refl _)
    have hq3 : sF (sUp (sNew σ2 2004 (.inr (17, d0_X17)) 3) (sZ σ2) (.inr (17, [.ref (kA c (rB i)), .int (nI k), .int pg']))) (sZ σ2) = some (.inr (17, [.ref (kA c (rB i)), .int (nI k), .int pg'])) := sF_upS _ _ _
    have hqt3 : sT (sUp (sNew σ2 2004 (.inr (17, d0_X17)) 3) (sZ σ2) (.inr (17, [.ref (kA c (rB i)), .int (nI k), .int pg']))) (sZ σ2) = 2004 := (show sT (sNew σ2 2004 (.inr (17, d0_X17)) 3) (sZ σ2) = 2004 from sT_newS _ _ _ _)
    generalize hσ3 : sUp (sNew σ2 2004 (.inr (17, d0_X17)) 3) (sZ σ2) (.inr (17, [.ref (kA c (rB i)), .int (nI k), .int pg'])) = σ3 at hX3 hq3 hqt3 ⊢
    generalize hq : sZ σ2 = q at hq3 hqt3 ⊢
    have hL3 := hX3.L hX2.gd u1 (fun h => h) (fun h => h)
    obtain ⟨fl_u, hflu⟩ := hL3.A
    have hel : ∀ σ9 : zT, ∀ y9 : Nat, (∃ fs, zAt G σ9 y9 (.inr (17, fs))) → zEl G σ9 y9 := fun σ9 y9 ⟨fs, h⟩ => ⟨_, _, _, _, _, h, rfl, q2876⟩
    obtain ⟨_, σ4, ⟨rfl, hL4, hX4⟩, hC4⟩ := c_add (d := d - 1) (x := q) (by omega) hG hX3.gd hL3 (by omega) (hel _ _ ⟨_, .new hq3⟩) (fun y9 hy9 => by
      obtain ⟨j9, hj9⟩ := List.mem_iff_getElem?.mp hy9
      have hlt : j9 < (gU s).length := by rw [← u2]; exact (List.getElem?_eq_some_iff.mp hj9).1
      exact hel _ _ ⟨_, .new (hX3.f hX2.gd (u3 j9 y9 _ hj9 (List.getElem?_eq_getElem hlt)).1 (fun h => h))⟩)
    refine zr_call51 (rest := []) (zs_F (As := [.ref (q)]) (by omega) okF_J2_add (by decide +kernel) q1981 q355 q357 q56 q359 hflu rfl rfl rfl (Nat.le_of_ble_eq_true rfl) dX16_put_122) hC4 ?_
    refine zr_pop dX16_put_127 rfl ?_
    refine zr_aload_n dX16_put_128 rfl rfl ?_
    refine zr_astore (ls2 := [(0, .ref pa), (1, .ref (kA c (rB i))), (2, .int (nI k)), (3, .int y), (4, .int bo), (5, .int (bI hl)), (6, .int w6), (7, .int w7), (8, .ref (kA c (rB i)))]) dX16_put_129 (Nat.le_of_ble_eq_true rfl) rfl ?_
    have hX24 : zX G SP σ2 σ4 _ := hX3.in.trans (hX4.mono (fun s hs => by unfold SP; omega))
    have hX34 : zX G (fun s => s = 2002 ∨ s = 2002 + 1) σ2 σ4 _ := hX3.in.trans hX4
    have hS4 := hS2.keep hX2.gd hX24 SP_C
    have hO4 := hO2.keep hX2.gd hX34 (by decide)
    have hB4 := hB2.keep hX2.gd hX34 (by decide)
    have hU4 : PgU G σ4 c ul (gU s ++ [(i, nI k, pg')]) := by
      refine ⟨_, _, hL4, by rw [List.length_append, List.length_append, u2]; rfl, fun j p u hp hu => ?_⟩
      by_cases hj : j < xs.length
      · rw [List.getElem?_append_left hj] at hp
        rw [List.getElem?_append_left (by omega)] at hu
        obtain ⟨m1, m2⟩ := u3 j p u hp hu
        exact ⟨hX34.f hX2.gd m1 (by rw [m2]; decide), (hX34.t hX2.gd m1).trans m2⟩
      · have hj1 : j = xs.length := by
          have := (List.getElem?_eq_some_iff.mp hp).1
          rw [List.length_append, List.length_singleton] at this
          omega
        subst hj1
        rw [List.getElem?_append_right (Nat.le_refl _), Nat.sub_self] at hp
        rw [u2, List.getElem?_append_right (Nat.le_refl _), Nat.sub_self] at hu
        cases hp
        cases hu
        exact ⟨hX4.f hX3.gd hq3 (by rw [hqt3]; decide), (hX4.t hX3.gd hq3).trans hqt3⟩
    refine l_X16_mark (fi := false) (by omega) 24 i b σ4 (by omega) hi hX4.gd hS4 hO4 hB4 (fun σ5 hB5 hX5 => ?_)
    have e3 : pgPut c h s i k y bo hl = (pgMk c 24 i b, pg', tp', false, gU s ++ [(i, nI k, pg')]) := by rw [e1, e2, hb]; rfl
    rw [e3]
    exact ⟨rfl, ⟨hO4.keep hX4.gd hX5 (by decide), hB5, hU4.keep hX4.gd hX5 (by decide) (by decide) (by decide)⟩, (((hX2.mono (fun s hs => by rw [hs]; exact ⟨by omega, by omega⟩)).trans hX24).trans (hX5.mono (fun s hs => by rw [hs]; exact ⟨by omega, by omega⟩))).le (by omega)⟩
  have key63 : ∀ (w6 z : Int32), z = bI (pgBr c h s i k y bo hl) → zR G yX16_put cX16_put 9 (Option.none : Option Jvm.ClassFile.FieldType) [] d 63 [(0, .ref pa), (1, .ref (kA c (rB i))), (2, .int (nI k)), (3, .int y), (4, .int bo), (5, .int (bI hl)), (6, .int w6)] [.int z] σ (fun o σ' => o = .inl none ∧ PgS G σ' c h pa ul bg (pgPut c h s i k y bo hl) ∧ zX G SP σ σ' (30 + 2 * (gU s).length)) := by
    intro w6 z hz
    subst hz
    have hnw : pgNew c h s i k y bo hl = (decide (pg = -1) || (pgBr c h s i k y bo hl && !fi)) := by rw [hpg, hfi]; rfl
    refine zr_istore (ls2 := [(0, .ref pa), (1, .ref (kA c (rB i))), (2, .int (nI k)), (3, .int y), (4, .int bo), (5, .int (bI hl)), (6, .int w6), (7, .int (bI (pgBr c h s i k y bo hl)))]) dX16_put_63 (Nat.le_of_ble_eq_true rfl) rfl ?_
    refine zr_aload_n dX16_put_65 rfl rfl ?_
    refine zr_get (k := 3) (v := .int pg) in_X16 hp rfl (Nat.le_of_ble_eq_true rfl) q1996 (.inl rfl) rfl dX16_put_66 ?_
    refine zr_iconst (v := (-1)) dX16_put_69 (by decide) ?_
    refine zr_icmp_eq (tgt := 85) dX16_put_70 (by decide) (fun h1 => ?_) (fun h1 => ?_)
    · refine zr_aload_n dX16_put_85 rfl rfl ?_
      refine zr_dup dX16_put_86 rfl ?_
      refine zr_get (k := 3) (v := .int pg) in_X16 hp rfl (Nat.le_of_ble_eq_true rfl) q1996 (.inl rfl) rfl dX16_put_87 ?_
      refine zr_iconst (v := 1) dX16_put_90 (by decide) ?_
      refine zr_iadd dX16_put_91 ?_
      refine zr_put (k := 3) (fs' := [.int h, .ref ul, .ref bg, .int (pg + 1), .int tp, .int (bI fi), .ref (kA c 1)]) zt_X16 hO.1 rfl (Nat.le_of_ble_eq_true rfl) q1996 (.inl rfl) rfl rfl rfl (Nat.le_of_ble_eq_true rfl) rfl dX16_put_92 ?_
      refine zr_aload_n dX16_put_95 rfl rfl ?_
      refine zr_iload_n dX16_put_96 rfl rfl ?_
      refine zr_put (k := 4) (fs' := [.int h, .ref ul, .ref bg, .int (pg + 1), .int y, .int (bI fi), .ref (kA c 1)]) zt_X16 (sF_upS _ _ _) rfl (Nat.le_of_ble_eq_true rfl) q1998 (.inl rfl) rfl rfl rfl (Nat.le_of_ble_eq_true rfl) rfl dX16_put_97 ?_
      rw [sUp_sUp]
      have hn1 : pgNew c h s i k y bo hl = true := by rw [hnw]; rw [decide_eq_true h1]; rfl
      exact key100 _ _ _ _ _ ⟨sF_upS _ _ _, hO.2⟩ (zX.up hw hO.1 hO.2) (by rw [if_pos hn1, hpg]) (by rw [if_pos hn1])
    · refine zr_iload dX16_put_73 rfl ?_
      refine zr_ifeqB (tgt := 100) dX16_put_75 (by decide) (fun h2 => ?_) (fun h2 => ?_)
      · have hn1 : ¬ pgNew c h s i k y bo hl = true := by rw [hnw]; rw [decide_eq_false h1, h2]; simp
        exact key100 _ _ _ _ σ hO (zX.rf _ hw _) (by rw [if_neg hn1, hpg]) (by rw [if_neg hn1, htp])
      · refine zr_aload_n dX16_put_78 rfl rfl ?_
        refine zr_get (k := 5) (v := .int (bI fi)) in_X16 hp rfl (Nat.le_of_ble_eq_true rfl) q1999 (.inl rfl) rfl dX16_put_79 ?_
        refine zr_ifneB (tgt := 100) dX16_put_82 (by decide) (fun h3 => ?_) (fun h3 => ?_)
        · have hn1 : ¬ pgNew c h s i k y bo hl = true := by rw [hnw]; rw [decide_eq_false h1, h3]; simp
          exact key100 _ _ _ _ σ hO (zX.rf _ hw _) (by rw [if_neg hn1, hpg]) (by rw [if_neg hn1, htp])
        · refine zr_aload_n dX16_put_85 rfl rfl ?_
          refine zr_dup dX16_put_86 rfl ?_
          refine zr_get (k := 3) (v := .int pg) in_X16 hp rfl (Nat.le_of_ble_eq_true rfl) q1996 (.inl rfl) rfl dX16_put_87 ?_
          refine zr_iconst (v := 1) dX16_put_90 (by decide) ?_
          refine zr_iadd dX16_put_91 ?_
          refine zr_put (k := 3) (fs' := [.int h, .ref ul, .ref bg, .int (pg + 1), .int tp, .int (bI fi), .ref (kA c 1)]) zt_X16 hO.1 rfl (Nat.le_of_ble_eq_true rfl) q1996 (.inl rfl) rfl rfl rfl (Nat.le_of_ble_eq_true rfl) rfl dX16_put_92 ?_
          refine zr_aload_n dX16_put_95 rfl rfl ?_
          refine zr_iload_n dX16_put_96 rfl rfl ?_
          refine zr_put (k := 4) (fs' := [.int h, .ref ul, .ref bg, .int (pg + 1), .int y, .int (bI fi), .ref (kA c 1)]) zt_X16 (sF_upS _ _ _) rfl (Nat.le_of_ble_eq_true rfl) q1998 (.inl rfl) rfl rfl rfl (Nat.le_of_ble_eq_true rfl) rfl dX16_put_97 ?_
          rw [sUp_sUp]
          have hn1 : pgNew c h s i k y bo hl = true := by rw [hnw]; rw [h2, h3]; simp
          exact key100 _ _ _ _ _ ⟨sF_upS _ _ _, hO.2⟩ (zX.up hw hO.1 hO.2) (by rw [if_pos hn1, hpg]) (by rw [if_pos hn1])
  have key32 : ∀ z : Int32, z = pgY c i k y → zR G yX16_put cX16_put 9 (Option.none : Option Jvm.ClassFile.FieldType) [] d 32 [(0, .ref pa), (1, .ref (kA c (rB i))), (2, .int (nI k)), (3, .int y), (4, .int bo), (5, .int (bI hl))] [.int z] σ (fun o σ' => o = .inl none ∧ PgS G σ' c h pa ul bg (pgPut c h s i k y bo hl) ∧ zX G SP σ σ' (30 + 2 * (gU s).length)) := by
    intro z hz
    subst hz
    refine zr_istore (ls2 := [(0, .ref pa), (1, .ref (kA c (rB i))), (2, .int (nI k)), (3, .int y), (4, .int bo), (5, .int (bI hl)), (6, .int (pgY c i k y))]) dX16_put_32 (Nat.le_of_ble_eq_true rfl) rfl ?_
    refine zr_aload_n dX16_put_34 rfl rfl ?_
    refine zr_aload_n dX16_put_35 rfl rfl ?_
    refine zr_iload dX16_put_36 rfl ?_
    refine zr_call1 (rest := []) (zs_V (As := [.ref (kA c (rB i)), .int (pgY c i k y)]) (by omega) ok_X16_mustBreak q1959 q1961 qs35 q101 q1962 rfl hp rfl rfl rfl (Nat.le_of_ble_eq_true rfl) dX16_put_38) (c_X16_mustBreak (d := d - 1) (by omega) hS hi hO hB) ?_
    have hbr : pgBr c h s i k y bo hl = (pgMB c h tp b 24 i (pgY c i k y) false || (hl || pLow h tp bo)) := by rw [htp, hb]; rfl
    refine zr_ifneB (tgt := 58) dX16_put_41 (by decide) (fun h1 => ?_) (fun h1 => ?_)
    · refine zr_iconst (v := 1) dX16_put_58 (by decide) ?_
      refine zr_goto (tgt := 63) dX16_put_59 (by decide) ?_
      exact key63 _ _ (by rw [hbr, h1]; rfl)
    · refine zr_iload dX16_put_44 rfl ?_
      refine zr_ifneB (tgt := 58) dX16_put_46 (by decide) (fun h2 => ?_) (fun h2 => ?_)
      · refine zr_iconst (v := 1) dX16_put_58 (by decide) ?_
        refine zr_goto (tgt := 63) dX16_put_59 (by decide) ?_
        exact key63 _ _ (by rw [hbr, h2, Bool.true_or, Bool.or_true]; rfl)
      · refine zr_aload_n dX16_put_49 rfl rfl ?_
        refine zr_iload dX16_put_50 rfl ?_
        refine zr_call1 (rest := []) (zs_V (As := [.int bo]) (by omega) ok_X16_isLower q1951 q1953 qs33 q101 q1954 rfl hp rfl rfl rfl (Nat.le_of_ble_eq_true rfl) dX16_put_52) (c_X16_isLower hO) ?_
        refine zr_ifeqB (tgt := 62) dX16_put_55 (by decide) (fun h3 => ?_) (fun h3 => ?_)
        · refine zr_iconst (v := 0) dX16_put_62 (by decide) ?_
          exact key63 _ _ (by rw [hbr, h1, h2, h3]; rfl)
        · refine zr_iconst (v := 1) dX16_put_58 (by decide) ?_
          refine zr_goto (tgt := 63) dX16_put_59 (by decide) ?_
          exact key63 _ _ (by rw [hbr, h3, Bool.or_true, Bool.or_true]; rfl)
  refine zr_aload_n dX16_put_0 rfl rfl ?_
  refine zr_call1 (rest := []) (zs_V (As := []) (by omega) ok_X2_isText q1946 q1147 q1148 q57 q1149 rfl (hS.bx hi) rfl rfl rfl (Nat.le_of_ble_eq_true rfl) dX16_put_1) (c_X2_isText (by omega) hS hi) ?_
  refine zr_ifeqB (tgt := 31) dX16_put_4 (by decide) (fun h1 => ?_) (fun h1 => ?_)
  · refine zr_iload_n dX16_put_31 rfl rfl ?_
    exact key32 _ (by unfold pgY; rw [if_neg (by rw [h1]; decide)])
  · have hkl := hk h1
    obtain ⟨mod, xs, l1, l2, l3⟩ := (hS.2.2.1 i hi).2.2.2.2
    obtain ⟨fl_l, hfll⟩ := l1.A
    obtain ⟨q, hq⟩ : ∃ q, xs[k]? = some q := ⟨_, List.getElem?_eq_getElem (by omega)⟩
    obtain ⟨z, hz⟩ : ∃ z, (kLn c i)[k]? = some z := ⟨_, List.getElem?_eq_getElem hkl⟩
    have hqz := zAt.new (G := G) (l3 k q z hq hz).1
    refine zr_iload_n dX16_put_7 rfl rfl ?_
    refine zr_aload_n dX16_put_8 rfl rfl ?_
    refine zr_getN (k := 24) (v := .ref (kA c (rP i))) in_X2 (hS.bx hi) rfl (Nat.le_of_ble_eq_true rfl) q291 (.inl rfl) rfl dX16_put_9 ?_
    refine zr_getN (k := 5) (v := .ref (kA c (rL i))) in_X3 (hS.pl hi) rfl (Nat.le_of_ble_eq_true rfl) q209 (.inl rfl) rfl dX16_put_12 ?_
    refine zr_iload_n dX16_put_15 rfl rfl ?_
    refine zr_call51 (rest := [.int y]) (zs_F (As := [.int (nI k)]) (by omega) okF_J2_get (by decide +kernel) q1940 q1106 q959 q56 q960 hfll rfl rfl rfl (Nat.le_of_ble_eq_true rfl) dX16_put_16) (c_J2_get (by omega) hG l1 hq) ?_
    refine zr_castS hqz rfl q1949 dX16_put_21 ?_
    refine zr_call1 (rest := [.int y]) (zs_V (As := []) (by omega) ok_X11_y q1950 q1481 q1482 q96 q1483 rfl hqz rfl rfl rfl (Nat.le_of_ble_eq_true rfl) dX16_put_24) (c_X11_y hqz) ?_
    refine zr_isub dX16_put_27 ?_
    refine zr_goto (tgt := 32) dX16_put_28 (by decide) ?_
    exact key32 _ (by unfold pgY; rw [if_pos h1, List.getD_eq_getElem?_getD, hz]; rfl)
