/-! ===== the component: its constructor (rows printed by tools/p88.py) ===== -/
/-- a fresh component -/
def pC0 (A : Nat → Nat) : zCS := (1, A, fun t => if t = 2 then 1 else 0, fun _ k => newF 98 0 k, fun _ => none, fun _ => [], fun _ => [], fun _ _ => 0, fun _ => [], -1, 0)
def A0 (x1 bl b ch wd pl ln : Nat) : Nat → Nat := fun t => if t = 1 then x1 else if t = 2 then bl else if t = 16 then b else if t = 18 then ch else if t = 20 then wd else if t = 22 then pl else if t = 24 then ln else 0
theorem KWf.c0 (A : Nat → Nat) : KWf (pC0 A) := by
  refine ⟨(by show 1 ≤ 24; omega), fun i _ => ⟨fun p h => absurd h (by show ¬ none = some p; exact nofun), fun j h => absurd h (by show ¬ j ∈ []; exact List.not_mem_nil), ⟨(by show 0 ≤ 24; omega), List.nodup_nil⟩, ⟨(by show 0 ≤ 20; omega), fun v h => absurd h (by show ¬ v ∈ []; exact List.not_mem_nil)⟩, fun k => ?_⟩⟩
  show KVal k (newF 98 0 k)
  unfold newF
  split
  · exact Or.inl rfl
  · exact trivial
  · show btw (-1) (-1) 400 = true; decide
  · show btw (-1) (-1) 400 = true; decide
  · show btw 1 0 9 = true; decide
  · exact ⟨1, by omega, by omega, rfl⟩
  · exact Or.inl rfl
  · exact Or.inl rfl
  · exact Or.inl rfl
  · exact Or.inl rfl
  · exact trivial
  · rename_i n1 n2 n3 n4 n5 n6 n7 n8 n9 n10 n11
    unfold KVal
    split
    all_goals first | exact trivial | (show btw 0 _ _ = true; decide) | exact Or.inl rfl | (exfalso; first | exact n1 rfl | exact n2 rfl | exact n3 rfl | exact n4 rfl | exact n5 rfl | exact n6 rfl | exact n7 rfl | exact n8 rfl | exact n9 rfl | exact n10 rfl | exact n11 rfl)
theorem CSys.c0 {G : zG} {σ : zT} {x1 bl b ch wd pl ln : Nat}
    (h1 : sF σ x1 = some (.inr (1, [.ref bl, .int (-1), .int 0]))) (h1t : sT σ x1 = 1) (hbl : zL G σ 2 bl 1 [b])
    (hb : sF σ b = some (.inr (2, [.int 0, .null, .int 98, .int 0, .ref ch, .ref wd, .int (-1), .int (-1), .int 0, .int 0, .int 0, .int 0, .int 0, .int 0, .int 1, .int 1, .int 110, .int 115, .int 0, .int 0, .int 0, .int 0, .int 97, .int 108, .ref pl, .int (-1), .ref x1]))) (hbt : sT σ b = rB 0)
    (hch : zL G σ (rC 0) ch 0 []) (hwd : zL G σ (rW 0) wd 0 []) (hpl : sF σ pl = some (.inr (3, [.int 0, .int 0, .int 0, .int 0, .int 0, .ref ln]))) (hplt : sT σ pl = rP 0) (hln : zL G σ (rL 0) ln 0 []) :
    CSys G σ (pC0 (A0 x1 bl b ch wd pl ln)) := by
  refine ⟨⟨h1, h1t⟩, hbl, fun i hi => ?_, KWf.c0 _⟩
  have h0 : i = 0 := by
    have : i < 1 := hi
    omega
  subst h0
  exact ⟨⟨hb, hbt⟩, hch, hwd, ⟨hpl, hplt⟩, 0, [], hln, rfl, fun j q z h => by cases h⟩
set_option maxHeartbeats 4000000 in
theorem c_X1_init {G : zG} {σ0 σ : zT} {d x1 n0 : Nat} (hd : 20 ≤ d) (hG : zOk G) (hw0 : zGd G σ0) (hX0 : zX G S0 σ0 σ n0) (hb : sZ σ0 ≤ x1) (h0 : sF σ x1 = some (.inr (1, d0_X1))) (hT0 : sT σ x1 = 1) : zCall G I_X1_init d [.ref x1] σ ((fun o σ' => ∃ A, o = .inl none ∧ A 1 = x1 ∧ CSys G σ' (pC0 A) ∧ zX G SC σ0 σ' (n0 + 200))) := by
  refine zCall_of (ls := [(0, .ref x1)]) (by decide) (Nat.le_of_ble_eq_true rfl) rfl ?_
  refine zr_aload_n dX1_init_0 rfl rfl ?_
  refine zr_objInit (by omega) q111 q112 q113 (Nat.le_of_ble_eq_true rfl) dX1_init_1 ?_
  refine zr_aload_n dX1_init_4 rfl rfl ?_
  refine zr_new (ci := 20) (2) zt_J2 q114 q115 q56 rfl df_J2 dX1_init_5 ?_
  refine zr_dup dX1_init_8 rfl ?_
  refine zr_callv (rest := [.ref (sZ σ), .ref x1]) (zs_I (As := []) (by omega) ok_J2_init q116 q117 q56 q118 rfl rfl rfl (Nat.le_of_ble_eq_true rfl) dX1_init_9) (c_J2_init (by omega) hG (sF_newS _ _ _ _)) ?_
  rw [sNew_up]
  have hlt9 : x1 ≠ sZ σ := Nat.ne_of_lt (hX0.gd.1 x1 _ h0)
  have hzz := zX.new S0 hX0.gd 2 (by omega) (.inr (20, [.int 0, .ref (zc G 0), .int 0])) 3
  have h0 : sF (sNew σ 2 (.inr (20, [.int 0, .ref (zc G 0), .int 0])) 3) x1 = _ := (sF_newN _ _ _ _ hlt9).trans h0
  have hT0 : sT (sNew σ 2 (.inr (20, [.int 0, .ref (zc G 0), .int 0])) 3) x1 = 1 := (sT_newN _ _ _ _ hlt9).trans hT0
  have hX0 : zX G S0 σ0 (sNew σ 2 (.inr (20, [.int 0, .ref (zc G 0), .int 0])) 3) _ := hX0.trans hzz
  have hbl : zL G (sNew σ 2 (.inr (20, [.int 0, .ref (zc G 0), .int 0])) 3) 2 (sZ σ) 0 [] := zL.mk σ 2
  obtain ⟨bl, hb9⟩ : ∃ z, z = sZ σ := ⟨_, rfl⟩
  rw [← hb9] at hbl ⊢
  generalize hg1 : sNew σ 2 (.inr (20, [.int 0, .ref (zc G 0), .int 0])) 3 = s1 at h0 hT0 hX0 hbl ⊢
  refine zr_putF rfl rfl (k := 0) (fs' := [.ref bl, .int 0, .int 0]) zt_X1 h0 rfl (Nat.le_of_ble_eq_true rfl) q806 (.inl rfl) rfl rfl rfl (Nat.le_of_ble_eq_true rfl) rfl dX1_init_12 ?_
  have hX0 : zX G S0 σ0 (sUp s1 x1 (.inr (1, [.ref bl, .int 0, .int 0]))) _ := hX0.upN h0 hb
  have hbl : zL G (sUp s1 x1 (.inr (1, [.ref bl, .int 0, .int 0]))) 2 bl 0 [] := hbl.upO h0 (by decide)
  have h0 : sF (sUp s1 x1 (.inr (1, [.ref bl, .int 0, .int 0]))) x1 = some (.inr (1, [.ref bl, .int 0, .int 0])) := sF_upS _ _ _
  have hT0 : sT (sUp s1 x1 (.inr (1, [.ref bl, .int 0, .int 0]))) x1 = 1 := hT0
  generalize hg2 : sUp s1 x1 (.inr (1, [.ref bl, .int 0, .int 0])) = s2 at h0 hT0 hX0 hbl ⊢
  refine zr_aload_n dX1_init_15 rfl rfl ?_
  refine zr_iconst (v := (-1)) dX1_init_16 (by decide) ?_
  refine zr_put (k := 1) (fs' := [.ref bl, .int (-1), .int 0]) zt_X1 h0 rfl (Nat.le_of_ble_eq_true rfl) q810 (.inl rfl) rfl rfl rfl (Nat.le_of_ble_eq_true rfl) rfl dX1_init_17 ?_
  have hX0 : zX G S0 σ0 (sUp s2 x1 (.inr (1, [.ref bl, .int (-1), .int 0]))) _ := hX0.upN h0 hb
  have hbl : zL G (sUp s2 x1 (.inr (1, [.ref bl, .int (-1), .int 0]))) 2 bl 0 [] := hbl.upO h0 (by decide)
  have h0 : sF (sUp s2 x1 (.inr (1, [.ref bl, .int (-1), .int 0]))) x1 = some (.inr (1, [.ref bl, .int (-1), .int 0])) := sF_upS _ _ _
  have hT0 : sT (sUp s2 x1 (.inr (1, [.ref bl, .int (-1), .int 0]))) x1 = 1 := hT0
  generalize hg3 : sUp s2 x1 (.inr (1, [.ref bl, .int (-1), .int 0])) = s3 at h0 hT0 hX0 hbl ⊢
  obtain ⟨fl_b, hflb⟩ := hbl.A
  refine zr_aload_n dX1_init_20 rfl rfl ?_
  refine zr_get (k := 0) (v := .ref bl) in_X1 (.new h0) rfl (Nat.le_of_ble_eq_true rfl) q806 (.inl rfl) rfl dX1_init_21 ?_
  refine zr_new (ci := 2) (rB 0) zt_X2 q151 q152 q57 rfl df_X2 dX1_init_24 ?_
  have hlt8 := hX0.gd.1 x1 _ h0
  have hzz := zX.new S0 hX0.gd (rB 0) (by unfold rB; omega) (.inr (2, d0_X2)) 27
  have hX01 := hX0.trans hzz
  have hz0 : sZ σ0 ≤ sZ s3 := hX0.sz
  obtain ⟨_, σ1, ⟨ch, wd, pl, ln, rfl, hX1, hX1b, hb1, hch, hwd, hpl, hln⟩, hC⟩ := c_binitR (d := d - 1) (G := G) (σ0 := σ0) (N := 0) (kd := 98) (by omega) hG hzz.gd (by omega) hX01 hz0 (sF_newS _ _ _ _) (sT_newS _ _ _ _) (hzz.f hX0.gd h0 (fun h => h)) ((hzz.t hX0.gd h0).trans hT0) (hzz.L hX0.gd hbl (fun h => h) (fun h => h)) rfl (Or.inl rfl)
  refine zr_dup dX1_init_27 rfl ?_
  refine zr_aload_n dX1_init_28 rfl rfl ?_
  refine zr_null dX1_init_29 ?_
  refine zr_bipush (v := 98) dX1_init_30 (by decide) ?_
  refine zr_callv (rest := [.ref (sZ s3), .ref bl]) (zs_I (As := [.ref x1, .null, .int 98]) (by omega) ok_X2_init q153 q154 q57 q155 rfl rfl rfl (Nat.le_of_ble_eq_true rfl) dX1_init_32) hC ?_
  obtain ⟨b, hb9'⟩ : ∃ b, b = sZ s3 := ⟨_, rfl⟩
  rw [← hb9'] at hb1 ⊢
  have hbl1 := hX1b.L hzz.gd (hzz.L hX0.gd hbl (fun h => h) (fun h => h)) (SB_n (by unfold rB; omega)) (SB_n (by unfold rB; omega))
  have h11 := hX1b.f hzz.gd (hzz.f hX0.gd h0 (fun h => h)) (SB_n (by rw [hzz.t hX0.gd h0, hT0]; unfold rB; omega))
  have h1t1 := (hX1b.t hzz.gd (hzz.f hX0.gd h0 (fun h => h))).trans ((hzz.t hX0.gd h0).trans hT0)
  obtain ⟨fl_b1, hflb1⟩ := hbl1.A
  obtain ⟨_, σ2, ⟨rfl, hL2, hX2⟩, hC2⟩ := c_add (d := d - 1) (x := b) (by omega) hG hX1.gd hbl1 (by show 0 ≤ 1000; omega) ⟨_, _, _, _, _, .new hb1.1, rfl, q2847⟩ (fun y hy => by cases hy)
  have hl2 : bl ≠ x1 := hbl.ne h0 (by decide)
  refine zr_call51 (rest := []) (zs_F (As := [.ref b]) (by omega) okF_J2_add (by decide +kernel) q352 q355 q357 q56 q359 hflb1 rfl rfl rfl (Nat.le_of_ble_eq_true rfl) dX1_init_35) hC2 ?_
  refine zr_pop dX1_init_40 rfl ?_
  have hLX : zX G SC σ0 σ2 (n0 + 200) := (hX1.in.trans (hX2.mono (fun s h => ⟨by omega, by omega⟩))).le (by have h9 : ([] : List Nat).length = 0 := rfl; omega)
  exact zr_vret rfl dX1_init_41 (⟨A0 x1 bl b ch wd pl ln, rfl, rfl, CSys.c0 (hX2.f hX1.gd h11 (by rw [h1t1]; omega)) ((hX2.t hX1.gd h11).trans h1t1) hL2 (hX2.f hX1.gd hb1.1 (by rw [hb1.2]; unfold rB; omega)) ((hX2.t hX1.gd hb1.1).trans hb1.2) (hX2.L hX1.gd hch (by unfold rC; omega) (by unfold rC; omega)) (hX2.L hX1.gd hwd (by unfold rW; omega) (by unfold rW; omega)) (hX2.f hX1.gd hpl.1 (by rw [hpl.2]; unfold rP; omega)) ((hX2.t hX1.gd hpl.1).trans hpl.2) (hX2.L hX1.gd hln (by unfold rL; omega) (by unfold rL; omega)), hLX⟩)
