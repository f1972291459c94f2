/-! ===== the reference: its constructor (rows printed by tools/p122.py) ===== -/
def newM (kd dp : Int32) (k : Nat) : Int32 := if k = 25 then 1 else newF kd dp k
/-- a fresh reference -/
def mC0 (A : Nat → Nat) : zCS := (1, A, fun t => if t = 2 then 1 else 0, fun _ k => newM 98 0 k, fun _ => none, fun _ => [], fun _ => [], fun _ k => if k = 4 then -1 else 0, fun _ => [], 0, 0)
def mA0 (x1 bl b ch wd ln : Nat) : Nat → Nat := fun t => if t = 1 then x1 else if t = 2 then bl else if t = 16 then b else if t = 18 then ch else if t = 20 then wd else if t = 24 then ln else 0
theorem MWf.c0 (A : Nat → Nat) : MWf (mC0 A) := by
  refine ⟨⟨(by show 1 ≤ 24; omega), fun i hi => ?_⟩, Or.inl rfl, fun i => Or.inr rfl, fun i p _ h => by cases h⟩
  have h9 := (KWf.c0 A).2 i hi
  refine ⟨h9.1, h9.2.1, h9.2.2.1, h9.2.2.2.1, fun k => ?_⟩
  show KVal k (newM 98 0 k)
  unfold newM
  split
  · rename_i h; subst h; exact trivial
  · exact h9.2.2.2.2 k
theorem MSys.c0 {G : zG} {σ : zT} {x1 bl b ch wd ln : Nat}
    (h1 : sF σ x1 = some (.inr (4, [.ref bl, .int 0, .int 0, .int 0, .int 0]))) (h1t : sT σ x1 = 1001) (hbl : zL G σ 1002 bl 1 [b])
    (hb : sF σ b = some (.inr (5, [.int 0, .int 98, .null, .int 0, .ref ch, .ref wd, .ref ln, .int (-1), .int (-1), .int 0, .int 0, .int 0, .int 0, .int 0, .int 0, .int 1, .int 1, .int 0, .int 0, .int 0, .int 110, .int 115, .int 97, .int 108, .int 0, .int 1, .int (-1), .int 0, .int 0, .int 0, .int 0]))) (hbt : sT σ b = 1000 + rB 0)
    (hch : zL G σ (1000 + rC 0) ch 0 []) (hwd : zL G σ (1000 + rW 0) wd 0 []) (hln : zL G σ (1000 + rL 0) ln 0 []) :
    MSys G σ (mC0 (mA0 x1 bl b ch wd ln)) 0 0 := by
  refine ⟨⟨h1, h1t⟩, hbl, fun i hi => ?_, MWf.c0 _⟩
  have h0 : i = 0 := by
    have : i < 1 := hi
    omega
  subst h0
  exact ⟨⟨hb, hbt⟩, hch, hwd, 0, [], hln, rfl, fun j q z h => by cases h⟩
set_option maxHeartbeats 4000000 in
theorem c_X4_init {G : zG} {σ0 σ : zT} {d x1 n0 : Nat} (hd : 20 ≤ d) (hG : zOk G) (hw0 : zGd G σ0) (hX0 : zX G S0 σ0 σ n0) (hb : sZ σ0 ≤ x1) (h0 : sF σ x1 = some (.inr (4, d0_X4))) (hT0 : sT σ x1 = 1001) : zCall G I_X4_init d [.ref x1] σ ((fun o σ' => ∃ A, o = .inl none ∧ A 1 = x1 ∧ MSys G σ' (mC0 A) 0 0 ∧ zX G SM σ0 σ' (n0 + 200))) := by
  refine zCall_of (ls := [(0, .ref x1)]) (by decide) (Nat.le_of_ble_eq_true rfl) rfl ?_
  refine zr_aload_n dX4_init_0 rfl rfl ?_
  refine zr_objInit (by omega) q2081 q112 q113 (Nat.le_of_ble_eq_true rfl) dX4_init_1 ?_
  refine zr_aload_n dX4_init_4 rfl rfl ?_
  refine zr_new (ci := 20) (1002) zt_J2 q2082 q115 q56 rfl df_J2 dX4_init_5 ?_
  refine zr_dup dX4_init_8 rfl ?_
  refine zr_callv (rest := [.ref (sZ σ), .ref x1]) (zs_I (As := []) (by omega) ok_J2_init q2083 q117 q56 q118 rfl rfl rfl (Nat.le_of_ble_eq_true rfl) dX4_init_9) (c_J2_init (by omega) hG (sF_newS _ _ _ _)) ?_
  rw [sNew_up]
  have hlt9 : x1 ≠ sZ σ := Nat.ne_of_lt (hX0.gd.1 x1 _ h0)
  have hzz := zX.new S0 hX0.gd 1002 (by omega) (.inr (20, [.int 0, .ref (zc G 0), .int 0])) 3
  have h0 : sF (sNew σ 1002 (.inr (20, [.int 0, .ref (zc G 0), .int 0])) 3) x1 = _ := (sF_newN _ _ _ _ hlt9).trans h0
  have hT0 : sT (sNew σ 1002 (.inr (20, [.int 0, .ref (zc G 0), .int 0])) 3) x1 = 1001 := (sT_newN _ _ _ _ hlt9).trans hT0
  have hX0 : zX G S0 σ0 (sNew σ 1002 (.inr (20, [.int 0, .ref (zc G 0), .int 0])) 3) _ := hX0.trans hzz
  have hbl : zL G (sNew σ 1002 (.inr (20, [.int 0, .ref (zc G 0), .int 0])) 3) 1002 (sZ σ) 0 [] := zL.mk σ 1002
  obtain ⟨bl, hb9⟩ : ∃ z, z = sZ σ := ⟨_, rfl⟩
  rw [← hb9] at hbl ⊢
  generalize hg1 : sNew σ 1002 (.inr (20, [.int 0, .ref (zc G 0), .int 0])) 3 = s1 at h0 hT0 hX0 hbl ⊢
  refine zr_putF rfl rfl (k := 0) (fs' := [.ref bl, .int 0, .int 0, .int 0, .int 0]) zt_X4 h0 rfl (Nat.le_of_ble_eq_true rfl) q2218 (.inl rfl) rfl rfl rfl (Nat.le_of_ble_eq_true rfl) rfl dX4_init_12 ?_
  have hX0 : zX G S0 σ0 (sUp s1 x1 (.inr (4, [.ref bl, .int 0, .int 0, .int 0, .int 0]))) _ := hX0.upN h0 hb
  have hbl : zL G (sUp s1 x1 (.inr (4, [.ref bl, .int 0, .int 0, .int 0, .int 0]))) 1002 bl 0 [] := hbl.upO h0 (by decide)
  have h0 : sF (sUp s1 x1 (.inr (4, [.ref bl, .int 0, .int 0, .int 0, .int 0]))) x1 = some (.inr (4, [.ref bl, .int 0, .int 0, .int 0, .int 0])) := sF_upS _ _ _
  have hT0 : sT (sUp s1 x1 (.inr (4, [.ref bl, .int 0, .int 0, .int 0, .int 0]))) x1 = 1001 := hT0
  generalize hg2 : sUp s1 x1 (.inr (4, [.ref bl, .int 0, .int 0, .int 0, .int 0])) = s2 at h0 hT0 hX0 hbl ⊢
  refine zr_aload_n dX4_init_15 rfl rfl ?_
  refine zr_iconst (v := 0) dX4_init_16 (by decide) ?_
  refine zr_put (k := 1) (fs' := [.ref bl, .int 0, .int 0, .int 0, .int 0]) zt_X4 h0 rfl (Nat.le_of_ble_eq_true rfl) q2219 (.inl rfl) rfl rfl rfl (Nat.le_of_ble_eq_true rfl) rfl dX4_init_17 ?_
  have hX0 : zX G S0 σ0 (sUp s2 x1 (.inr (4, [.ref bl, .int 0, .int 0, .int 0, .int 0]))) _ := hX0.upN h0 hb
  have hbl : zL G (sUp s2 x1 (.inr (4, [.ref bl, .int 0, .int 0, .int 0, .int 0]))) 1002 bl 0 [] := hbl.upO h0 (by decide)
  have h0 : sF (sUp s2 x1 (.inr (4, [.ref bl, .int 0, .int 0, .int 0, .int 0]))) x1 = some (.inr (4, [.ref bl, .int 0, .int 0, .int 0, .int 0])) := sF_upS _ _ _
  have hT0 : sT (sUp s2 x1 (.inr (4, [.ref bl, .int 0, .int 0, .int 0, .int 0]))) x1 = 1001 := hT0
  generalize hg3 : sUp s2 x1 (.inr (4, [.ref bl, .int 0, .int 0, .int 0, .int 0])) = s3 at h0 hT0 hX0 hbl ⊢
  refine zr_aload_n dX4_init_20 rfl rfl ?_
  refine zr_iconst (v := 0) dX4_init_21 (by decide) ?_
  refine zr_put (k := 2) (fs' := [.ref bl, .int 0, .int 0, .int 0, .int 0]) zt_X4 h0 rfl (Nat.le_of_ble_eq_true rfl) q2220 (.inl rfl) rfl rfl rfl (Nat.le_of_ble_eq_true rfl) rfl dX4_init_22 ?_
  have hX0 : zX G S0 σ0 (sUp s3 x1 (.inr (4, [.ref bl, .int 0, .int 0, .int 0, .int 0]))) _ := hX0.upN h0 hb
  have hbl : zL G (sUp s3 x1 (.inr (4, [.ref bl, .int 0, .int 0, .int 0, .int 0]))) 1002 bl 0 [] := hbl.upO h0 (by decide)
  have h0 : sF (sUp s3 x1 (.inr (4, [.ref bl, .int 0, .int 0, .int 0, .int 0]))) x1 = some (.inr (4, [.ref bl, .int 0, .int 0, .int 0, .int 0])) := sF_upS _ _ _
  have hT0 : sT (sUp s3 x1 (.inr (4, [.ref bl, .int 0, .int 0, .int 0, .int 0]))) x1 = 1001 := hT0
  generalize hg4 : sUp s3 x1 (.inr (4, [.ref bl, .int 0, .int 0, .int 0, .int 0])) = s4 at h0 hT0 hX0 hbl ⊢
  refine zr_aload_n dX4_init_25 rfl rfl ?_
  refine zr_iconst (v := 0) dX4_init_26 (by decide) ?_
  refine zr_put (k := 3) (fs' := [.ref bl, .int 0, .int 0, .int 0, .int 0]) zt_X4 h0 rfl (Nat.le_of_ble_eq_true rfl) q2221 (.inl rfl) rfl rfl rfl (Nat.le_of_ble_eq_true rfl) rfl dX4_init_27 ?_
  have hX0 : zX G S0 σ0 (sUp s4 x1 (.inr (4, [.ref bl, .int 0, .int 0, .int 0, .int 0]))) _ := hX0.upN h0 hb
  have hbl : zL G (sUp s4 x1 (.inr (4, [.ref bl, .int 0, .int 0, .int 0, .int 0]))) 1002 bl 0 [] := hbl.upO h0 (by decide)
  have h0 : sF (sUp s4 x1 (.inr (4, [.ref bl, .int 0, .int 0, .int 0, .int 0]))) x1 = some (.inr (4, [.ref bl, .int 0, .int 0, .int 0, .int 0])) := sF_upS _ _ _
  have hT0 : sT (sUp s4 x1 (.inr (4, [.ref bl, .int 0, .int 0, .int 0, .int 0]))) x1 = 1001 := hT0
  generalize hg5 : sUp s4 x1 (.inr (4, [.ref bl, .int 0, .int 0, .int 0, .int 0])) = s5 at h0 hT0 hX0 hbl ⊢
  refine zr_aload_n dX4_init_30 rfl rfl ?_
  refine zr_iconst (v := 0) dX4_init_31 (by decide) ?_
  refine zr_put (k := 4) (fs' := [.ref bl, .int 0, .int 0, .int 0, .int 0]) zt_X4 h0 rfl (Nat.le_of_ble_eq_true rfl) q2222 (.inl rfl) rfl rfl rfl (Nat.le_of_ble_eq_true rfl) rfl dX4_init_32 ?_
  have hX0 : zX G S0 σ0 (sUp s5 x1 (.inr (4, [.ref bl, .int 0, .int 0, .int 0, .int 0]))) _ := hX0.upN h0 hb
  have hbl : zL G (sUp s5 x1 (.inr (4, [.ref bl, .int 0, .int 0, .int 0, .int 0]))) 1002 bl 0 [] := hbl.upO h0 (by decide)
  have h0 : sF (sUp s5 x1 (.inr (4, [.ref bl, .int 0, .int 0, .int 0, .int 0]))) x1 = some (.inr (4, [.ref bl, .int 0, .int 0, .int 0, .int 0])) := sF_upS _ _ _
  have hT0 : sT (sUp s5 x1 (.inr (4, [.ref bl, .int 0, .int 0, .int 0, .int 0]))) x1 = 1001 := hT0
  generalize hg6 : sUp s5 x1 (.inr (4, [.ref bl, .int 0, .int 0, .int 0, .int 0])) = s6 at h0 hT0 hX0 hbl ⊢
  obtain ⟨fl_b, hflb⟩ := hbl.A
  refine zr_aload_n dX4_init_35 rfl rfl ?_
  refine zr_get (k := 0) (v := .ref bl) in_X4 (.new h0) rfl (Nat.le_of_ble_eq_true rfl) q2218 (.inl rfl) rfl dX4_init_36 ?_
  refine zr_new (ci := 5) (1000 + rB 0) zt_X5 q2084 q2085 q78 rfl df_X5 dX4_init_39 ?_
  have hlt8 := hX0.gd.1 x1 _ h0
  have hzz := zX.new S0 hX0.gd (1000 + rB 0) (by unfold rB; omega) (.inr (5, d0_X5)) 31
  have hX01 := hX0.trans hzz
  have hz0 : sZ σ0 ≤ sZ s6 := hX0.sz
  obtain ⟨_, σ1, ⟨ch, wd, ln, rfl, hX1, hX1b, hb1, hch, hwd, hln⟩, hC⟩ := c_mbinitR (d := d - 1) (G := G) (σ0 := σ0) (N := 0) (n := 0) (kd := 98) (by omega) hG hzz.gd (by omega) hX01 hz0 (sF_newS _ _ _ _) (sT_newS _ _ _ _) (Or.inl rfl)
  refine zr_dup dX4_init_42 rfl ?_
  refine zr_iconst (v := 0) dX4_init_43 (by decide) ?_
  refine zr_bipush (v := 98) dX4_init_44 (by decide) ?_
  refine zr_null dX4_init_46 ?_
  refine zr_callv (rest := [.ref (sZ s6), .ref bl]) (zs_I (As := [.int 0, .int 98, .null]) (by omega) ok_X5_init q2086 q2087 q78 q2088 rfl rfl rfl (Nat.le_of_ble_eq_true rfl) dX4_init_47) hC ?_
  obtain ⟨b, hb9'⟩ : ∃ b, b = sZ s6 := ⟨_, rfl⟩
  rw [← hb9'] at hb1 ⊢
  have hbl1 := hX1b.L hzz.gd (hzz.L hX0.gd hbl (fun h => h) (fun h => h)) (SBm_n (by unfold rB; omega)) (SBm_n (by unfold rB; omega))
  have h11 := hX1b.f hzz.gd (hzz.f hX0.gd h0 (fun h => h)) (SBm_n (by rw [hzz.t hX0.gd h0, hT0]; unfold rB; omega))
  have h1t1 := (hX1b.t hzz.gd (hzz.f hX0.gd h0 (fun h => h))).trans ((hzz.t hX0.gd h0).trans hT0)
  obtain ⟨fl_b1, hflb1⟩ := hbl1.A
  obtain ⟨_, σ2, ⟨rfl, hL2, hX2⟩, hC2⟩ := c_add (d := d - 1) (x := b) (by omega) hG hX1.gd hbl1 (by show 0 ≤ 1000; omega) ⟨_, _, _, _, _, .new hb1.1, rfl, q2850⟩ (fun y hy => by cases hy)
  have hl2 : bl ≠ x1 := hbl.ne h0 (by decide)
  refine zr_call1 (rest := []) (zs_V (As := [.ref b]) (by omega) ok_J2_add q2217 q357 q2838 q56 q359 rfl hflb1 rfl rfl rfl (Nat.le_of_ble_eq_true rfl) dX4_init_50) hC2 ?_
  refine zr_pop dX4_init_53 rfl ?_
  have hLX : zX G SM σ0 σ2 (n0 + 200) := (hX1.in.trans (hX2.mono (fun s h => ⟨by omega, by omega⟩))).le (by have h9 : ([] : List Nat).length = 0 := rfl; omega)
  exact zr_vret rfl dX4_init_54 (⟨mA0 x1 bl b ch wd ln, rfl, rfl, MSys.c0 (hX2.f hX1.gd h11 (by rw [h1t1]; omega)) ((hX2.t hX1.gd h11).trans h1t1) hL2 (hX2.f hX1.gd hb1.1 (by rw [hb1.2]; unfold rB; omega)) ((hX2.t hX1.gd hb1.1).trans hb1.2) (hX2.L hX1.gd hch (by unfold rC; omega) (by unfold rC; omega)) (hX2.L hX1.gd hwd (by unfold rW; omega) (by unfold rW; omega)) (hX2.L hX1.gd hln (by unfold rL; omega) (by unfold rL; omega)), hLX⟩)
