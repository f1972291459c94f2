/-! ===== the reference: contents, lays, and the induction over the depth (rows printed by tools/p115.py) ===== -/
def mCon (L : LM) (C : CM) : CM := fun s ps i x y b =>
  if kF s.1 i 2 = 98 then mBlock L C s ps i x y b
  else if kF s.1 i 2 = 116 then (((mSL s.1 i (mTxt s.1 ps i x y).1, s.2), ps), (mTxt s.1 ps i x y).2 - y + kF s.1 i 12)
  else if kF s.1 i 2 = 102 then (((mRow L s i b).1, ps), (mRow L s i b).2)
  else (((mGrid L s i b).1, ps), (mGrid L s i b).2)
def mAnew (c : zCS) (i : Nat) (w : Int32) (b : Bool) : Bool := b && (decide (kP c i 4 ≠ w) || decide (kF c i 25 ≠ 0))
def mL1 (c : zCS) (i : Nat) (w : Int32) : zCS := kSetP (kSetF (kSetP c i 4 w) i 25 0) i 2 w
def mHv (c : zCS) (ps : List P5) (i : Nat) (v : Int32) : Int32 :=
  if 0 ≤ kF c i 7 then kF c i 7 else if (kF c i 2 = 98 ∨ kF c i 2 = 116) ∧ ps ≠ [] then imax v (mLowest ps + kF c i 12) else v
def mLay2 (R : (MT × List P5) × Int32) (i : Nat) : MT := (kSetP R.1.1.1 i 3 (mHv R.1.1.1 R.1.2 i R.2), R.1.1.2)
def mLays (L : LM) (C : CM) : LM := fun s i w b => mLay2 (mCon L C (mL1 s.1 i w, s.2 + (if mAnew s.1 i w b = true then 1 else 0)) [] i 0 0 (mAnew s.1 i w b)) i
def mLF : Nat → LM × CM
  | 0 => (fun s _ _ _ => s, fun s ps _ _ _ _ => ((s, ps), 0))
  | f + 1 => (mLays (mLF f).1 (mLF f).2, mCon (mLF f).1 (mLF f).2)
theorem MQe.SL (c : zCS) (i : Nat) (ls : List (Int32 × Int32 × Int32)) : MQe c (mSL c i ls) := ⟨⟨fun _ _ _ => rfl, rfl, rfl, rfl, rfl, rfl, fun _ _ _ => rfl, rfl, rfl⟩, rfl⟩
theorem MQe.Con {L : LM} {C : CM} (hL : ∀ s j w b, MQe s.1 (L s j w b).1) (hC : ∀ s ps i x y b, MQe s.1 (C s ps i x y b).1.1.1) (s : MT) (ps : List P5) (i : Nat) (x y : Int32) (b : Bool) : MQe s.1 (mCon L C s ps i x y b).1.1.1 := by
  unfold mCon
  split
  · exact MQe.Block hL hC s ps i x y b
  · split
    · exact MQe.SL _ _ _
    · split
      · exact MQe.Row hL s i b
      · exact MQe.Grid hL s i b
theorem MQe.L1 (c : zCS) (i : Nat) (w : Int32) : MQe c (mL1 c i w) := ((MQe.setP _ _ _ _).trans (MQe.setF _ _ _)).trans (MQe.setP _ _ _ _)
theorem MQe.Lays {L : LM} {C : CM} (hL : ∀ s j w b, MQe s.1 (L s j w b).1) (hC : ∀ s ps i x y b, MQe s.1 (C s ps i x y b).1.1.1) (s : MT) (i : Nat) (w : Int32) (b : Bool) : MQe s.1 (mLays L C s i w b).1 :=
  ((MQe.L1 s.1 i w).trans (MQe.Con hL hC (mL1 s.1 i w, s.2 + (if mAnew s.1 i w b = true then 1 else 0)) [] i 0 0 (mAnew s.1 i w b))).trans (MQe.setP _ _ _ _)
theorem sum_items {c : zCS} {f i : Nat} : ((kItemsOf c i).map (fun j => KW 24 c j)).sum + ((kItemsOf c i).map (fun j => KW 24 c j)).sum + ((kItemsOf c i).map (fun j => LB f c j)).sum ≤ LBS f c i := by
  have h : ∀ l : List Nat, (l.map (fun j => KW 24 c j)).sum + (l.map (fun j => KW 24 c j)).sum + (l.map (fun j => LB f c j)).sum ≤ (l.map (fun j => LB f c j + 4 * KW 24 c j + 2000)).sum := by
    intro l
    induction l with
    | nil => exact Nat.le_refl _
    | cons j l ih => simp only [List.map_cons, List.sum_cons]; omega
  rw [LBS_items]
  exact h _
set_option maxHeartbeats 4000000 in
theorem c_X4_contents {G : zG} {σ : zT} {d : Nat} {c : zCS} {th ct : Int32} {i fa f : Nat} {x y : Int32} {b : Bool} {ps : List P5} {L : LM} {C : CM} (hd : 90 ≤ d) (hG : zOk G) (hw : zGd G σ) (hS : MSys G σ c th ct) (hi : i < kN c) (hf : kN c ≤ f + 1 + i) (hPs : PsS G σ fa ps) (h24 : ps.length + FC (f + 1) c i ≤ 24) (hLM : HLM G th L f (d - 3)) (hCM : HCM G th C f (d - 3)) : zCall G I_X4_contents d [.ref (kA c 1), .ref (kA c (rB i)), .int x, .int y, .ref fa, .int (bI b)] σ ((fun o σ' => o = .inl (some (.int (mCon L C (c, ct) ps i x y b).2)) ∧ MSys G σ' (mCon L C (c, ct) ps i x y b).1.1.1 th (mCon L C (c, ct) ps i x y b).1.1.2 ∧ PsS G σ' fa (mCon L C (c, ct) ps i x y b).1.2 ∧ (mCon L C (c, ct) ps i x y b).1.2.length ≤ ps.length + FC (f + 1) c i ∧ zX G (SMF fa) σ σ' (6800 + 5000 * (kWd c i).length + LBS f c i))) := by
  refine zCall_of (ls := [(0, .ref (kA c 1)), (1, .ref (kA c (rB i))), (2, .int x), (3, .int y), (4, .ref fa), (5, .int (bI b))]) (by decide) (Nat.le_of_ble_eq_true rfl) rfl ?_
  have hchl := hS.chl hi
  have hsi := sum_items (c := c) (f := f) (i := i)
  have hk := hS.val hi 2
  have hk : kF c i 2 = 98 ∨ kF c i 2 = 116 ∨ kF c i 2 = 102 ∨ kF c i 2 = 103 := hk
  refine zr_aload_n dX4_contents_0 rfl rfl ?_
  refine zr_get (k := 1) (v := .int (kF c i 2)) in_X5 (hS.bx hi) rfl (Nat.le_of_ble_eq_true rfl) q2095 (.inl rfl) rfl dX4_contents_1 ?_
  rcases hk with hv | hv | hv | hv
  · refine zr_eqi (z := 98) (hv) ?_
    refine zr_lookup (tgt := 40) (off := 36) dX4_contents_4 (by decide) (by decide) (by decide) ?_
    rw [show (mCon L C (c, ct) ps i x y b) = mBlock L C (c, ct) ps i x y b from if_pos hv]
    obtain ⟨_, σ1, ⟨rfl, hS1, hP1, hl1, hX1⟩, hC1⟩ := c_X4_block (x := x) (y := y) (b := b) (d := d - 1) (f := f) (by omega) hG hw hS hi hf hPs h24 (L := L) (C := C) hLM hCM
    refine zr_aload_n dX4_contents_40 rfl rfl ?_
    refine zr_aload_n dX4_contents_41 rfl rfl ?_
    refine zr_iload_n dX4_contents_42 rfl rfl ?_
    refine zr_iload_n dX4_contents_43 rfl rfl ?_
    refine zr_aload dX4_contents_44 rfl ?_
    refine zr_iload dX4_contents_46 rfl ?_
    refine zr_call1 (rest := []) (zs_V (As := [.ref (kA c (rB i)), .int x, .int y, .ref fa, .int (bI b)]) (by omega) ok_X4_block q2357 q2359 qs41 q77 q2360 rfl hS.one rfl rfl rfl (Nat.le_of_ble_eq_true rfl) dX4_contents_48) hC1 ?_
    refine zr_goto (tgt := 82) dX4_contents_51 (by decide) ?_
    exact zr_iret rfl rfl dX4_contents_82 (⟨rfl, hS1, hP1, hl1, hX1.le (by omega)⟩)
  · refine zr_eqi (z := 116) (hv) ?_
    refine zr_lookup (tgt := 54) (off := 50) dX4_contents_4 (by decide) (by decide) (by decide) ?_
    rw [show (mCon L C (c, ct) ps i x y b) = (((mSL c i (mTxt c ps i x y).1, ct), ps), (mTxt c ps i x y).2 - y + kF c i 12) from (if_neg (show ¬ kF c i 2 = 98 by rw [hv]; decide)).trans (if_pos hv)]
    obtain ⟨_, σ1, ⟨rfl, hS1, hP1, hX1⟩, hC1⟩ := c_X4_text (x := x) (y := y) (d := d - 1) (by omega) hG hw hS hi hPs
    refine zr_aload_n dX4_contents_54 rfl rfl ?_
    refine zr_iload_n dX4_contents_55 rfl rfl ?_
    refine zr_iload_n dX4_contents_56 rfl rfl ?_
    refine zr_aload dX4_contents_57 rfl ?_
    refine zr_call1 (rest := []) (zs_S (As := [.ref (kA c (rB i)), .int x, .int y, .ref fa]) (by omega) ok_X4_text q2474 q2475 q77 q2476 rfl rfl (Nat.le_of_ble_eq_true rfl) dX4_contents_59) hC1 ?_
    refine zr_goto (tgt := 82) dX4_contents_62 (by decide) ?_
    exact zr_iret rfl rfl dX4_contents_82 (⟨rfl, hS1, hP1, Nat.le_add_right _ _, (hX1.mono SM_SMF).le (by omega)⟩)
  · refine zr_eqi (z := 102) (hv) ?_
    refine zr_lookup (tgt := 65) (off := 61) dX4_contents_4 (by decide) (by decide) (by decide) ?_
    rw [show (mCon L C (c, ct) ps i x y b) = (((mRow L (c, ct) i b).1, ps), (mRow L (c, ct) i b).2) from (if_neg (show ¬ kF c i 2 = 98 by rw [hv]; decide)).trans ((if_neg (show ¬ kF c i 2 = 116 by rw [hv]; decide)).trans (if_pos hv))]
    obtain ⟨_, σ1, ⟨rfl, hS1, hX1⟩, hC1⟩ := c_X4_row (b := b) (d := d - 1) (f := f) (by omega) hG hw hS hi hf (L := L) hLM
    refine zr_aload_n dX4_contents_65 rfl rfl ?_
    refine zr_aload_n dX4_contents_66 rfl rfl ?_
    refine zr_iload dX4_contents_67 rfl ?_
    refine zr_call1 (rest := []) (zs_V (As := [.ref (kA c (rB i)), .int (bI b)]) (by omega) ok_X4_row q2497 q2499 qs44 q77 q2500 rfl hS.one rfl rfl rfl (Nat.le_of_ble_eq_true rfl) dX4_contents_69) hC1 ?_
    refine zr_goto (tgt := 82) dX4_contents_72 (by decide) ?_
    exact zr_iret rfl rfl dX4_contents_82 (⟨rfl, hS1, hPs.keepM hw hX1, Nat.le_add_right _ _, (hX1.mono SM_SMF).le (by omega)⟩)
  · refine zr_eqi (z := 103) (hv) ?_
    refine zr_lookup (tgt := 75) (off := 71) dX4_contents_4 (by decide) (by decide) (by decide) ?_
    rw [show (mCon L C (c, ct) ps i x y b) = (((mGrid L (c, ct) i b).1, ps), (mGrid L (c, ct) i b).2) from (if_neg (show ¬ kF c i 2 = 98 by rw [hv]; decide)).trans ((if_neg (show ¬ kF c i 2 = 116 by rw [hv]; decide)).trans (if_neg (show ¬ kF c i 2 = 102 by rw [hv]; decide)))]
    obtain ⟨_, σ1, ⟨rfl, hS1, hX1⟩, hC1⟩ := c_X4_grid (b := b) (d := d - 1) (f := f) (by omega) hG hw hS hi hf (L := L) hLM
    refine zr_aload_n dX4_contents_75 rfl rfl ?_
    refine zr_aload_n dX4_contents_76 rfl rfl ?_
    refine zr_iload dX4_contents_77 rfl ?_
    refine zr_call1 (rest := []) (zs_V (As := [.ref (kA c (rB i)), .int (bI b)]) (by omega) ok_X4_grid q2519 q2521 qs46 q77 q2522 rfl hS.one rfl rfl rfl (Nat.le_of_ble_eq_true rfl) dX4_contents_79) hC1 ?_
    exact zr_iret rfl rfl dX4_contents_82 (⟨rfl, hS1, hPs.keepM hw hX1, Nat.le_add_right _ _, (hX1.mono SM_SMF).le (by omega)⟩)
set_option maxHeartbeats 4000000 in
theorem c_X4_lays {G : zG} {σ : zT} {d : Nat} {c : zCS} {th ct : Int32} {i f : Nat} {w : Int32} {b : Bool} {L : LM} {C : CM} (hd : 94 ≤ d) (hG : zOk G) (hw : zGd G σ) (hS : MSys G σ c th ct) (hi : i < kN c) (hf : kN c ≤ f + 1 + i) (h24 : FC (f + 1) c i ≤ 24) (hLM : HLM G th L f (d - 4)) (hCM : HCM G th C f (d - 4)) : zCall G I_X4_lays d [.ref (kA c 1), .ref (kA c (rB i)), .int w, .int (bI b)] σ ((fun o σ' => o = .inl none ∧ MSys G σ' (mLays L C (c, ct) i w b).1 th (mLays L C (c, ct) i w b).2 ∧ zX G SM σ σ' (LB (f + 1) c i))) := by
  refine zCall_of (ls := [(0, .ref (kA c 1)), (1, .ref (kA c (rB i))), (2, .int w), (3, .int (bI b))]) (by decide) (Nat.le_of_ble_eq_true rfl) rfl ?_
  have hle := hS.le
  have key24 : ∀ z : Int32, z = bI (mAnew c i w b) → zR G yX4_lays cX4_lays 8 (Option.none : Option Jvm.ClassFile.FieldType) [] d 24 [(0, .ref (kA c 1)), (1, .ref (kA c (rB i))), (2, .int w), (3, .int (bI b))] [.int z] σ (fun o σ' => o = .inl none ∧ MSys G σ' (mLays L C (c, ct) i w b).1 th (mLays L C (c, ct) i w b).2 ∧ zX G SM σ σ' (LB (f + 1) c i)) := by
    intro z hz
    subst hz
    obtain ⟨an, han⟩ : ∃ an, an = mAnew c i w b := ⟨_, rfl⟩
    rw [← han]
    refine zr_istore (ls2 := [(0, .ref (kA c 1)), (1, .ref (kA c (rB i))), (2, .int w), (3, .int (bI b)), (4, .int (bI an))]) dX4_lays_24 (Nat.le_of_ble_eq_true rfl) rfl ?_
    refine zr_aload_n dX4_lays_26 rfl rfl ?_
    refine zr_dup dX4_lays_27 rfl ?_
    refine zr_get (k := 3) (v := .int ct) in_X4 hS.one rfl (Nat.le_of_ble_eq_true rfl) q2221 (.inl rfl) rfl dX4_lays_28 ?_
    refine zr_iload dX4_lays_31 rfl ?_
    have key41 : ∀ z : Int32, z = (if an = true then (1 : Int32) else 0) → zR G yX4_lays cX4_lays 8 (Option.none : Option Jvm.ClassFile.FieldType) [] d 41 [(0, .ref (kA c 1)), (1, .ref (kA c (rB i))), (2, .int w), (3, .int (bI b)), (4, .int (bI an))] [.int z, .int ct, .ref (kA c 1)] σ (fun o σ' => o = .inl none ∧ MSys G σ' (mLays L C (c, ct) i w b).1 th (mLays L C (c, ct) i w b).2 ∧ zX G SM σ σ' (LB (f + 1) c i)) := by
      intro z hz
      subst hz
      refine zr_iadd dX4_lays_41 ?_
      have hS1 := hS.setO th (ct + (if an = true then 1 else 0)) (kCt c) (kLw c) hS.2.2.2.2.1
      have hS1 : MSys G (sUp σ (kA c 1) (.inr (4, mO c th (ct + (if an = true then 1 else 0))))) c th (ct + (if an = true then 1 else 0)) := hS1
      have hX1 : zX G SM σ (sUp σ (kA c 1) (.inr (4, mO c th (ct + (if an = true then 1 else 0))))) 0 := hS.XO hw _
      generalize hσ1 : sUp σ (kA c 1) (.inr (4, mO c th (ct + (if an = true then 1 else 0)))) = σ1 at hS1 hX1
      have hbj1 := hS1.bx hi
      have hS2 := hS1.setP (k := 4) hi w
      have hX12 := hS1.XB hX1.gd hi (mBx (kSetP c i 4 w) i)
      generalize hσ2 : sUp σ1 (kA c (rB i)) (.inr (5, mBx (kSetP c i 4 w) i)) = σ2 at hS2 hX12
      have hX2 := hX1.trans hX12
      have hbF2 : sF σ2 (kA c (rB i)) = some (.inr (5, mBx (kSetP c i 4 w) i)) := hS2.bF (i := i) hi
      have hS3 : MSys G (sUp σ2 (kA c (rB i)) (.inr (5, mBx (kSetF (kSetP c i 4 w) i 25 0) i))) (kSetF (kSetP c i 4 w) i 25 0) th (ct + (if an = true then 1 else 0)) := hS2.setF (k := 25) (i := i) hi 0 (hS2.2.2.2.setF i (k := 25) trivial (by decide) (fun _ => Or.inl rfl))
      have hX23 : zX G SM σ2 (sUp σ2 (kA c (rB i)) (.inr (5, mBx (kSetF (kSetP c i 4 w) i 25 0) i))) 0 := hS2.XB hX2.gd (i := i) hi _
      generalize hσ3 : sUp σ2 (kA c (rB i)) (.inr (5, mBx (kSetF (kSetP c i 4 w) i 25 0) i)) = σ3 at hS3 hX23
      have hX3 := hX2.trans hX23
      have hbF3 : sF σ3 (kA c (rB i)) = some (.inr (5, mBx (kSetF (kSetP c i 4 w) i 25 0) i)) := hS3.bF (i := i) hi
      have hS4 : MSys G (sUp σ3 (kA c (rB i)) (.inr (5, mBx (mL1 c i w) i))) (mL1 c i w) th (ct + (if an = true then 1 else 0)) := hS3.setP (k := 2) (i := i) hi w
      have hX34 : zX G SM σ3 (sUp σ3 (kA c (rB i)) (.inr (5, mBx (mL1 c i w) i))) 0 := hS3.XB hX3.gd (i := i) hi _
      generalize hσ4 : sUp σ3 (kA c (rB i)) (.inr (5, mBx (mL1 c i w) i)) = σ4 at hS4 hX34
      have hX4 := hX3.trans hX34
      have hE4 : MQe c (mL1 c i w) := MQe.L1 c i w
      refine zr_put (k := 3) (fs' := (mO c th (ct + (if an = true then 1 else 0)))) zt_X4 hS.1.1 rfl (Nat.le_of_ble_eq_true rfl) q2221 (.inl rfl) rfl rfl rfl (Nat.le_of_ble_eq_true rfl) rfl dX4_lays_42 ?_
      rw [hσ1]
      refine zr_aload_n dX4_lays_45 rfl rfl ?_
      refine zr_iload_n dX4_lays_46 rfl rfl ?_
      refine zr_put (k := 26) (fs' := (mBx (kSetP c i 4 w) i)) zt_X5 (hS1.bF hi) rfl (Nat.le_of_ble_eq_true rfl) q2145 (.inl rfl) rfl rfl rfl (Nat.le_of_ble_eq_true rfl) (mBx_P4 _ _ _) dX4_lays_47 ?_
      rw [hσ2]
      refine zr_aload_n dX4_lays_50 rfl rfl ?_
      refine zr_iconst (v := 0) dX4_lays_51 (by decide) ?_
      refine zr_put (k := 25) (fs' := (mBx (kSetF (kSetP c i 4 w) i 25 0) i)) zt_X5 hbF2 rfl (Nat.le_of_ble_eq_true rfl) q2143 (.inl rfl) rfl rfl rfl (Nat.le_of_ble_eq_true rfl) (mBx_F25 _ _ _) dX4_lays_52 ?_
      rw [hσ3]
      refine zr_aload_n dX4_lays_55 rfl rfl ?_
      refine zr_iload_n dX4_lays_56 rfl rfl ?_
      refine zr_put (k := 29) (fs' := (mBx (mL1 c i w) i)) zt_X5 hbF3 rfl (Nat.le_of_ble_eq_true rfl) q2151 (.inl rfl) rfl rfl rfl (Nat.le_of_ble_eq_true rfl) (mBx_P2 _ _ _) dX4_lays_57 ?_
      rw [hσ4]
      refine zr_new (ci := 20) (dT (sZ σ4)) zt_J2 q2082 q115 q56 rfl df_J2 dX4_lays_60 ?_
      refine zr_dup dX4_lays_63 rfl ?_
      refine zr_callv (rest := [.ref (sZ σ4)]) (zs_I (As := []) (by omega) ok_J2_init q2083 q117 q56 q118 rfl rfl rfl (Nat.le_of_ble_eq_true rfl) dX4_lays_64) (c_J2_init (by omega) hG (sF_newS _ _ _ _)) ?_
      rw [sNew_up]
      have hXn := zX.new S0 hX4.gd (dT (sZ σ4)) (by unfold dT; omega) (.inr (20, [.int 0, .ref (zc G 0), .int 0])) 3
      have hL5 : zL G (sNew σ4 (dT (sZ σ4)) (.inr (20, [.int 0, .ref (zc G 0), .int 0])) 3) (dT (sZ σ4)) (sZ σ4) 0 [] := zL.mk σ4 (dT (sZ σ4))
      generalize hσ5 : sNew σ4 (dT (sZ σ4)) (.inr (20, [.int 0, .ref (zc G 0), .int 0])) 3 = σ5 at hXn hL5 ⊢
      obtain ⟨fa, hfa⟩ : ∃ z, z = sZ σ4 := ⟨_, rfl⟩
      rw [← hfa] at hL5 ⊢
      have hS5 := hS4.keep0 hX4.gd hXn
      have hX5 := hX4.trans hXn.in
      have hP5 : PsS G σ5 fa [] := ⟨0, [], hL5, rfl, Nat.zero_le _, fun j q z h => by cases h⟩
      have h15 : zAt G σ5 (kA c 1) (.inr (4, mO (mL1 c i w) th (ct + (if an = true then 1 else 0)))) := hS5.one
      obtain ⟨_, σ6, ⟨rfl, hS6, hP6, hl6, hX6⟩, hC6⟩ := c_X4_contents (c := (mL1 c i w)) (ct := (ct + (if an = true then 1 else 0))) (x := 0) (y := 0) (b := an) (d := d - 1) (f := f) (i := i) (by omega) hG hX5.gd hS5 hi hf hP5 (by show 0 + FC (f + 1) (mL1 c i w) i ≤ 24; rw [FC_eq hE4.1, Nat.zero_add]; exact h24) (L := L) (C := C) hLM hCM
      have hX6 : zX G (SMF fa) σ5 σ6 (6800 + 5000 * (kWd c i).length + LBS f c i) := by
        have e1 : LBS f (mL1 c i w) i = LBS f c i := by
          have := LB_eq hE4.1 (f + 1) i
          rw [LB_succ, LB_succ] at this
          have e3 : kWd (mL1 c i w) i = kWd c i := rfl
          rw [e3] at this
          omega
        rw [← e1]
        exact hX6
      have hE6 : MQe c (mCon L C (mL1 c i w, (ct + (if an = true then 1 else 0))) [] i 0 0 an).1.1.1 := hE4.trans (MQe.Con hLM.1 hCM.1 ((mL1 c i w), (ct + (if an = true then 1 else 0))) [] i 0 0 an)
      have hly : (mLays L C (c, ct) i w b) = mLay2 (mCon L C (mL1 c i w, (ct + (if an = true then 1 else 0))) [] i 0 0 an) i := by rw [han]; rfl
      rw [hly]
      obtain ⟨R, hR⟩ : ∃ R, R = (mCon L C (mL1 c i w, (ct + (if an = true then 1 else 0))) [] i 0 0 an) := ⟨_, rfl⟩
      rw [← hR] at hS6 hP6 hl6 hC6 hE6 ⊢
      have hX06 : zX G SM σ σ6 _ := zX.dynM hw hX5 hX6 (by have := hX4.sz; omega)
      have hi6 : i < kN R.1.1.1 := by rw [hE6.n]; exact hi
      have hbF6 : sF σ6 (kA c (rB i)) = some (.inr (5, mBx R.1.1.1 i)) := hE6.2 ▸ hS6.bF hi6
      have hbj6 : zAt G σ6 (kA c (rB i)) (.inr (5, mBx R.1.1.1 i)) := .new hbF6
      obtain ⟨mp, xsp, p1, p2, p3, p4⟩ := id hP6
      obtain ⟨flp, hflp⟩ := p1.A
      refine zr_astore (ls2 := [(0, .ref (kA c 1)), (1, .ref (kA c (rB i))), (2, .int w), (3, .int (bI b)), (4, .int (bI an)), (5, .ref fa)]) dX4_lays_67 (Nat.le_of_ble_eq_true rfl) rfl ?_
      refine zr_aload_n dX4_lays_69 rfl rfl ?_
      refine zr_aload_n dX4_lays_70 rfl rfl ?_
      refine zr_iconst (v := 0) dX4_lays_71 (by decide) ?_
      refine zr_iconst (v := 0) dX4_lays_72 (by decide) ?_
      refine zr_aload dX4_lays_73 rfl ?_
      refine zr_iload dX4_lays_75 rfl ?_
      refine zr_call1 (rest := []) (zs_V (As := [.ref (kA c (rB i)), .int 0, .int 0, .ref fa, .int (bI an)]) (by omega) ok_X4_contents q2353 q2355 qs40 q77 q2356 rfl h15 rfl rfl rfl (Nat.le_of_ble_eq_true rfl) dX4_lays_77) hC6 ?_
      refine zr_istore (ls2 := [(0, .ref (kA c 1)), (1, .ref (kA c (rB i))), (2, .int w), (3, .int (bI b)), (4, .int (bI an)), (5, .ref fa), (6, .int R.2)]) dX4_lays_80 (Nat.le_of_ble_eq_true rfl) rfl ?_
      refine zr_aload_n dX4_lays_82 rfl rfl ?_
      refine zr_get (k := 1) (v := .int (kF R.1.1.1 i 2)) in_X5 hbj6 rfl (Nat.le_of_ble_eq_true rfl) q2095 (.inl rfl) rfl dX4_lays_83 ?_
      refine zr_bipush (v := 98) dX4_lays_86 (by decide) ?_
      have key113 : ∀ z : Int32, z = bI (decide (kF R.1.1.1 i 2 = 98 ∨ kF R.1.1.1 i 2 = 116) && !decide (R.1.2 = [])) → zR G yX4_lays cX4_lays 8 (Option.none : Option Jvm.ClassFile.FieldType) [] d 113 [(0, .ref (kA c 1)), (1, .ref (kA c (rB i))), (2, .int w), (3, .int (bI b)), (4, .int (bI an)), (5, .ref fa), (6, .int R.2)] [.int z] σ6 (fun o σ' => o = .inl none ∧ MSys G σ' (mLay2 R i).1 th (mLay2 R i).2 ∧ zX G SM σ σ' (LB (f + 1) c i)) := by
        intro z hz
        subst hz
        refine zr_istore (ls2 := [(0, .ref (kA c 1)), (1, .ref (kA c (rB i))), (2, .int w), (3, .int (bI b)), (4, .int (bI an)), (5, .ref fa), (6, .int R.2), (7, .int (bI (decide (kF R.1.1.1 i 2 = 98 ∨ kF R.1.1.1 i 2 = 116) && !decide (R.1.2 = []))))]) dX4_lays_113 (Nat.le_of_ble_eq_true rfl) rfl ?_
        refine zr_aload_n dX4_lays_115 rfl rfl ?_
        refine zr_aload_n dX4_lays_116 rfl rfl ?_
        refine zr_get (k := 8) (v := .int (kF R.1.1.1 i 7)) in_X5 hbj6 rfl (Nat.le_of_ble_eq_true rfl) q2109 (.inl rfl) rfl dX4_lays_117 ?_
        have key155 : ∀ (z : Int32) (σ7 : zT), z = (mHv R.1.1.1 R.1.2 i R.2) → zX G S0 σ6 σ7 8 → zR G yX4_lays cX4_lays 8 (Option.none : Option Jvm.ClassFile.FieldType) [] d 155 [(0, .ref (kA c 1)), (1, .ref (kA c (rB i))), (2, .int w), (3, .int (bI b)), (4, .int (bI an)), (5, .ref fa), (6, .int R.2), (7, .int (bI (decide (kF R.1.1.1 i 2 = 98 ∨ kF R.1.1.1 i 2 = 116) && !decide (R.1.2 = []))))] [.int z, .ref (kA c (rB i))] σ7 (fun o σ' => o = .inl none ∧ MSys G σ' (mLay2 R i).1 th (mLay2 R i).2 ∧ zX G SM σ σ' (LB (f + 1) c i)) := by
          intro z σ7 hz hX67
          subst hz
          have hS7 := hS6.keep0 hX6.gd hX67
          have hbF7 : sF σ7 (kA c (rB i)) = some (.inr (5, mBx R.1.1.1 i)) := hE6.2 ▸ hS7.bF hi6
          refine zr_put (k := 30) (fs' := (mBx (mLay2 R i).1 i)) zt_X5 hbF7 rfl (Nat.le_of_ble_eq_true rfl) q2153 (.inl rfl) rfl rfl rfl (Nat.le_of_ble_eq_true rfl) (mBx_P3 _ _ _) dX4_lays_155 ?_
          have hS8 : MSys G (sUp σ7 (kA c (rB i)) (.inr (5, mBx (mLay2 R i).1 i))) (mLay2 R i).1 th (mLay2 R i).2 := hE6.2 ▸ hS7.setP (k := 3) hi6 _
          have hX78 : zX G SM σ7 (sUp σ7 (kA c (rB i)) (.inr (5, mBx (mLay2 R i).1 i))) 0 := hE6.2 ▸ hS7.XB hX67.gd hi6 _
          exact zr_vret rfl dX4_lays_158 (⟨rfl, hS8, ((hX06.trans hX67.in).trans hX78).le (by rw [LB_succ]; omega)⟩)
        refine zr_if_lt (tgt := 130) dX4_lays_120 (by decide) (fun h1 => ?_) (fun h1 => ?_)
        · have h1n : ¬ 0 ≤ kF R.1.1.1 i 7 := by first | exact Int32.not_le.mpr h1 | exact h1
          refine zr_iload dX4_lays_130 rfl ?_
          refine zr_ifeqB (tgt := 153) dX4_lays_132 (by decide) (fun h2 => ?_) (fun h2 => ?_)
          · refine zr_iload dX4_lays_153 rfl ?_
            exact key155 _ σ6 (by
              unfold mHv
              rw [if_neg h1n, if_neg (fun h9 => by
                rw [decide_eq_true h9.1, decide_eq_false h9.2] at h2
                cases h2)]) (zX.rf _ hX6.gd 8)
          · have hh : (kF R.1.1.1 i 2 = 98 ∨ kF R.1.1.1 i 2 = 116) ∧ R.1.2 ≠ [] := by
              simp only [Bool.and_eq_true, decide_eq_true_eq, Bool.not_eq_true', decide_eq_false_iff_not] at h2
              exact h2
            obtain ⟨_, σ7, ⟨rfl, hX7⟩, hC7⟩ := c_X4_lowest (d := d - 1) (by omega) hG hX6.gd hP6
            refine zr_iload dX4_lays_135 rfl ?_
            refine zr_aload dX4_lays_137 rfl ?_
            refine zr_call1 (rest := [.int R.2, .ref (kA c (rB i))]) (zs_S (As := [.ref fa]) (by omega) ok_X4_lowest q2453 q2454 q77 q2455 rfl rfl (Nat.le_of_ble_eq_true rfl) dX4_lays_139) hC7 ?_
            have hbj7 := hX7.at hX6.gd hbj6 (fun h => h)
            refine zr_aload_n dX4_lays_142 rfl rfl ?_
            refine zr_get (k := 13) (v := .int (kF R.1.1.1 i 12)) in_X5 hbj7 rfl (Nat.le_of_ble_eq_true rfl) q2119 (.inl rfl) rfl dX4_lays_143 ?_
            refine zr_iadd dX4_lays_146 ?_
            refine zr_max (by omega) q2329 q376 q60 q377 (Nat.le_of_ble_eq_true rfl) dX4_lays_147 ?_
            refine zr_goto (tgt := 155) dX4_lays_150 (by decide) ?_
            exact key155 _ σ7 (by unfold mHv; rw [if_neg h1n, if_pos hh]) hX7
        · refine zr_aload_n dX4_lays_123 rfl rfl ?_
          refine zr_get (k := 8) (v := .int (kF R.1.1.1 i 7)) in_X5 hbj6 rfl (Nat.le_of_ble_eq_true rfl) q2109 (.inl rfl) rfl dX4_lays_124 ?_
          refine zr_goto (tgt := 155) dX4_lays_127 (by decide) ?_
          exact key155 _ σ6 (by unfold mHv; rw [if_pos (by first | exact Int32.not_lt.mp h1 | exact h1)]) (zX.rf _ hX6.gd 8)
      refine zr_icmp_eq (tgt := 100) dX4_lays_88 (by decide) (fun h3 => ?_) (fun h3 => ?_)
      · have hkd : kF R.1.1.1 i 2 = 98 ∨ kF R.1.1.1 i 2 = 116 := Or.inl (by first | exact h3 | exact Decidable.not_not.mp h3)
        refine zr_aload dX4_lays_100 rfl ?_
        refine zr_call1 (rest := []) (zs_V (As := []) (by omega) ok_J2_isEmpty q2523 q1525 q2842 q56 q1527 rfl hflp rfl rfl rfl (Nat.le_of_ble_eq_true rfl) dX4_lays_102) (c_J2_isEmpty (by omega) p1) ?_
        refine zr_ifneB (tgt := 112) dX4_lays_105 (by decide) (fun h5 => ?_) (fun h5 => ?_)
        · have hps0 : R.1.2 = [] := by
            have h9 : xsp = [] := List.isEmpty_iff.mp (by first | exact h5 | simpa using h5)
            exact List.eq_nil_of_length_eq_zero (by rw [← p2, h9]; rfl)
          refine zr_iconst (v := 0) dX4_lays_112 (by decide) ?_
          exact key113 _ (by rw [decide_eq_true hps0, Bool.not_true, Bool.and_false]; rfl)
        · have hpn : ¬ R.1.2 = [] := by
            intro h9
            have : xsp = [] := List.eq_nil_of_length_eq_zero (by rw [p2, h9]; rfl)
            rw [this] at h5
            first | cases h5 | exact h5 rfl
          refine zr_iconst (v := 1) dX4_lays_108 (by decide) ?_
          refine zr_goto (tgt := 113) dX4_lays_109 (by decide) ?_
          exact key113 _ (by rw [decide_eq_true hkd, decide_eq_false hpn]; rfl)
      · refine zr_aload_n dX4_lays_91 rfl rfl ?_
        refine zr_get (k := 1) (v := .int (kF R.1.1.1 i 2)) in_X5 hbj6 rfl (Nat.le_of_ble_eq_true rfl) q2095 (.inl rfl) rfl dX4_lays_92 ?_
        refine zr_bipush (v := 116) dX4_lays_95 (by decide) ?_
        refine zr_icmp_ne (tgt := 112) dX4_lays_97 (by decide) (fun h4 => ?_) (fun h4 => ?_)
        · refine zr_iconst (v := 0) dX4_lays_112 (by decide) ?_
          exact key113 _ (by rw [decide_eq_false (fun h9 => h9.elim h3 h4)]; rfl)
        · have hkd : kF R.1.1.1 i 2 = 98 ∨ kF R.1.1.1 i 2 = 116 := Or.inr (by first | exact h4 | exact Decidable.not_not.mp h4)
          refine zr_aload dX4_lays_100 rfl ?_
          refine zr_call1 (rest := []) (zs_V (As := []) (by omega) ok_J2_isEmpty q2523 q1525 q2842 q56 q1527 rfl hflp rfl rfl rfl (Nat.le_of_ble_eq_true rfl) dX4_lays_102) (c_J2_isEmpty (by omega) p1) ?_
          refine zr_ifneB (tgt := 112) dX4_lays_105 (by decide) (fun h5 => ?_) (fun h5 => ?_)
          · have hps0 : R.1.2 = [] := by
              have h9 : xsp = [] := List.isEmpty_iff.mp (by first | exact h5 | simpa using h5)
              exact List.eq_nil_of_length_eq_zero (by rw [← p2, h9]; rfl)
            refine zr_iconst (v := 0) dX4_lays_112 (by decide) ?_
            exact key113 _ (by rw [decide_eq_true hps0, Bool.not_true, Bool.and_false]; rfl)
          · have hpn : ¬ R.1.2 = [] := by
              intro h9
              have : xsp = [] := List.eq_nil_of_length_eq_zero (by rw [p2, h9]; rfl)
              rw [this] at h5
              first | cases h5 | exact h5 rfl
            refine zr_iconst (v := 1) dX4_lays_108 (by decide) ?_
            refine zr_goto (tgt := 113) dX4_lays_109 (by decide) ?_
            exact key113 _ (by rw [decide_eq_true hkd, decide_eq_false hpn]; rfl)
    refine zr_ifeqB (tgt := 40) dX4_lays_33 (by decide) (fun h1 => ?_) (fun h1 => ?_)
    · refine zr_iconst (v := 0) dX4_lays_40 (by decide) ?_
      exact key41 _ (by rw [if_neg (by rw [h1]; decide)])
    · refine zr_iconst (v := 1) dX4_lays_36 (by decide) ?_
      refine zr_goto (tgt := 41) dX4_lays_37 (by decide) ?_
      exact key41 _ (by rw [if_pos h1])
  refine zr_iload_n dX4_lays_0 rfl rfl ?_
  refine zr_ifeqB (tgt := 23) dX4_lays_1 (by decide) (fun h1 => ?_) (fun h1 => ?_)
  · refine zr_iconst (v := 0) dX4_lays_23 (by decide) ?_
    exact key24 _ (by unfold mAnew; rw [h1]; rfl)
  · refine zr_aload_n dX4_lays_4 rfl rfl ?_
    refine zr_get (k := 26) (v := .int (kP c i 4)) in_X5 (hS.bx hi) rfl (Nat.le_of_ble_eq_true rfl) q2145 (.inl rfl) rfl dX4_lays_5 ?_
    refine zr_iload_n dX4_lays_8 rfl rfl ?_
    refine zr_icmp_ne (tgt := 19) dX4_lays_9 (by decide) (fun h2 => ?_) (fun h2 => ?_)
    · refine zr_iconst (v := 1) dX4_lays_19 (by decide) ?_
      refine zr_goto (tgt := 24) dX4_lays_20 (by decide) ?_
      exact key24 _ (by unfold mAnew; rw [h1, decide_eq_true h2]; rfl)
    · have h2' : kP c i 4 = w := by first | exact h2 | exact Decidable.not_not.mp h2
      refine zr_aload_n dX4_lays_12 rfl rfl ?_
      refine zr_get (k := 25) (v := .int (kF c i 25)) in_X5 (hS.bx hi) rfl (Nat.le_of_ble_eq_true rfl) q2143 (.inl rfl) rfl dX4_lays_13 ?_
      refine zr_if_eq (tgt := 23) dX4_lays_16 (by decide) (fun h3 => ?_) (fun h3 => ?_)
      · refine zr_iconst (v := 0) dX4_lays_23 (by decide) ?_
        exact key24 _ (by unfold mAnew; rw [decide_eq_false (fun h9 => h9 h2'), decide_eq_false (fun h9 => h9 (by first | exact h3 | exact Decidable.not_not.mp h3)), Bool.or_false, Bool.and_false]; rfl)
      · refine zr_iconst (v := 1) dX4_lays_19 (by decide) ?_
        refine zr_goto (tgt := 24) dX4_lays_20 (by decide) ?_
        exact key24 _ (by unfold mAnew; rw [h1, decide_eq_true h3, Bool.or_true]; rfl)
