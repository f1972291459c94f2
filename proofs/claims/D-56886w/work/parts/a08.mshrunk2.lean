/-! ===== the reference: shrunk, whole (rows printed by tools/p108.py) ===== -/
set_option maxHeartbeats 4000000 in
theorem l_X4_shr {G : zG} {σ : zT} {d : Nat} {c : zCS} {th ct : Int32} {tl l wa ba fa : Nat} {mod inner : Int32} {es : List Nat} {g : Nat → Int32} {Q : zO → zT → Prop} (hd : 70 ≤ d) (hG : zOk G) (hw : zGd G σ) (hS : MSys G σ c th ct) (hL : zL G σ tl l mod (es.map (fun j => kA c (rB j)))) (hes : ∀ j, j ∈ es → j < kN c) (hel : es.length ≤ 24) (hA0 : zAt G σ wa (aI G es.length g)) {bd : Nat → Int32} {N : Nat} (hne : fa ≠ ba) (hfa : sZ σ ≤ fa) : ∀ (f n : Nat) (b : Nat → Bool) (σ1 : zT), shCnt b es.length < f → zX G S0 σ σ1 n → n + 28 * f ≤ N → sF σ1 ba = some (aI G es.length bd) → sF σ1 fa = some (aZ G es.length (bA b)) → (∀ σ2 wb, zX G S0 σ σ2 N → sZ σ ≤ wb → sF σ2 wb = some (aI G es.length (mShGo c es inner bd g f b)) → sT σ2 wb = 0 → Q (.inl (some (.ref wb))) σ2) → zR G yX4_shrunk cX4_shrunk 13 (Option.some (Jvm.ClassFile.FieldType.array Jvm.ClassFile.FieldType.int)) [] d 55 [(0, .ref l), (1, .ref wa), (2, .int inner), (3, .int (nI es.length)), (4, .ref ba), (5, .ref fa)] [] σ1 Q := by
  intro f
  induction f with
  | zero => intro n b σ1 h; omega
  | succ f ih =>
    intro n b σ1 hf hX hN hB hF kQ
    have hX1 := zX.new S0 hX.gd 0 (by omega) (aI G es.length (fun _ => 0)) es.length
    have hX2 : zX G S0 σ (sNew σ1 0 (aI G es.length (fun _ => 0)) es.length) (n + 28) := (hX.trans hX1).le (by omega)
    have hba1 := hX.gd.1 ba _ hB
    have hfa1 := hX.gd.1 fa _ hF
    have hH2 : ShM G (sNew σ1 0 (aI G es.length (fun _ => 0)) es.length) es.length ba fa (sZ σ1) bd b (fun _ => 0) := ⟨hX1.f hX.gd hB (fun h => h), hX1.f hX.gd hF (fun h => h), sF_newS _ _ _ _, sT_newS _ _ _ _⟩
    have hsz := hX.sz
    obtain ⟨wb, hwb9⟩ : ∃ z, z = sZ σ1 := ⟨_, rfl⟩
    have hwb : sZ σ ≤ wb := by omega
    have hnw : ba ≠ wb ∧ fa ≠ ba ∧ fa ≠ wb := ⟨by omega, hne, by omega⟩
    refine zr_iload_n dX4_shrunk_55 rfl rfl ?_
    refine zr_ineg dX4_shrunk_56 ?_
    refine zr_istore (ls2 := [(0, .ref l), (1, .ref wa), (2, .int inner), (3, .int (nI es.length)), (4, .ref ba), (5, .ref fa), (6, .int (-inner))]) dX4_shrunk_57 (Nat.le_of_ble_eq_true rfl) rfl ?_
    refine zr_iconst (v := 0) dX4_shrunk_59 (by decide) ?_
    refine zr_istore (ls2 := [(0, .ref l), (1, .ref wa), (2, .int inner), (3, .int (nI es.length)), (4, .ref ba), (5, .ref fa), (6, .int (-inner)), (7, .int 0)]) dX4_shrunk_60 (Nat.le_of_ble_eq_true rfl) rfl ?_
    refine zr_iload_n dX4_shrunk_62 rfl rfl ?_
    refine zr_newaI (N' := es.length) 0 q1302 (nI_pos (by omega)) (nI_clamp (by omega)) (by omega) dX4_shrunk_63 ?_
    rw [← hwb9] at hH2 ⊢
    generalize hσ2 : sNew σ1 0 (aI G es.length (fun _ => 0)) es.length = σ2 at hX2 hH2 ⊢
    refine zr_astore (ls2 := [(0, .ref l), (1, .ref wa), (2, .int inner), (3, .int (nI es.length)), (4, .ref ba), (5, .ref fa), (6, .int (-inner)), (7, .int 0), (8, .ref wb)]) dX4_shrunk_65 (Nat.le_of_ble_eq_true rfl) rfl ?_
    refine zr_iconst (v := 0) dX4_shrunk_67 (by decide) ?_
    refine zr_istore (ls2 := [(0, .ref l), (1, .ref wa), (2, .int inner), (3, .int (nI es.length)), (4, .ref ba), (5, .ref fa), (6, .int (-inner)), (7, .int 0), (8, .ref wb), (9, .int 0)]) dX4_shrunk_68 (Nat.le_of_ble_eq_true rfl) rfl ?_
    refine l_X4_shr1 (wb := wb) (n := n + 28) (bd := bd) (b := b) (by omega) hG hw hS hL hes hel hA0 hnw hfa hwb es 0 (fun _ => 0, -inner, 0) σ2 rfl (Nat.zero_le _) hX2 hH2 (fun σ3 x3 hX3 hH3 => ?_)
    have hgo : mShGo c es inner bd g (f + 1) b = if (mP1 c es inner b bd g).2.2 = 0 then (mP1 c es inner b bd g).1
        else if (mP2 c es inner b bd g).2.2.1 = true then mShGo c es inner bd g f (mP2 c es inner b bd g).2.1
        else ((nums es 0).foldl (mS3 c b bd g) ((mP2 c es inner b bd g).1, (mP2 c es inner b bd g).2.2.2)).1 := rfl
    have hH3 : ShM G σ3 es.length ba fa wb bd b (mP1 c es inner b bd g).1 := hH3
    show zR G yX4_shrunk cX4_shrunk 13 (Option.some (Jvm.ClassFile.FieldType.array Jvm.ClassFile.FieldType.int)) [] d 168 [(0, .ref l), (1, .ref wa), (2, .int inner), (3, .int (nI es.length)), (4, .ref ba), (5, .ref fa), (6, .int (mP1 c es inner b bd g).2.1), (7, .int (mP1 c es inner b bd g).2.2), (8, .ref wb), (9, .int x3)] [] σ3 _
    refine zr_iload dX4_shrunk_168 rfl ?_
    refine zr_if_ne (tgt := 176) dX4_shrunk_170 (by decide) (fun h1 => ?_) (fun h1 => ?_)
    · rw [hgo, if_neg h1] at kQ
      refine zr_iconst (v := 0) dX4_shrunk_176 (by decide) ?_
      refine zr_istore (ls2 := [(0, .ref l), (1, .ref wa), (2, .int inner), (3, .int (nI es.length)), (4, .ref ba), (5, .ref fa), (6, .int (mP1 c es inner b bd g).2.1), (7, .int (mP1 c es inner b bd g).2.2), (8, .ref wb), (9, .int 0)]) dX4_shrunk_177 (Nat.le_of_ble_eq_true rfl) rfl ?_
      refine zr_iload dX4_shrunk_179 rfl ?_
      refine zr_istore (ls2 := [(0, .ref l), (1, .ref wa), (2, .int inner), (3, .int (nI es.length)), (4, .ref ba), (5, .ref fa), (6, .int (mP1 c es inner b bd g).2.1), (7, .int (mP1 c es inner b bd g).2.2), (8, .ref wb), (9, .int 0), (10, .int (mP1 c es inner b bd g).2.1)]) dX4_shrunk_181 (Nat.le_of_ble_eq_true rfl) rfl ?_
      refine zr_iconst (v := 0) dX4_shrunk_183 (by decide) ?_
      refine zr_istore (ls2 := [(0, .ref l), (1, .ref wa), (2, .int inner), (3, .int (nI es.length)), (4, .ref ba), (5, .ref fa), (6, .int (mP1 c es inner b bd g).2.1), (7, .int (mP1 c es inner b bd g).2.2), (8, .ref wb), (9, .int 0), (10, .int (mP1 c es inner b bd g).2.1), (11, .int 0)]) dX4_shrunk_184 (Nat.le_of_ble_eq_true rfl) rfl ?_
      refine l_X4_shr2 (wb := wb) (n := n + 28) (bd := bd) (lack := (mP1 c es inner b bd g).2.1) (wt := (mP1 c es inner b bd g).2.2) (by omega) hG hw hS hL hes hel hA0 hnw hfa hwb h1 es 0 ((mP1 c es inner b bd g).1, b, false, (mP1 c es inner b bd g).2.1) σ3 rfl (Nat.zero_le _) hX3 hH3 (fun σ4 x4 hX4 hH4 => ?_)
      have hH4 : ShM G σ4 es.length ba fa wb bd (mP2 c es inner b bd g).2.1 (mP2 c es inner b bd g).1 := hH4
      show zR G yX4_shrunk cX4_shrunk 13 (Option.some (Jvm.ClassFile.FieldType.array Jvm.ClassFile.FieldType.int)) [] d 278 [(0, .ref l), (1, .ref wa), (2, .int inner), (3, .int (nI es.length)), (4, .ref ba), (5, .ref fa), (6, .int (mP1 c es inner b bd g).2.1), (7, .int (mP1 c es inner b bd g).2.2), (8, .ref wb), (9, .int (bI (mP2 c es inner b bd g).2.2.1)), (10, .int (mP2 c es inner b bd g).2.2.2), (11, .int x4)] [] σ4 _
      refine zr_iload dX4_shrunk_278 rfl ?_
      refine zr_ifeqB (tgt := 286) dX4_shrunk_280 (by decide) (fun h2 => ?_) (fun h2 => ?_)
      · have hsame : (mP2 c es inner b bd g).2.1 = b := (mS2_same c bd g _ _ _ _).2 h2
        rw [hsame] at hH4
        rw [if_neg (by rw [h2]; decide)] at kQ
        refine zr_iconst (v := 0) dX4_shrunk_286 (by decide) ?_
        refine zr_istore (ls2 := [(0, .ref l), (1, .ref wa), (2, .int inner), (3, .int (nI es.length)), (4, .ref ba), (5, .ref fa), (6, .int (mP1 c es inner b bd g).2.1), (7, .int (mP1 c es inner b bd g).2.2), (8, .ref wb), (9, .int (bI (mP2 c es inner b bd g).2.2.1)), (10, .int (mP2 c es inner b bd g).2.2.2), (11, .int 0)]) dX4_shrunk_287 (Nat.le_of_ble_eq_true rfl) rfl ?_
        refine l_X4_shr3 (wb := wb) (n := n + 28) (bd := bd) (b := b) (by omega) hG hw hS hL hes hel hA0 hnw hfa hwb es 0 ((mP2 c es inner b bd g).1, (mP2 c es inner b bd g).2.2.2) σ4 rfl (Nat.zero_le _) hX4 hH4 (fun σ5 x5 hX5 hH5 => ?_)
        refine zr_aload dX4_shrunk_364 rfl ?_
        exact zr_aret rfl (.inr ⟨_, rfl⟩) (.inr ⟨_, rfl⟩) dX4_shrunk_366 (kQ σ5 wb (hX5.le (by omega)) hwb hH5.2.2.1 hH5.2.2.2)
      · rw [if_pos h2] at kQ
        refine zr_goto (tgt := 55) dX4_shrunk_283 (by decide) ?_
        refine zr_sub (ls2 := [(0, .ref l), (1, .ref wa), (2, .int inner), (3, .int (nI es.length)), (4, .ref ba), (5, .ref fa)]) [0, 1, 2, 3, 4, 5] rfl ?_
        obtain ⟨i, _, hi2, hi3, hi4⟩ := mS2_more c bd g (mP1 c es inner b bd g).2.1 (mP1 c es inner b bd g).2.2 es 0 ((mP1 c es inner b bd g).1, b, false, (mP1 c es inner b bd g).2.1) rfl h2
        have hlt := shCnt_lt (b := b) (b' := (mP2 c es inner b bd g).2.1) (fun j hj => mS2_mono c bd g _ _ _ _ j hj) hi3 hi4 es.length (by omega)
        exact ih (n + 28) _ σ4 (by omega) hX4 (by omega) hH4.1 hH4.2.1 kQ
    · have h1' : (mP1 c es inner b bd g).2.2 = 0 := by first | exact h1 | exact Decidable.not_not.mp h1
      rw [hgo, if_pos h1'] at kQ
      refine zr_aload dX4_shrunk_173 rfl ?_
      exact zr_aret rfl (.inr ⟨_, rfl⟩) (.inr ⟨_, rfl⟩) dX4_shrunk_175 (kQ σ3 wb (hX3.le (by omega)) hwb hH3.2.2.1 hH3.2.2.2)
set_option maxHeartbeats 4000000 in
theorem c_X4_shrunk {G : zG} {σ : zT} {d : Nat} {c : zCS} {th ct : Int32} {tl l wa : Nat} {mod inner : Int32} {es : List Nat} {g : Nat → Int32} (hd : 72 ≤ d) (hG : zOk G) (hw : zGd G σ) (hS : MSys G σ c th ct) (hL : zL G σ tl l mod (es.map (fun j => kA c (rB j)))) (hes : ∀ j, j ∈ es → j < kN c) (hel : es.length ≤ 24) (hA0 : zAt G σ wa (aI G es.length g)) : zCall G I_X4_shrunk d [.ref l, .ref wa, .int inner] σ ((fun o σ' => ∃ wb, o = .inl (some (.ref wb)) ∧ sZ σ ≤ wb ∧ sF σ' wb = some (aI G es.length (mShrunk c es inner g)) ∧ sT σ' wb = 0 ∧ zX G S0 σ σ' (800 + (es.map (fun j => KW 24 c j)).sum))) := by
  refine zCall_of (ls := [(0, .ref l), (1, .ref wa), (2, .int inner)]) (by decide) (Nat.le_of_ble_eq_true rfl) rfl ?_
  refine zr_aload_n dX4_shrunk_0 rfl rfl ?_
  refine zr_alenI (v := nI es.length) hA0 rfl dX4_shrunk_1 ?_
  refine zr_istore_n (ls2 := [(0, .ref l), (1, .ref wa), (2, .int inner), (3, .int (nI es.length))]) dX4_shrunk_2 rfl (Nat.le_of_ble_eq_true rfl) rfl ?_
  refine zr_iload_n dX4_shrunk_3 rfl rfl ?_
  refine zr_newaI (N' := es.length) 0 q1302 (nI_pos (by omega)) (nI_clamp (by omega)) (by omega) dX4_shrunk_4 ?_
  have hX1 := zX.new S0 hw 0 (by omega) (aI G es.length (fun _ => 0)) es.length
  have hA1 : sF (sNew σ 0 (aI G es.length (fun _ => 0)) es.length) (sZ σ) = some (aI G es.length (fun _ => 0)) := sF_newS _ _ _ _
  have hz1 : sZ (sNew σ 0 (aI G es.length (fun _ => 0)) es.length) = sZ σ + 1 := rfl
  generalize hσ1 : sNew σ 0 (aI G es.length (fun _ => 0)) es.length = σ1 at hX1 hA1 hz1 ⊢
  refine zr_astore (ls2 := [(0, .ref l), (1, .ref wa), (2, .int inner), (3, .int (nI es.length)), (4, .ref (sZ σ))]) dX4_shrunk_6 (Nat.le_of_ble_eq_true rfl) rfl ?_
  refine zr_iload_n dX4_shrunk_8 rfl rfl ?_
  refine zr_newaZ (N' := es.length) 0 q1303 (nI_pos (by omega)) (nI_clamp (by omega)) (by omega) dX4_shrunk_9 ?_
  have hX12 := zX.new S0 hX1.gd 0 (by omega) (aZ G es.length (fun _ => 0)) es.length
  have hX2 : zX G S0 σ (sNew σ1 0 (aZ G es.length (fun _ => 0)) es.length) 60 := (hX1.trans hX12).le (by omega)
  have hF2 : sF (sNew σ1 0 (aZ G es.length (fun _ => 0)) es.length) (sZ σ1) = some (aZ G es.length (bA (fun _ => false))) := sF_newS _ _ _ _
  have hA2 := hX12.f hX1.gd hA1 (fun h => h)
  generalize hσ2 : sNew σ1 0 (aZ G es.length (fun _ => 0)) es.length = σ2 at hX2 hX12 hF2 hA2 ⊢
  rw [hz1] at hF2 ⊢
  refine zr_astore (ls2 := [(0, .ref l), (1, .ref wa), (2, .int inner), (3, .int (nI es.length)), (4, .ref (sZ σ)), (5, .ref (sZ σ + 1))]) dX4_shrunk_11 (Nat.le_of_ble_eq_true rfl) rfl ?_
  refine zr_iconst (v := 0) dX4_shrunk_13 (by decide) ?_
  refine zr_istore (ls2 := [(0, .ref l), (1, .ref wa), (2, .int inner), (3, .int (nI es.length)), (4, .ref (sZ σ)), (5, .ref (sZ σ + 1)), (6, .int 0)]) dX4_shrunk_14 (Nat.le_of_ble_eq_true rfl) rfl ?_
  refine l_X4_shr0 (N := 60 + (es.map (fun j => KW 24 c j)).sum) (by omega) hG hw hS hL hes hel hA0 (by omega) (Nat.le_refl _) es 0 60 _ σ2 rfl (Nat.zero_le _) hX2 (by omega) hA2 hF2 (fun σ3 hX3 hA3 hF3 => ?_)
  exact l_X4_shr (bd := mBds c es g) (N := 800 + (es.map (fun j => KW 24 c j)).sum) (by omega) hG hw hS hL hes hel hA0 (by omega) (by omega) (es.length + 1) _ _ σ3 (Nat.lt_succ_of_le (shCnt_le _ _)) hX3 (by omega) hA3 hF3 (fun σ4 wb hX4 hwb hA4 hT4 => ⟨wb, rfl, hwb, hA4, hT4, hX4⟩)
