/-! ===== the component: contentWidth, fitting (rows printed by tools/p54.py) ===== -/
set_option maxHeartbeats 4000000 in
theorem l_X1_gridWidth {G : zG} {σ1 : zT} {d m : Nat} {c : zCS} {i wa : Nat} {g : Nat → Int32} {least : Bool} {Q : zO → zT → Prop} (hm4 : m ≤ 4) (hA : sF σ1 wa = some (aI G m g)) : ∀ (n k : Nat) (a : Int32), k + n = m → Q (.inl (some (.int (sumA g n k a)))) σ1 → zR G yX1_gridWidth cX1_gridWidth 7 (Option.some Jvm.ClassFile.FieldType.int) [] d 15 [(0, .ref (kA c (rB i))), (1, .int (bI least)), (2, .int a), (3, .ref wa), (4, .int (nI m)), (5, .int (nI k))] [] σ1 Q := by
  intro n
  induction n with
  | zero =>
    intro k a hk kQ
    have hk : k = m := by omega
    subst hk
    refine zr_iload dX1_gridWidth_15 rfl ?_
    refine zr_iload dX1_gridWidth_17 rfl ?_
    refine zr_icmp_ge (tgt := 39) dX1_gridWidth_19 (by decide) (fun _ => ?_) (fun h9 => absurd (Int32.le_refl _) h9)
    refine zr_iload_n dX1_gridWidth_39 rfl rfl ?_
    exact zr_iret rfl rfl dX1_gridWidth_40 (kQ)
  | succ n ih =>
    intro k a hk kQ
    refine zr_iload dX1_gridWidth_15 rfl ?_
    refine zr_iload dX1_gridWidth_17 rfl ?_
    refine zr_icmp_ge (tgt := 39) dX1_gridWidth_19 (by decide) (fun h9 => absurd h9 (nI_ge (by omega) (by omega))) (fun _ => ?_)
    refine zr_aload_n dX1_gridWidth_22 rfl rfl ?_
    refine zr_iload dX1_gridWidth_23 rfl ?_
    refine zr_iald (v := .int (g k)) (.new hA) (vp_in_nI (by omega) (by omega)) (by rw [nI_clamp (by omega)]) dX1_gridWidth_25 ?_
    refine zr_istore (ls2 := [(0, .ref (kA c (rB i))), (1, .int (bI least)), (2, .int a), (3, .ref wa), (4, .int (nI m)), (5, .int (nI k)), (6, .int (g k))]) dX1_gridWidth_26 (Nat.le_of_ble_eq_true rfl) rfl ?_
    refine zr_iload_n dX1_gridWidth_28 rfl rfl ?_
    refine zr_iload dX1_gridWidth_29 rfl ?_
    refine zr_iadd dX1_gridWidth_31 ?_
    refine zr_istore_n (ls2 := [(0, .ref (kA c (rB i))), (1, .int (bI least)), (2, .int (a + (g k))), (3, .ref wa), (4, .int (nI m)), (5, .int (nI k)), (6, .int (g k))]) dX1_gridWidth_32 rfl (Nat.le_of_ble_eq_true rfl) rfl ?_
    refine zr_iinc (v := ((nI k) + 1)) (ls2 := [(0, .ref (kA c (rB i))), (1, .int (bI least)), (2, .int (a + (g k))), (3, .ref wa), (4, .int (nI m)), (5, .int ((nI k) + 1)), (6, .int (g k))]) dX1_gridWidth_33 rfl rfl (Nat.le_of_ble_eq_true rfl) rfl ?_
    rw [show nI k + 1 = nI (k + 1) from nI_1 k]
    refine zr_goto (tgt := 15) dX1_gridWidth_36 (by decide) ?_
    refine zr_sub (ls2 := [(0, .ref (kA c (rB i))), (1, .int (bI least)), (2, .int (a + (g k))), (3, .ref wa), (4, .int (nI m)), (5, .int (nI (k + 1)))]) [0, 1, 2, 3, 4, 5] rfl ?_
    exact ih (k + 1) _ (by omega) kQ
set_option maxHeartbeats 4000000 in
theorem c_X1_gridWidth {G : zG} {σ : zT} {d : Nat} {c : zCS} {i f m : Nat} {least : Bool} (hd : 9 ≤ d) (hG : zOk G) (hw : zGd G σ) (hS : CSys G σ c) (hi : i < kN c) (hf : kN c ≤ f + 1 + i) (hm1 : 1 ≤ m) (hm4 : m ≤ 4) (hcol : kF c i 15 = nI m) (hCW : ∀ (σ : zT) (j : Nat), zGd G σ → CSys G σ c → j < kN c → kN c ≤ f + j → zCall G I_X1_contentWidth (d - 1 - 1) [.ref (kA c (rB j)), .int (bI least)] σ (fun o σ' => o = .inl (some (.int (cCW f c j least))) ∧ zX G S0 σ σ' (KW f c j))) : zCall G I_X1_gridWidth d [.ref (kA c (rB i)), .int (bI least)] σ ((fun o σ' => o = .inl (some (.int (sumA ((nums (kItemsOf c i) 0).foldl (colf c (fun j => cCW f c j least) (kF c i 15)) (fun _ => 0)) (kF c i 15).toNatClampNeg 0 0))) ∧ zX G S0 σ σ' (23 + 62 * (kCh c i).length + ((kItemsOf c i).map (fun j => KW f c j)).sum))) := by
  refine zCall_of (ls := [(0, .ref (kA c (rB i))), (1, .int (bI least))]) (by decide) (Nat.le_of_ble_eq_true rfl) rfl ?_
  obtain ⟨_, σ1, ⟨wa, rfl, hwa, hA, hX1⟩, hC⟩ := c_X1_columnWidths (d := d - 1) (by omega) hG hw hS hi hf hm1 hm4 hcol hCW
  refine zr_iconst (v := 0) dX1_gridWidth_0 (by decide) ?_
  refine zr_istore_n (ls2 := [(0, .ref (kA c (rB i))), (1, .int (bI least)), (2, .int 0)]) dX1_gridWidth_1 rfl (Nat.le_of_ble_eq_true rfl) rfl ?_
  refine zr_aload_n dX1_gridWidth_2 rfl rfl ?_
  refine zr_iload_n dX1_gridWidth_3 rfl rfl ?_
  refine zr_call1 (rest := []) (zs_S (As := [.ref (kA c (rB i)), .int (bI least)]) (by omega) ok_X1_columnWidths q1174 q1175 q53 q1176 rfl rfl (Nat.le_of_ble_eq_true rfl) dX1_gridWidth_4) hC ?_
  refine zr_astore_n (ls2 := [(0, .ref (kA c (rB i))), (1, .int (bI least)), (2, .int 0), (3, .ref wa)]) dX1_gridWidth_7 rfl (Nat.le_of_ble_eq_true rfl) rfl ?_
  refine zr_aload_n dX1_gridWidth_8 rfl rfl ?_
  refine zr_alenI (v := nI m) (.new hA) rfl dX1_gridWidth_9 ?_
  refine zr_istore (ls2 := [(0, .ref (kA c (rB i))), (1, .int (bI least)), (2, .int 0), (3, .ref wa), (4, .int (nI m))]) dX1_gridWidth_10 (Nat.le_of_ble_eq_true rfl) rfl ?_
  refine zr_iconst (v := 0) dX1_gridWidth_12 (by decide) ?_
  refine zr_istore (ls2 := [(0, .ref (kA c (rB i))), (1, .int (bI least)), (2, .int 0), (3, .ref wa), (4, .int (nI m)), (5, .int 0)]) dX1_gridWidth_13 (Nat.le_of_ble_eq_true rfl) rfl ?_
  refine l_X1_gridWidth hm4 hA m 0 0 (by omega) ⟨?_, hX1⟩
  rw [hcol, nI_clamp (by omega)]
theorem KW_succ (f : Nat) (c : zCS) (i : Nat) : KW (f + 1) c i = 60 + ((kCh c i).map (fun j => KW f c j + 80)).sum := rfl
set_option maxHeartbeats 4000000 in
theorem c_CW {G : zG} {c : zCS} (hG : zOk G) : ∀ (f : Nat) (d : Nat) (σ : zT) (i : Nat) (least : Bool), 3 * f + 10 ≤ d → zGd G σ → CSys G σ c → i < kN c → kN c ≤ f + i → zCall G I_X1_contentWidth d [.ref (kA c (rB i)), .int (bI least)] σ (fun o σ' => o = .inl (some (.int (cCW f c i least))) ∧ zX G S0 σ σ' (KW f c i)) := by
  intro f
  induction f with
  | zero => intro d σ i least hd hw hS hi hf; omega
  | succ f ih =>
    intro d σ i least hd hw hS hi hf
    refine zCall_of (ls := [(0, .ref (kA c (rB i))), (1, .int (bI least))]) (by decide) (Nat.le_of_ble_eq_true rfl) rfl ?_
    have hsum : ((kCh c i).map (fun j => KW f c j + 80)).sum = ((kCh c i).map (fun j => KW f c j)).sum + 80 * (kCh c i).length := sum_add_const
    have hfi : ((kItemsOf c i).map (fun j => KW f c j)).sum ≤ ((kCh c i).map (fun j => KW f c j)).sum := sum_filter_le
    obtain ⟨m, hm1, hm4, hcol⟩ := hS.col hi
    unfold cCW
    refine zr_aload_n dX1_contentWidth_0 rfl rfl ?_
    refine zr_call1 (rest := []) (zs_V (As := []) (by omega) ok_X2_told q1142 q1143 q1144 q57 q1145 rfl (hS.bx hi) rfl rfl rfl (Nat.le_of_ble_eq_true rfl) dX1_contentWidth_1) (c_X2_told (by omega) hS hi) ?_
    refine zr_iconst (v := (-1)) dX1_contentWidth_4 (by decide) ?_
    refine zr_icmp_eq (tgt := 13) dX1_contentWidth_5 (by decide) (fun h1 => ?_) (fun h1 => ?_)
    · rw [if_neg (fun h => h h1)]
      refine zr_iconst (v := 2) dX1_contentWidth_13 (by decide) ?_
      refine zr_aload_n dX1_contentWidth_14 rfl rfl ?_
      refine zr_getN (k := 12) (v := .int (kF c i 12)) in_X2 (hS.bx hi) rfl (Nat.le_of_ble_eq_true rfl) q260 (.inl rfl) rfl dX1_contentWidth_15 ?_
      refine zr_imul dX1_contentWidth_18 ?_
      refine zr_istore_n (ls2 := [(0, .ref (kA c (rB i))), (1, .int (bI least)), (2, .int (2 * (kF c i 12)))]) dX1_contentWidth_19 rfl (Nat.le_of_ble_eq_true rfl) rfl ?_
      refine zr_aload_n dX1_contentWidth_20 rfl rfl ?_
      refine zr_call1 (rest := []) (zs_V (As := []) (by omega) ok_X2_isText q1146 q1147 q1148 q57 q1149 rfl (hS.bx hi) rfl rfl rfl (Nat.le_of_ble_eq_true rfl) dX1_contentWidth_21) (c_X2_isText (by omega) hS hi) ?_
      refine zr_ifeqB (tgt := 35) dX1_contentWidth_24 (by decide) (fun h2 => ?_) (fun h2 => ?_)
      · rw [if_neg (by rw [h2]; decide)]
        refine zr_aload_n dX1_contentWidth_35 rfl rfl ?_
        refine zr_getN (k := 2) (v := .int (kF c i 2)) in_X2 (hS.bx hi) rfl (Nat.le_of_ble_eq_true rfl) q232 (.inl rfl) rfl dX1_contentWidth_36 ?_
        refine zr_bipush (v := 98) dX1_contentWidth_39 (by decide) ?_
        refine zr_icmp_ne (tgt := 52) dX1_contentWidth_41 (by decide) (fun h3 => ?_) (fun h3 => ?_)
        · rw [if_neg h3]
          refine zr_iload_n dX1_contentWidth_52 rfl rfl ?_
          refine zr_aload_n dX1_contentWidth_53 rfl rfl ?_
          refine zr_getN (k := 2) (v := .int (kF c i 2)) in_X2 (hS.bx hi) rfl (Nat.le_of_ble_eq_true rfl) q232 (.inl rfl) rfl dX1_contentWidth_54 ?_
          refine zr_bipush (v := 102) dX1_contentWidth_57 (by decide) ?_
          refine zr_icmp_ne (tgt := 70) dX1_contentWidth_59 (by decide) (fun h4 => ?_) (fun h4 => ?_)
          · rw [if_neg h4]
            obtain ⟨_, σ1, ⟨rfl, hX1⟩, hC⟩ := c_X1_gridWidth (d := d - 1) (f := f) (least := least) (by omega) hG hw hS hi (by omega) hm1 hm4 hcol (fun σ2 j q1 q2 q3 q4 => ih _ σ2 j least (by omega) q1 q2 q3 q4)
            refine zr_aload_n dX1_contentWidth_70 rfl rfl ?_
            refine zr_iload_n dX1_contentWidth_71 rfl rfl ?_
            refine zr_call1 (rest := [.int (2 * (kF c i 12))]) (zs_S (As := [.ref (kA c (rB i)), .int (bI least)]) (by omega) ok_X1_gridWidth q1171 q1172 q53 q1173 rfl rfl (Nat.le_of_ble_eq_true rfl) dX1_contentWidth_72) hC ?_
            refine zr_iadd dX1_contentWidth_75 ?_
            exact zr_iret rfl rfl dX1_contentWidth_76 (⟨rfl, hX1.le (by rw [KW_succ]; omega)⟩)
          · rw [if_pos h4]
            obtain ⟨_, σ1, ⟨rfl, hX1⟩, hC⟩ := c_X1_rowWidth (d := d - 1) (f := f) (least := least) (by omega) hG hw hS hi (by omega) (fun σ2 j q1 q2 q3 q4 => ih _ σ2 j least (by omega) q1 q2 q3 q4)
            refine zr_aload_n dX1_contentWidth_62 rfl rfl ?_
            refine zr_iload_n dX1_contentWidth_63 rfl rfl ?_
            refine zr_call1 (rest := [.int (2 * (kF c i 12))]) (zs_S (As := [.ref (kA c (rB i)), .int (bI least)]) (by omega) ok_X1_rowWidth q1167 q1168 q53 q1169 rfl rfl (Nat.le_of_ble_eq_true rfl) dX1_contentWidth_64) hC ?_
            refine zr_goto (tgt := 75) dX1_contentWidth_67 (by decide) ?_
            refine zr_iadd dX1_contentWidth_75 ?_
            exact zr_iret rfl rfl dX1_contentWidth_76 (⟨rfl, hX1.le (by rw [KW_succ]; omega)⟩)
        · rw [if_pos h3]
          obtain ⟨_, σ1, ⟨rfl, hX1⟩, hC⟩ := c_X1_blockWidth (d := d - 1) (f := f) (least := least) (by omega) hG hw hS hi (by omega) (fun σ2 j q1 q2 q3 q4 => ih _ σ2 j least (by omega) q1 q2 q3 q4)
          refine zr_iload_n dX1_contentWidth_44 rfl rfl ?_
          refine zr_aload_n dX1_contentWidth_45 rfl rfl ?_
          refine zr_iload_n dX1_contentWidth_46 rfl rfl ?_
          refine zr_call1 (rest := [.int (2 * (kF c i 12))]) (zs_S (As := [.ref (kA c (rB i)), .int (bI least)]) (by omega) ok_X1_blockWidth q1159 q1160 q53 q1161 rfl rfl (Nat.le_of_ble_eq_true rfl) dX1_contentWidth_47) hC ?_
          refine zr_iadd dX1_contentWidth_50 ?_
          exact zr_iret rfl rfl dX1_contentWidth_51 (⟨rfl, hX1.le (by rw [KW_succ]; omega)⟩)
      · rw [if_pos h2]
        obtain ⟨_, σ1, ⟨rfl, hX1⟩, hC⟩ := c_X1_textWidth (d := d - 1) (least := least) (by omega) hG hw hS hi
        refine zr_iload_n dX1_contentWidth_27 rfl rfl ?_
        refine zr_aload_n dX1_contentWidth_28 rfl rfl ?_
        refine zr_iload_n dX1_contentWidth_29 rfl rfl ?_
        refine zr_call1 (rest := [.int (2 * (kF c i 12))]) (zs_S (As := [.ref (kA c (rB i)), .int (bI least)]) (by omega) ok_X1_textWidth q1150 q1151 q53 q1152 rfl rfl (Nat.le_of_ble_eq_true rfl) dX1_contentWidth_30) hC ?_
        refine zr_iadd dX1_contentWidth_33 ?_
        exact zr_iret rfl rfl dX1_contentWidth_34 (⟨rfl, hX1.le (by rw [KW_succ]; omega)⟩)
    · rw [if_pos h1]
      refine zr_aload_n dX1_contentWidth_8 rfl rfl ?_
      refine zr_call1 (rest := []) (zs_V (As := []) (by omega) ok_X2_told q1142 q1143 q1144 q57 q1145 rfl (hS.bx hi) rfl rfl rfl (Nat.le_of_ble_eq_true rfl) dX1_contentWidth_9) (c_X2_told (by omega) hS hi) ?_
      exact zr_iret rfl rfl dX1_contentWidth_12 (⟨rfl, zX.rf _ hw _⟩)
/-- the widths with fuel enough -/
def cW (c : zCS) (i : Nat) (least : Bool) : Int32 := cCW 24 c i least
def cFit (c : zCS) (i : Nat) (w : Int32) : Int32 := if kTold c i ≠ -1 then kTold c i else imax (cW c i true) (imin (cW c i false) w)
theorem c_W {G : zG} {σ : zT} {d : Nat} {c : zCS} {i : Nat} (least : Bool) (hd : 82 ≤ d) (hG : zOk G) (hw : zGd G σ) (hS : CSys G σ c) (hi : i < kN c) : zCall G I_X1_contentWidth d [.ref (kA c (rB i)), .int (bI least)] σ (fun o σ' => o = .inl (some (.int (cW c i least))) ∧ zX G S0 σ σ' (KW 24 c i)) :=
  c_CW hG 24 d σ i least (by omega) hw hS hi (by have := hS.le; omega)
set_option maxHeartbeats 4000000 in
theorem c_X1_fitting {G : zG} {σ : zT} {d : Nat} {c : zCS} {i : Nat} {wd : Int32} (hd : 83 ≤ d) (hG : zOk G) (hw : zGd G σ) (hS : CSys G σ c) (hi : i < kN c) : zCall G I_X1_fitting d [.ref (kA c (rB i)), .int wd] σ ((fun o σ' => o = .inl (some (.int (cFit c i wd))) ∧ zX G S0 σ σ' (2 * KW 24 c i))) := by
  refine zCall_of (ls := [(0, .ref (kA c (rB i))), (1, .int wd)]) (by decide) (Nat.le_of_ble_eq_true rfl) rfl ?_
  unfold cFit
  refine zr_aload_n dX1_fitting_0 rfl rfl ?_
  refine zr_call1 (rest := []) (zs_V (As := []) (by omega) ok_X2_told q1142 q1143 q1144 q57 q1145 rfl (hS.bx hi) rfl rfl rfl (Nat.le_of_ble_eq_true rfl) dX1_fitting_1) (c_X2_told (by omega) hS hi) ?_
  refine zr_iconst (v := (-1)) dX1_fitting_4 (by decide) ?_
  refine zr_icmp_eq (tgt := 15) dX1_fitting_5 (by decide) (fun h1 => ?_) (fun h1 => ?_)
  · rw [if_neg (fun h => h h1)]
    obtain ⟨_, σ1, ⟨rfl, hX1⟩, hC1⟩ := c_W (d := d - 1) true (by omega) hG hw hS hi
    have hS1 := hS.keep0 hw hX1
    obtain ⟨_, σ2, ⟨rfl, hX2⟩, hC2⟩ := c_W (d := d - 1) false (by omega) hG hX1.gd hS1 hi
    refine zr_aload_n dX1_fitting_15 rfl rfl ?_
    refine zr_iconst (v := 1) dX1_fitting_16 (by decide) ?_
    refine zr_call1 (rest := []) (zs_S (As := [.ref (kA c (rB i)), .int 1]) (by omega) ok_X1_contentWidth q1162 q1140 q53 q1141 rfl rfl (Nat.le_of_ble_eq_true rfl) dX1_fitting_17) hC1 ?_
    refine zr_aload_n dX1_fitting_20 rfl rfl ?_
    refine zr_iconst (v := 0) dX1_fitting_21 (by decide) ?_
    refine zr_call1 (rest := [.int (cW c i true)]) (zs_S (As := [.ref (kA c (rB i)), .int 0]) (by omega) ok_X1_contentWidth q1162 q1140 q53 q1141 rfl rfl (Nat.le_of_ble_eq_true rfl) dX1_fitting_22) hC2 ?_
    refine zr_iload_n dX1_fitting_25 rfl rfl ?_
    refine zr_min (by omega) q1516 q431 q60 q432 (Nat.le_of_ble_eq_true rfl) dX1_fitting_26 ?_
    refine zr_max (by omega) q1158 q376 q60 q377 (Nat.le_of_ble_eq_true rfl) dX1_fitting_29 ?_
    exact zr_iret rfl rfl dX1_fitting_32 (⟨rfl, (hX1.trans hX2).le (by omega)⟩)
  · rw [if_pos h1]
    refine zr_aload_n dX1_fitting_8 rfl rfl ?_
    refine zr_call1 (rest := []) (zs_V (As := []) (by omega) ok_X2_told q1142 q1143 q1144 q57 q1145 rfl (hS.bx hi) rfl rfl rfl (Nat.le_of_ble_eq_true rfl) dX1_fitting_9) (c_X2_told (by omega) hS hi) ?_
    refine zr_goto (tgt := 32) dX1_fitting_12 (by decide) ?_
    exact zr_iret rfl rfl dX1_fitting_32 (⟨rfl, zX.rf _ hw _⟩)
