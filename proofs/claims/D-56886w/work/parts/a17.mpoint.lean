/-! ===== the reference: points and sizes (rows printed by tools/p117.py) ===== -/
def mPt (a : Nat) : Nat → zCS → Nat → Int32
  | 0, _, _ => 0
  | f + 1, c, i => match kPar c i with
    | none => 0
    | some p => if kLifted c i = true then mPt a f c (kHold c i) + kF c i (18 + a)
      else mPt a f c p + (kP c i a - (if mCtx c p = true then 0 else kP c p a) + (if kF c i 17 = 114 then kF c i (18 + a) else 0))
theorem mPt_0 {a f : Nat} {c : zCS} {i : Nat} (h : kPar c i = none) : mPt a (f + 1) c i = 0 := by
  show (match kPar c i with | none => 0 | some p => if kLifted c i = true then mPt a f c (kHold c i) + kF c i (18 + a) else mPt a f c p + (kP c i a - (if mCtx c p = true then 0 else kP c p a) + (if kF c i 17 = 114 then kF c i (18 + a) else 0))) = _
  rw [h]
theorem mPt_1 {a f p : Nat} {c : zCS} {i : Nat} (hq : kPar c i = some p) (h : kLifted c i = true) : mPt a (f + 1) c i = mPt a f c (kHold c i) + kF c i (18 + a) := by
  show (match kPar c i with | none => 0 | some p => if kLifted c i = true then mPt a f c (kHold c i) + kF c i (18 + a) else mPt a f c p + (kP c i a - (if mCtx c p = true then 0 else kP c p a) + (if kF c i 17 = 114 then kF c i (18 + a) else 0))) = _
  rw [hq]
  exact if_pos h
theorem mPt_2 {a f p : Nat} {c : zCS} {i : Nat} (hq : kPar c i = some p) (h : kLifted c i = false) : mPt a (f + 1) c i = mPt a f c p + (kP c i a - (if mCtx c p = true then 0 else kP c p a) + (if kF c i 17 = 114 then kF c i (18 + a) else 0)) := by
  show (match kPar c i with | none => 0 | some p => if kLifted c i = true then mPt a f c (kHold c i) + kF c i (18 + a) else mPt a f c p + (kP c i a - (if mCtx c p = true then 0 else kP c p a) + (if kF c i 17 = 114 then kF c i (18 + a) else 0))) = _
  rw [hq]
  exact if_neg (by rw [h]; decide)
def mNow (c : zCS) (n : Int32) : Nat := if btw n 0 (nI (kN c) - 1) = true then (if kLw c = 0 then 2 else 0) else 1
def HPt (G : zG) (f d : Nat) : Prop := ∀ (σ : zT) (c : zCS) (th ct : Int32) (i : Nat), zGd G σ → MSys G σ c th ct → i < kN c → i < f → zCall G I_X4_point d [.ref (kA c (rB i))] σ (fun o σ' => ∃ a, o = .inl (some (.ref a)) ∧ zAt G σ' a (.inr (15, [.int (mPt 0 f c i), .int (mPt 1 f c i)])) ∧ zX G S0 σ σ' (6 * f))
set_option maxHeartbeats 4000000 in
theorem c_X4_point {G : zG} {σ : zT} {d : Nat} {c : zCS} {th ct : Int32} {i f : Nat} (hd : 10 ≤ d) (hw : zGd G σ) (hS : MSys G σ c th ct) (hi : i < kN c) (hf : i < f + 1) (ih : HPt G f (d - 1)) : zCall G I_X4_point d [.ref (kA c (rB i))] σ ((fun o σ' => ∃ a, o = .inl (some (.ref a)) ∧ zAt G σ' a (.inr (15, [.int (mPt 0 (f + 1) c i), .int (mPt 1 (f + 1) c i)])) ∧ zX G S0 σ σ' (6 * (f + 1)))) := by
  refine zCall_of (ls := [(0, .ref (kA c (rB i)))]) (by decide) (Nat.le_of_ble_eq_true rfl) rfl ?_
  have hle := hS.le
  refine zr_aload_n dX4_point_0 rfl rfl ?_
  refine zr_get (k := 2) (v := va_rf (kPr c i)) in_X5 (hS.bx hi) rfl (Nat.le_of_ble_eq_true rfl) q2097 (.inl rfl) rfl dX4_point_1 ?_
  refine zr_ifnonnullR (x := (kPr c i)) (tgt := 17) dX4_point_4 (by decide) (fun a_hp hp => ?_) (fun hp => ?_)
  · obtain ⟨p, hq, hpa⟩ := kPr_some hp
    have hpr : kPr c i = some (kA c (rB p)) := by rw [hp, hpa]
    have hpi := hS.parlt hi hq
    have hbp : zAt G σ (kA c (rB i)) (.inr (5, [.int (nI i), .int (kF c i 2), .ref (kA c (rB p)), .int (kF c i 3), .ref (kA c (rC i)), .ref (kA c (rW i)), .ref (kA c (rL i)), .int (kF c i 6), .int (kF c i 7), .int (kF c i 8), .int (kF c i 9), .int (kF c i 10), .int (kF c i 11), .int (kF c i 12), .int (kF c i 13), .int (kF c i 14), .int (kF c i 15), .int (kF c i 18), .int (kF c i 19), .int (kF c i 20), .int (kF c i 16), .int (kF c i 17), .int (kF c i 22), .int (kF c i 23), .int (kF c i 21), .int (kF c i 25), .int (kP c i 4), .int (kP c i 0), .int (kP c i 1), .int (kP c i 2), .int (kP c i 3)])) := by
      have h9 := hS.bx hi
      unfold mBx at h9
      rw [hpr] at h9
      exact h9
    refine zr_aload_n dX4_point_17 rfl rfl ?_
    refine zr_call1 (rest := []) (zs_V (As := []) (by omega) ok_X5_isLifted q2333 q2334 q2335 q78 q2336 rfl hbp rfl rfl rfl (Nat.le_of_ble_eq_true rfl) dX4_point_18) (c_X5_isLifted hS hi) ?_
    refine zr_ifeqB (tgt := 58) dX4_point_21 (by decide) (fun h1 => ?_) (fun h1 => ?_)
    · obtain ⟨_, σ1, ⟨a1, rfl, hA1, hX1⟩, hC1⟩ := ih σ c th ct p hw hS (by omega) (by omega)
      have hS1 := hS.keep0 hw hX1
      have hb1 := hX1.at hw hbp (fun h => h)
      have hp1 := hS1.bx (show p < kN c by omega)
      refine zr_aload_n dX4_point_58 rfl rfl ?_
      refine zr_get (k := 2) (v := .ref (kA c (rB p))) in_X5 hbp rfl (Nat.le_of_ble_eq_true rfl) q2097 (.inl rfl) rfl dX4_point_59 ?_
      refine zr_call1 (rest := []) (zs_S (As := [.ref (kA c (rB p))]) (by omega) ok_X4_point q2535 q2536 q77 q2537 rfl rfl (Nat.le_of_ble_eq_true rfl) dX4_point_62) hC1 ?_
      refine zr_astore_n (ls2 := [(0, .ref (kA c (rB i))), (1, .ref a1)]) dX4_point_65 rfl (Nat.le_of_ble_eq_true rfl) rfl ?_
      refine zr_aload_n dX4_point_66 rfl rfl ?_
      refine zr_get (k := 2) (v := .ref (kA c (rB p))) in_X5 hb1 rfl (Nat.le_of_ble_eq_true rfl) q2097 (.inl rfl) rfl dX4_point_67 ?_
      refine zr_call1 (rest := []) (zs_V (As := []) (by omega) ok_X5_isContext q2465 q2466 q2467 q78 q2468 rfl hp1 rfl rfl rfl (Nat.le_of_ble_eq_true rfl) dX4_point_70) (c_X5_isContext (by omega) hS1 (by omega)) ?_
      refine zr_istore_n (ls2 := [(0, .ref (kA c (rB i))), (1, .ref a1), (2, .int (bI (mCtx c p)))]) dX4_point_73 rfl (Nat.le_of_ble_eq_true rfl) rfl ?_
      refine zr_aload_n dX4_point_74 rfl rfl ?_
      refine zr_get (k := 21) (v := .int (kF c i 17)) in_X5 hb1 rfl (Nat.le_of_ble_eq_true rfl) q2135 (.inl rfl) rfl dX4_point_75 ?_
      refine zr_bipush (v := 114) dX4_point_78 (by decide) ?_
      refine zr_icmp_ne (tgt := 87) dX4_point_80 (by decide) (fun h2 => ?_) (fun h2 => ?_)
      · refine zr_iconst (v := 0) dX4_point_87 (by decide) ?_
        refine zr_istore_n (ls2 := [(0, .ref (kA c (rB i))), (1, .ref a1), (2, .int (bI (mCtx c p))), (3, .int 0)]) dX4_point_88 rfl (Nat.le_of_ble_eq_true rfl) rfl ?_
        refine zr_aload_n dX4_point_89 rfl rfl ?_
        refine zr_get (k := 27) (v := .int (kP c i 0)) in_X5 hb1 rfl (Nat.le_of_ble_eq_true rfl) q2147 (.inl rfl) rfl dX4_point_90 ?_
        refine zr_iload_n dX4_point_93 rfl rfl ?_
        refine zr_ifeqB (tgt := 101) dX4_point_94 (by decide) (fun h3 => ?_) (fun h3 => ?_)
        · refine zr_aload_n dX4_point_101 rfl rfl ?_
          refine zr_get (k := 2) (v := .ref (kA c (rB p))) in_X5 hb1 rfl (Nat.le_of_ble_eq_true rfl) q2097 (.inl rfl) rfl dX4_point_102 ?_
          refine zr_get (k := 27) (v := .int (kP c p 0)) in_X5 hp1 rfl (Nat.le_of_ble_eq_true rfl) q2147 (.inl rfl) rfl dX4_point_105 ?_
          refine zr_isub dX4_point_108 ?_
          refine zr_iload_n dX4_point_109 rfl rfl ?_
          refine zr_if_eq (tgt := 120) dX4_point_110 (by decide) (fun _ => ?_) (fun h9 => absurd (by decide) h9)
          refine zr_iconst (v := 0) dX4_point_120 (by decide) ?_
          refine zr_iadd dX4_point_121 ?_
          refine zr_istore (ls2 := [(0, .ref (kA c (rB i))), (1, .ref a1), (2, .int (bI (mCtx c p))), (3, .int 0), (4, .int (((kP c i 0) - (kP c p 0)) + 0))]) dX4_point_122 (Nat.le_of_ble_eq_true rfl) rfl ?_
          refine zr_aload_n dX4_point_124 rfl rfl ?_
          refine zr_get (k := 28) (v := .int (kP c i 1)) in_X5 hb1 rfl (Nat.le_of_ble_eq_true rfl) q2149 (.inl rfl) rfl dX4_point_125 ?_
          refine zr_iload_n dX4_point_128 rfl rfl ?_
          refine zr_if_eq (tgt := 136) dX4_point_129 (by decide) (fun _ => ?_) (fun h9 => absurd (by rw [h3]; decide) h9)
          refine zr_aload_n dX4_point_136 rfl rfl ?_
          refine zr_get (k := 2) (v := .ref (kA c (rB p))) in_X5 hb1 rfl (Nat.le_of_ble_eq_true rfl) q2097 (.inl rfl) rfl dX4_point_137 ?_
          refine zr_get (k := 28) (v := .int (kP c p 1)) in_X5 hp1 rfl (Nat.le_of_ble_eq_true rfl) q2149 (.inl rfl) rfl dX4_point_140 ?_
          refine zr_isub dX4_point_143 ?_
          refine zr_iload_n dX4_point_144 rfl rfl ?_
          refine zr_if_eq (tgt := 155) dX4_point_145 (by decide) (fun _ => ?_) (fun h9 => absurd (by decide) h9)
          refine zr_iconst (v := 0) dX4_point_155 (by decide) ?_
          refine zr_iadd dX4_point_156 ?_
          refine zr_istore (ls2 := [(0, .ref (kA c (rB i))), (1, .ref a1), (2, .int (bI (mCtx c p))), (3, .int 0), (4, .int (((kP c i 0) - (kP c p 0)) + 0)), (5, .int (((kP c i 1) - (kP c p 1)) + 0))]) dX4_point_157 (Nat.le_of_ble_eq_true rfl) rfl ?_
          refine zr_new (ci := 15) (0) zt_X15 q2538 q2539 q100 rfl df_X15 dX4_point_159 ?_
          have hXn := zX.new S0 hX1.gd 0 (by omega) (.inr (15, d0_X15)) 2
          have hA2 := hXn.at hX1.gd hA1 (fun h => h)
          have hb2 := hXn.at hX1.gd hb1 (fun h => h)
          refine zr_dup dX4_point_162 rfl ?_
          refine zr_aload_n dX4_point_163 rfl rfl ?_
          refine zr_call1 (rest := [.ref (sZ σ1), .ref (sZ σ1)]) (zs_V (As := []) (by omega) ok_X15_x q2551 q2552 q2553 q100 q2554 rfl hA2 rfl rfl rfl (Nat.le_of_ble_eq_true rfl) dX4_point_164) (c_X15_x hA2) ?_
          refine zr_iload dX4_point_167 rfl ?_
          refine zr_iadd dX4_point_169 ?_
          refine zr_aload_n dX4_point_170 rfl rfl ?_
          refine zr_call1 (rest := [.int ((mPt 0 f c p) + (((kP c i 0) - (kP c p 0)) + 0)), .ref (sZ σ1), .ref (sZ σ1)]) (zs_V (As := []) (by omega) ok_X15_y q2555 q2556 q2557 q100 q2558 rfl hA2 rfl rfl rfl (Nat.le_of_ble_eq_true rfl) dX4_point_171) (c_X15_y hA2) ?_
          refine zr_iload dX4_point_174 rfl ?_
          refine zr_iadd dX4_point_176 ?_
          refine zr_callv (rest := [.ref (sZ σ1)]) (zs_IN (As := [.int ((mPt 0 f c p) + (((kP c i 0) - (kP c p 0)) + 0)), .int ((mPt 1 f c p) + (((kP c i 1) - (kP c p 1)) + 0))]) (by omega) ok_X15_init q2540 q2541 q100 q2542 rfl rfl rfl (Nat.le_of_ble_eq_true rfl) dX4_point_177) (c_X15_init (by omega) (sF_newS _ _ _ _)) ?_
          rw [sNew_up]
          exact zr_aret rfl (.inl ⟨_, rfl⟩) (.inr ⟨_, rfl⟩) dX4_point_180 (⟨_, rfl, by rw [mPt_2 hq h1, if_neg (by rw [h3]; decide), if_neg h2, mPt_2 hq h1, if_neg (by rw [h3]; decide), if_neg h2]; exact .new (sF_newS _ _ _ _), (hX1.trans (zX.new S0 hX1.gd 0 (by omega) _ 2)).le (by omega)⟩)
        · refine zr_iconst (v := 0) dX4_point_97 (by decide) ?_
          refine zr_goto (tgt := 108) dX4_point_98 (by decide) ?_
          refine zr_isub dX4_point_108 ?_
          refine zr_iload_n dX4_point_109 rfl rfl ?_
          refine zr_if_eq (tgt := 120) dX4_point_110 (by decide) (fun _ => ?_) (fun h9 => absurd (by decide) h9)
          refine zr_iconst (v := 0) dX4_point_120 (by decide) ?_
          refine zr_iadd dX4_point_121 ?_
          refine zr_istore (ls2 := [(0, .ref (kA c (rB i))), (1, .ref a1), (2, .int (bI (mCtx c p))), (3, .int 0), (4, .int (((kP c i 0) - 0) + 0))]) dX4_point_122 (Nat.le_of_ble_eq_true rfl) rfl ?_
          refine zr_aload_n dX4_point_124 rfl rfl ?_
          refine zr_get (k := 28) (v := .int (kP c i 1)) in_X5 hb1 rfl (Nat.le_of_ble_eq_true rfl) q2149 (.inl rfl) rfl dX4_point_125 ?_
          refine zr_iload_n dX4_point_128 rfl rfl ?_
          refine zr_if_eq (tgt := 136) dX4_point_129 (by decide) (fun h9 => absurd h9 (by rw [h3]; decide)) (fun _ => ?_)
          refine zr_iconst (v := 0) dX4_point_132 (by decide) ?_
          refine zr_goto (tgt := 143) dX4_point_133 (by decide) ?_
          refine zr_isub dX4_point_143 ?_
          refine zr_iload_n dX4_point_144 rfl rfl ?_
          refine zr_if_eq (tgt := 155) dX4_point_145 (by decide) (fun _ => ?_) (fun h9 => absurd (by decide) h9)
          refine zr_iconst (v := 0) dX4_point_155 (by decide) ?_
          refine zr_iadd dX4_point_156 ?_
          refine zr_istore (ls2 := [(0, .ref (kA c (rB i))), (1, .ref a1), (2, .int (bI (mCtx c p))), (3, .int 0), (4, .int (((kP c i 0) - 0) + 0)), (5, .int (((kP c i 1) - 0) + 0))]) dX4_point_157 (Nat.le_of_ble_eq_true rfl) rfl ?_
          refine zr_new (ci := 15) (0) zt_X15 q2538 q2539 q100 rfl df_X15 dX4_point_159 ?_
          have hXn := zX.new S0 hX1.gd 0 (by omega) (.inr (15, d0_X15)) 2
          have hA2 := hXn.at hX1.gd hA1 (fun h => h)
          have hb2 := hXn.at hX1.gd hb1 (fun h => h)
          refine zr_dup dX4_point_162 rfl ?_
          refine zr_aload_n dX4_point_163 rfl rfl ?_
          refine zr_call1 (rest := [.ref (sZ σ1), .ref (sZ σ1)]) (zs_V (As := []) (by omega) ok_X15_x q2551 q2552 q2553 q100 q2554 rfl hA2 rfl rfl rfl (Nat.le_of_ble_eq_true rfl) dX4_point_164) (c_X15_x hA2) ?_
          refine zr_iload dX4_point_167 rfl ?_
          refine zr_iadd dX4_point_169 ?_
          refine zr_aload_n dX4_point_170 rfl rfl ?_
          refine zr_call1 (rest := [.int ((mPt 0 f c p) + (((kP c i 0) - 0) + 0)), .ref (sZ σ1), .ref (sZ σ1)]) (zs_V (As := []) (by omega) ok_X15_y q2555 q2556 q2557 q100 q2558 rfl hA2 rfl rfl rfl (Nat.le_of_ble_eq_true rfl) dX4_point_171) (c_X15_y hA2) ?_
          refine zr_iload dX4_point_174 rfl ?_
          refine zr_iadd dX4_point_176 ?_
          refine zr_callv (rest := [.ref (sZ σ1)]) (zs_IN (As := [.int ((mPt 0 f c p) + (((kP c i 0) - 0) + 0)), .int ((mPt 1 f c p) + (((kP c i 1) - 0) + 0))]) (by omega) ok_X15_init q2540 q2541 q100 q2542 rfl rfl rfl (Nat.le_of_ble_eq_true rfl) dX4_point_177) (c_X15_init (by omega) (sF_newS _ _ _ _)) ?_
          rw [sNew_up]
          exact zr_aret rfl (.inl ⟨_, rfl⟩) (.inr ⟨_, rfl⟩) dX4_point_180 (⟨_, rfl, by rw [mPt_2 hq h1, if_pos h3, if_neg h2, mPt_2 hq h1, if_pos h3, if_neg h2]; exact .new (sF_newS _ _ _ _), (hX1.trans (zX.new S0 hX1.gd 0 (by omega) _ 2)).le (by omega)⟩)
      · refine zr_iconst (v := 1) dX4_point_83 (by decide) ?_
        refine zr_goto (tgt := 88) dX4_point_84 (by decide) ?_
        refine zr_istore_n (ls2 := [(0, .ref (kA c (rB i))), (1, .ref a1), (2, .int (bI (mCtx c p))), (3, .int 1)]) dX4_point_88 rfl (Nat.le_of_ble_eq_true rfl) rfl ?_
        refine zr_aload_n dX4_point_89 rfl rfl ?_
        refine zr_get (k := 27) (v := .int (kP c i 0)) in_X5 hb1 rfl (Nat.le_of_ble_eq_true rfl) q2147 (.inl rfl) rfl dX4_point_90 ?_
        refine zr_iload_n dX4_point_93 rfl rfl ?_
        refine zr_ifeqB (tgt := 101) dX4_point_94 (by decide) (fun h3 => ?_) (fun h3 => ?_)
        · refine zr_aload_n dX4_point_101 rfl rfl ?_
          refine zr_get (k := 2) (v := .ref (kA c (rB p))) in_X5 hb1 rfl (Nat.le_of_ble_eq_true rfl) q2097 (.inl rfl) rfl dX4_point_102 ?_
          refine zr_get (k := 27) (v := .int (kP c p 0)) in_X5 hp1 rfl (Nat.le_of_ble_eq_true rfl) q2147 (.inl rfl) rfl dX4_point_105 ?_
          refine zr_isub dX4_point_108 ?_
          refine zr_iload_n dX4_point_109 rfl rfl ?_
          refine zr_if_eq (tgt := 120) dX4_point_110 (by decide) (fun h9 => absurd h9 (by decide)) (fun _ => ?_)
          refine zr_aload_n dX4_point_113 rfl rfl ?_
          refine zr_get (k := 17) (v := .int (kF c i 18)) in_X5 hb1 rfl (Nat.le_of_ble_eq_true rfl) q2127 (.inl rfl) rfl dX4_point_114 ?_
          refine zr_goto (tgt := 121) dX4_point_117 (by decide) ?_
          refine zr_iadd dX4_point_121 ?_
          refine zr_istore (ls2 := [(0, .ref (kA c (rB i))), (1, .ref a1), (2, .int (bI (mCtx c p))), (3, .int 1), (4, .int (((kP c i 0) - (kP c p 0)) + (kF c i 18)))]) dX4_point_122 (Nat.le_of_ble_eq_true rfl) rfl ?_
          refine zr_aload_n dX4_point_124 rfl rfl ?_
          refine zr_get (k := 28) (v := .int (kP c i 1)) in_X5 hb1 rfl (Nat.le_of_ble_eq_true rfl) q2149 (.inl rfl) rfl dX4_point_125 ?_
          refine zr_iload_n dX4_point_128 rfl rfl ?_
          refine zr_if_eq (tgt := 136) dX4_point_129 (by decide) (fun _ => ?_) (fun h9 => absurd (by rw [h3]; decide) h9)
          refine zr_aload_n dX4_point_136 rfl rfl ?_
          refine zr_get (k := 2) (v := .ref (kA c (rB p))) in_X5 hb1 rfl (Nat.le_of_ble_eq_true rfl) q2097 (.inl rfl) rfl dX4_point_137 ?_
          refine zr_get (k := 28) (v := .int (kP c p 1)) in_X5 hp1 rfl (Nat.le_of_ble_eq_true rfl) q2149 (.inl rfl) rfl dX4_point_140 ?_
          refine zr_isub dX4_point_143 ?_
          refine zr_iload_n dX4_point_144 rfl rfl ?_
          refine zr_if_eq (tgt := 155) dX4_point_145 (by decide) (fun h9 => absurd h9 (by decide)) (fun _ => ?_)
          refine zr_aload_n dX4_point_148 rfl rfl ?_
          refine zr_get (k := 18) (v := .int (kF c i 19)) in_X5 hb1 rfl (Nat.le_of_ble_eq_true rfl) q2129 (.inl rfl) rfl dX4_point_149 ?_
          refine zr_goto (tgt := 156) dX4_point_152 (by decide) ?_
          refine zr_iadd dX4_point_156 ?_
          refine zr_istore (ls2 := [(0, .ref (kA c (rB i))), (1, .ref a1), (2, .int (bI (mCtx c p))), (3, .int 1), (4, .int (((kP c i 0) - (kP c p 0)) + (kF c i 18))), (5, .int (((kP c i 1) - (kP c p 1)) + (kF c i 19)))]) dX4_point_157 (Nat.le_of_ble_eq_true rfl) rfl ?_
          refine zr_new (ci := 15) (0) zt_X15 q2538 q2539 q100 rfl df_X15 dX4_point_159 ?_
          have hXn := zX.new S0 hX1.gd 0 (by omega) (.inr (15, d0_X15)) 2
          have hA2 := hXn.at hX1.gd hA1 (fun h => h)
          have hb2 := hXn.at hX1.gd hb1 (fun h => h)
          refine zr_dup dX4_point_162 rfl ?_
          refine zr_aload_n dX4_point_163 rfl rfl ?_
          refine zr_call1 (rest := [.ref (sZ σ1), .ref (sZ σ1)]) (zs_V (As := []) (by omega) ok_X15_x q2551 q2552 q2553 q100 q2554 rfl hA2 rfl rfl rfl (Nat.le_of_ble_eq_true rfl) dX4_point_164) (c_X15_x hA2) ?_
          refine zr_iload dX4_point_167 rfl ?_
          refine zr_iadd dX4_point_169 ?_
          refine zr_aload_n dX4_point_170 rfl rfl ?_
          refine zr_call1 (rest := [.int ((mPt 0 f c p) + (((kP c i 0) - (kP c p 0)) + (kF c i 18))), .ref (sZ σ1), .ref (sZ σ1)]) (zs_V (As := []) (by omega) ok_X15_y q2555 q2556 q2557 q100 q2558 rfl hA2 rfl rfl rfl (Nat.le_of_ble_eq_true rfl) dX4_point_171) (c_X15_y hA2) ?_
          refine zr_iload dX4_point_174 rfl ?_
          refine zr_iadd dX4_point_176 ?_
          refine zr_callv (rest := [.ref (sZ σ1)]) (zs_IN (As := [.int ((mPt 0 f c p) + (((kP c i 0) - (kP c p 0)) + (kF c i 18))), .int ((mPt 1 f c p) + (((kP c i 1) - (kP c p 1)) + (kF c i 19)))]) (by omega) ok_X15_init q2540 q2541 q100 q2542 rfl rfl rfl (Nat.le_of_ble_eq_true rfl) dX4_point_177) (c_X15_init (by omega) (sF_newS _ _ _ _)) ?_
          rw [sNew_up]
          exact zr_aret rfl (.inl ⟨_, rfl⟩) (.inr ⟨_, rfl⟩) dX4_point_180 (⟨_, rfl, by rw [mPt_2 hq h1, if_neg (by rw [h3]; decide), if_pos (by first | exact h2 | exact Decidable.not_not.mp h2), mPt_2 hq h1, if_neg (by rw [h3]; decide), if_pos (by first | exact h2 | exact Decidable.not_not.mp h2)]; exact .new (sF_newS _ _ _ _), (hX1.trans (zX.new S0 hX1.gd 0 (by omega) _ 2)).le (by omega)⟩)
        · refine zr_iconst (v := 0) dX4_point_97 (by decide) ?_
          refine zr_goto (tgt := 108) dX4_point_98 (by decide) ?_
          refine zr_isub dX4_point_108 ?_
          refine zr_iload_n dX4_point_109 rfl rfl ?_
          refine zr_if_eq (tgt := 120) dX4_point_110 (by decide) (fun h9 => absurd h9 (by decide)) (fun _ => ?_)
          refine zr_aload_n dX4_point_113 rfl rfl ?_
          refine zr_get (k := 17) (v := .int (kF c i 18)) in_X5 hb1 rfl (Nat.le_of_ble_eq_true rfl) q2127 (.inl rfl) rfl dX4_point_114 ?_
          refine zr_goto (tgt := 121) dX4_point_117 (by decide) ?_
          refine zr_iadd dX4_point_121 ?_
          refine zr_istore (ls2 := [(0, .ref (kA c (rB i))), (1, .ref a1), (2, .int (bI (mCtx c p))), (3, .int 1), (4, .int (((kP c i 0) - 0) + (kF c i 18)))]) dX4_point_122 (Nat.le_of_ble_eq_true rfl) rfl ?_
          refine zr_aload_n dX4_point_124 rfl rfl ?_
          refine zr_get (k := 28) (v := .int (kP c i 1)) in_X5 hb1 rfl (Nat.le_of_ble_eq_true rfl) q2149 (.inl rfl) rfl dX4_point_125 ?_
          refine zr_iload_n dX4_point_128 rfl rfl ?_
          refine zr_if_eq (tgt := 136) dX4_point_129 (by decide) (fun h9 => absurd h9 (by rw [h3]; decide)) (fun _ => ?_)
          refine zr_iconst (v := 0) dX4_point_132 (by decide) ?_
          refine zr_goto (tgt := 143) dX4_point_133 (by decide) ?_
          refine zr_isub dX4_point_143 ?_
          refine zr_iload_n dX4_point_144 rfl rfl ?_
          refine zr_if_eq (tgt := 155) dX4_point_145 (by decide) (fun h9 => absurd h9 (by decide)) (fun _ => ?_)
          refine zr_aload_n dX4_point_148 rfl rfl ?_
          refine zr_get (k := 18) (v := .int (kF c i 19)) in_X5 hb1 rfl (Nat.le_of_ble_eq_true rfl) q2129 (.inl rfl) rfl dX4_point_149 ?_
          refine zr_goto (tgt := 156) dX4_point_152 (by decide) ?_
          refine zr_iadd dX4_point_156 ?_
          refine zr_istore (ls2 := [(0, .ref (kA c (rB i))), (1, .ref a1), (2, .int (bI (mCtx c p))), (3, .int 1), (4, .int (((kP c i 0) - 0) + (kF c i 18))), (5, .int (((kP c i 1) - 0) + (kF c i 19)))]) dX4_point_157 (Nat.le_of_ble_eq_true rfl) rfl ?_
          refine zr_new (ci := 15) (0) zt_X15 q2538 q2539 q100 rfl df_X15 dX4_point_159 ?_
          have hXn := zX.new S0 hX1.gd 0 (by omega) (.inr (15, d0_X15)) 2
          have hA2 := hXn.at hX1.gd hA1 (fun h => h)
          have hb2 := hXn.at hX1.gd hb1 (fun h => h)
          refine zr_dup dX4_point_162 rfl ?_
          refine zr_aload_n dX4_point_163 rfl rfl ?_
          refine zr_call1 (rest := [.ref (sZ σ1), .ref (sZ σ1)]) (zs_V (As := []) (by omega) ok_X15_x q2551 q2552 q2553 q100 q2554 rfl hA2 rfl rfl rfl (Nat.le_of_ble_eq_true rfl) dX4_point_164) (c_X15_x hA2) ?_
          refine zr_iload dX4_point_167 rfl ?_
          refine zr_iadd dX4_point_169 ?_
          refine zr_aload_n dX4_point_170 rfl rfl ?_
          refine zr_call1 (rest := [.int ((mPt 0 f c p) + (((kP c i 0) - 0) + (kF c i 18))), .ref (sZ σ1), .ref (sZ σ1)]) (zs_V (As := []) (by omega) ok_X15_y q2555 q2556 q2557 q100 q2558 rfl hA2 rfl rfl rfl (Nat.le_of_ble_eq_true rfl) dX4_point_171) (c_X15_y hA2) ?_
          refine zr_iload dX4_point_174 rfl ?_
          refine zr_iadd dX4_point_176 ?_
          refine zr_callv (rest := [.ref (sZ σ1)]) (zs_IN (As := [.int ((mPt 0 f c p) + (((kP c i 0) - 0) + (kF c i 18))), .int ((mPt 1 f c p) + (((kP c i 1) - 0) + (kF c i 19)))]) (by omega) ok_X15_init q2540 q2541 q100 q2542 rfl rfl rfl (Nat.le_of_ble_eq_true rfl) dX4_point_177) (c_X15_init (by omega) (sF_newS _ _ _ _)) ?_
          rw [sNew_up]
          exact zr_aret rfl (.inl ⟨_, rfl⟩) (.inr ⟨_, rfl⟩) dX4_point_180 (⟨_, rfl, by rw [mPt_2 hq h1, if_pos h3, if_pos (by first | exact h2 | exact Decidable.not_not.mp h2), mPt_2 hq h1, if_pos h3, if_pos (by first | exact h2 | exact Decidable.not_not.mp h2)]; exact .new (sF_newS _ _ _ _), (hX1.trans (zX.new S0 hX1.gd 0 (by omega) _ 2)).le (by omega)⟩)
    · have hroot : kRoot c i = false := by unfold kRoot; rw [hq]; rfl
      have hho := kHold_lt hS.k hi hroot
      obtain ⟨_, σ1, ⟨a1, rfl, hA1, hX1⟩, hC1⟩ := ih σ c th ct (kHold c i) hw hS (by omega) (by omega)
      have hb1 := hX1.at hw hbp (fun h => h)
      refine zr_aload_n dX4_point_24 rfl rfl ?_
      refine zr_call1 (rest := []) (zs_S (As := [.ref (kA c (rB i))]) (by omega) ok_X4_around q2524 q2525 q77 q2526 rfl rfl (Nat.le_of_ble_eq_true rfl) dX4_point_25) (c_X4_around hS hi hq) ?_
      refine zr_call1 (rest := []) (zs_S (As := [.ref (kA c (rB (kHold c i)))]) (by omega) ok_X4_point q2535 q2536 q77 q2537 rfl rfl (Nat.le_of_ble_eq_true rfl) dX4_point_28) hC1 ?_
      refine zr_astore_n (ls2 := [(0, .ref (kA c (rB i))), (1, .ref a1)]) dX4_point_31 rfl (Nat.le_of_ble_eq_true rfl) rfl ?_
      refine zr_new (ci := 15) (0) zt_X15 q2538 q2539 q100 rfl df_X15 dX4_point_32 ?_
      have hXn := zX.new S0 hX1.gd 0 (by omega) (.inr (15, d0_X15)) 2
      have hA2 := hXn.at hX1.gd hA1 (fun h => h)
      have hb2 := hXn.at hX1.gd hb1 (fun h => h)
      refine zr_dup dX4_point_35 rfl ?_
      refine zr_aload_n dX4_point_36 rfl rfl ?_
      refine zr_call1 (rest := [.ref (sZ σ1), .ref (sZ σ1)]) (zs_V (As := []) (by omega) ok_X15_x q2551 q2552 q2553 q100 q2554 rfl hA2 rfl rfl rfl (Nat.le_of_ble_eq_true rfl) dX4_point_37) (c_X15_x hA2) ?_
      refine zr_aload_n dX4_point_40 rfl rfl ?_
      refine zr_get (k := 17) (v := .int (kF c i 18)) in_X5 hb2 rfl (Nat.le_of_ble_eq_true rfl) q2127 (.inl rfl) rfl dX4_point_41 ?_
      refine zr_iadd dX4_point_44 ?_
      refine zr_aload_n dX4_point_45 rfl rfl ?_
      refine zr_call1 (rest := [.int ((mPt 0 f c (kHold c i)) + (kF c i 18)), .ref (sZ σ1), .ref (sZ σ1)]) (zs_V (As := []) (by omega) ok_X15_y q2555 q2556 q2557 q100 q2558 rfl hA2 rfl rfl rfl (Nat.le_of_ble_eq_true rfl) dX4_point_46) (c_X15_y hA2) ?_
      refine zr_aload_n dX4_point_49 rfl rfl ?_
      refine zr_get (k := 18) (v := .int (kF c i 19)) in_X5 hb2 rfl (Nat.le_of_ble_eq_true rfl) q2129 (.inl rfl) rfl dX4_point_50 ?_
      refine zr_iadd dX4_point_53 ?_
      refine zr_callv (rest := [.ref (sZ σ1)]) (zs_IN (As := [.int ((mPt 0 f c (kHold c i)) + (kF c i 18)), .int ((mPt 1 f c (kHold c i)) + (kF c i 19))]) (by omega) ok_X15_init q2540 q2541 q100 q2542 rfl rfl rfl (Nat.le_of_ble_eq_true rfl) dX4_point_54) (c_X15_init (by omega) (sF_newS _ _ _ _)) ?_
      rw [sNew_up]
      exact zr_aret rfl (.inl ⟨_, rfl⟩) (.inr ⟨_, rfl⟩) dX4_point_57 (⟨_, rfl, by rw [mPt_1 hq h1, mPt_1 hq h1]; exact .new (sF_newS _ _ _ _), (hX1.trans (zX.new S0 hX1.gd 0 (by omega) _ 2)).le (by omega)⟩)
  · have hq := kPr_none hp
    refine zr_new (ci := 15) (0) zt_X15 q2538 q2539 q100 rfl df_X15 dX4_point_7 ?_
    refine zr_dup dX4_point_10 rfl ?_
    refine zr_iconst (v := 0) dX4_point_11 (by decide) ?_
    refine zr_iconst (v := 0) dX4_point_12 (by decide) ?_
    refine zr_callv (rest := [.ref (sZ σ)]) (zs_IN (As := [.int 0, .int 0]) (by omega) ok_X15_init q2540 q2541 q100 q2542 rfl rfl rfl (Nat.le_of_ble_eq_true rfl) dX4_point_13) (c_X15_init (by omega) (sF_newS _ _ _ _)) ?_
    rw [sNew_up]
    exact zr_aret rfl (.inl ⟨_, rfl⟩) (.inr ⟨_, rfl⟩) dX4_point_16 (⟨_, rfl, by rw [mPt_0 hq, mPt_0 hq]; exact .new (sF_newS _ _ _ _), (zX.new S0 hw 0 (by omega) _ 2).le (by omega)⟩)
theorem c_mpoint_all {G : zG} : ∀ (f d : Nat), 10 + 4 * f ≤ d → HPt G f d := by
  intro f
  induction f with
  | zero => intro d _ σ c th ct i _ _ _ h; omega
  | succ f ih => intro d hd σ c th ct i hw hS hi hf; exact c_X4_point (by omega) hw hS hi hf (ih (d - 1) (by omega))
set_option maxHeartbeats 4000000 in
theorem c_X4_wrongNow {G : zG} {σ : zT} {d : Nat} {c : zCS} {th ct : Int32} {n : Int32} (hd : 5 ≤ d) (hS : MSys G σ c th ct) : zC G I_X4_wrongNow d [.ref (kA c 1), .int n] σ (.inl (some (.int (nI (mNow c n))))) (sUp σ (kA c 1) (.inr (4, mO c (nI (mNow c n)) ct))) := by
  refine zCall.exact (zCall_of (ls := [(0, .ref (kA c 1)), (1, .int n)]) (by decide) (Nat.le_of_ble_eq_true rfl) rfl ?_)
  refine zr_aload_n dX4_wrongNow_0 rfl rfl ?_
  refine zr_aload_n dX4_wrongNow_1 rfl rfl ?_
  refine zr_iload_n dX4_wrongNow_2 rfl rfl ?_
  refine zr_call1 (rest := [.ref (kA c 1)]) (zs_V (As := [.int n]) (by omega) ok_X4_isBox q2242 q2244 qs36 q77 q2245 rfl hS.one rfl rfl rfl (Nat.le_of_ble_eq_true rfl) dX4_wrongNow_3) (c_X4_isBox (by omega) hS) ?_
  refine zr_ifneB (tgt := 13) dX4_wrongNow_6 (by decide) (fun h1 => ?_) (fun h1 => ?_)
  · refine zr_aload_n dX4_wrongNow_13 rfl rfl ?_
    refine zr_get (k := 4) (v := .int (kLw c)) in_X4 hS.one rfl (Nat.le_of_ble_eq_true rfl) q2222 (.inl rfl) rfl dX4_wrongNow_14 ?_
    refine zr_if_ne (tgt := 24) dX4_wrongNow_17 (by decide) (fun h2 => ?_) (fun h2 => ?_)
    · refine zr_iconst (v := 0) dX4_wrongNow_24 (by decide) ?_
      rw [show mNow c n = 0 from by unfold mNow; rw [if_pos h1, if_neg h2]; try rfl]
      refine zr_put (k := 1) (fs' := (mO c (nI 0) ct)) zt_X4 hS.1.1 rfl (Nat.le_of_ble_eq_true rfl) q2219 (.inl rfl) rfl rfl rfl (Nat.le_of_ble_eq_true rfl) rfl dX4_wrongNow_25 ?_
      refine zr_aload_n dX4_wrongNow_28 rfl rfl ?_
      refine zr_get (k := 1) (v := .int (nI 0)) in_X4 (.new (sF_upS _ _ _)) rfl (Nat.le_of_ble_eq_true rfl) q2219 (.inl rfl) rfl dX4_wrongNow_29 ?_
      exact zr_iret rfl rfl dX4_wrongNow_32 (⟨rfl, rfl⟩)
    · refine zr_iconst (v := 2) dX4_wrongNow_20 (by decide) ?_
      refine zr_goto (tgt := 25) dX4_wrongNow_21 (by decide) ?_
      rw [show mNow c n = 2 from by unfold mNow; rw [if_pos h1, if_pos (by first | exact h2 | exact Decidable.not_not.mp h2)]; try rfl]
      refine zr_put (k := 1) (fs' := (mO c (nI 2) ct)) zt_X4 hS.1.1 rfl (Nat.le_of_ble_eq_true rfl) q2219 (.inl rfl) rfl rfl rfl (Nat.le_of_ble_eq_true rfl) rfl dX4_wrongNow_25 ?_
      refine zr_aload_n dX4_wrongNow_28 rfl rfl ?_
      refine zr_get (k := 1) (v := .int (nI 2)) in_X4 (.new (sF_upS _ _ _)) rfl (Nat.le_of_ble_eq_true rfl) q2219 (.inl rfl) rfl dX4_wrongNow_29 ?_
      exact zr_iret rfl rfl dX4_wrongNow_32 (⟨rfl, rfl⟩)
  · refine zr_iconst (v := 1) dX4_wrongNow_9 (by decide) ?_
    refine zr_goto (tgt := 25) dX4_wrongNow_10 (by decide) ?_
    rw [show mNow c n = 1 from by unfold mNow; rw [if_neg (by rw [h1]; decide)]; try rfl]
    refine zr_put (k := 1) (fs' := (mO c (nI 1) ct)) zt_X4 hS.1.1 rfl (Nat.le_of_ble_eq_true rfl) q2219 (.inl rfl) rfl rfl rfl (Nat.le_of_ble_eq_true rfl) rfl dX4_wrongNow_25 ?_
    refine zr_aload_n dX4_wrongNow_28 rfl rfl ?_
    refine zr_get (k := 1) (v := .int (nI 1)) in_X4 (.new (sF_upS _ _ _)) rfl (Nat.le_of_ble_eq_true rfl) q2219 (.inl rfl) rfl dX4_wrongNow_29 ?_
    exact zr_iret rfl rfl dX4_wrongNow_32 (⟨rfl, rfl⟩)
def mGet (c : zCS) (n : Int32) (g : Nat → Int32) : Nat × Value := (mNow c n, .int (g n.toNatClampNeg))
set_option maxHeartbeats 4000000 in
theorem c_X4_widthOf {G : zG} {σ : zT} {d : Nat} {c : zCS} {th ct : Int32} {n : Int32} (hd : 120 ≤ d) (hG : zOk G) (hw : zGd G σ) (hS : MSys G σ c th ct) : zCall G I_X4_widthOf d [.ref (kA c 1), .int n] σ ((fun o σ' => oM o (mGet c n (fun i => kP c i 2)) ∧ MSys G σ' c (nI (mGet c n (fun i => kP c i 2)).1) ct ∧ zX G SM σ σ' 10)) := by
  refine zCall_of (ls := [(0, .ref (kA c 1)), (1, .int n)]) (by decide) (Nat.le_of_ble_eq_true rfl) rfl ?_
  have hle := hS.le
  refine zr_aload_n dX4_widthOf_0 rfl rfl ?_
  refine zr_iload_n dX4_widthOf_1 rfl rfl ?_
  refine zr_call1 (rest := []) (zs_V (As := [.int n]) (by omega) ok_X4_wrongNow q2531 q2533 qs47 q77 q2534 rfl hS.one rfl rfl rfl (Nat.le_of_ble_eq_true rfl) dX4_widthOf_2) (c_X4_wrongNow (n := n) (by omega) hS) ?_
  have hX1 := hS.XO hw (mO c (nI (mNow c n)) ct)
  have hS1 := hS.setT (nI (mNow c n))
  generalize hσ1 : sUp σ (kA c 1) (.inr (4, mO c (nI (mNow c n)) ct)) = σ1 at hX1 hS1 ⊢
  by_cases hb : btw n 0 (nI (kN c) - 1) = true
  · by_cases hl : kLw c = 0
    · have e9 : mNow c n = 2 := by unfold mNow; rw [if_pos hb, if_pos hl]; try rfl
      rw [show mGet c n (fun i => kP c i 2) = (2, .int ((fun i => kP c i 2) n.toNatClampNeg)) from by unfold mGet; rw [e9]]
      rw [e9] at hS1 ⊢
      refine zr_if_le (tgt := 12) dX4_widthOf_5 (by decide) (fun h9 => absurd h9 (by decide)) (fun _ => ?_)
      refine zr_iconst (v := 0) dX4_widthOf_8 (by decide) ?_
      refine zr_goto (tgt := 26) dX4_widthOf_9 (by decide) ?_
      exact zr_iret rfl rfl dX4_widthOf_26 (⟨⟨_, rfl, fun h => by cases h⟩, hS1, hX1.le (by omega)⟩)
    · have e9 : mNow c n = 0 := by unfold mNow; rw [if_pos hb, if_neg hl]
      rw [show mGet c n (fun i => kP c i 2) = (0, .int ((fun i => kP c i 2) n.toNatClampNeg)) from by unfold mGet; rw [e9]]
      rw [e9] at hS1 ⊢
      obtain ⟨i, hi, rfl⟩ := btw_idx (by omega) hb
      have hcl : (nI i).toNatClampNeg = i := nI_clamp (by omega)
      have hone1 := hS1.one
      rw [hcl]
      refine zr_if_le (tgt := 12) dX4_widthOf_5 (by decide) (fun _ => ?_) (fun h9 => absurd (by decide) h9)
      obtain ⟨fl_hfl, hfl⟩ := hS1.bxL.A
      refine zr_aload_n dX4_widthOf_12 rfl rfl ?_
      refine zr_get (k := 0) (v := .ref (kA c 2)) in_X4 hone1 rfl (Nat.le_of_ble_eq_true rfl) q2218 (.inl rfl) rfl dX4_widthOf_13 ?_
      refine zr_iload_n dX4_widthOf_16 rfl rfl ?_
      refine zr_call1 (rest := []) (zs_V (As := [.int (nI i)]) (by omega) ok_J2_get q2250 q959 q2840 q56 q960 rfl hfl rfl rfl rfl (Nat.le_of_ble_eq_true rfl) dX4_widthOf_17) (c_J2_get (by omega) hG hS1.bxL (MSys.bxa hi)) ?_
      refine zr_castS (hS1.bx hi) rfl q2084 dX4_widthOf_20 ?_
      refine zr_get (k := 29) (v := .int (kP c i 2)) in_X5 (hS1.bx hi) rfl (Nat.le_of_ble_eq_true rfl) q2151 (.inl rfl) rfl dX4_widthOf_23 ?_
      exact zr_iret rfl rfl dX4_widthOf_26 (⟨⟨_, rfl, fun _ => rfl⟩, hS1, hX1.le (by omega)⟩)
  · have e9 : mNow c n = 1 := by unfold mNow; rw [if_neg hb]; try rfl
    rw [show mGet c n (fun i => kP c i 2) = (1, .int ((fun i => kP c i 2) n.toNatClampNeg)) from by unfold mGet; rw [e9]]
    rw [e9] at hS1 ⊢
    refine zr_if_le (tgt := 12) dX4_widthOf_5 (by decide) (fun h9 => absurd h9 (by decide)) (fun _ => ?_)
    refine zr_iconst (v := 0) dX4_widthOf_8 (by decide) ?_
    refine zr_goto (tgt := 26) dX4_widthOf_9 (by decide) ?_
    exact zr_iret rfl rfl dX4_widthOf_26 (⟨⟨_, rfl, fun h => by cases h⟩, hS1, hX1.le (by omega)⟩)
set_option maxHeartbeats 4000000 in
theorem c_X4_heightOf {G : zG} {σ : zT} {d : Nat} {c : zCS} {th ct : Int32} {n : Int32} (hd : 120 ≤ d) (hG : zOk G) (hw : zGd G σ) (hS : MSys G σ c th ct) : zCall G I_X4_heightOf d [.ref (kA c 1), .int n] σ ((fun o σ' => oM o (mGet c n (fun i => kP c i 3)) ∧ MSys G σ' c (nI (mGet c n (fun i => kP c i 3)).1) ct ∧ zX G SM σ σ' 10)) := by
  refine zCall_of (ls := [(0, .ref (kA c 1)), (1, .int n)]) (by decide) (Nat.le_of_ble_eq_true rfl) rfl ?_
  have hle := hS.le
  refine zr_aload_n dX4_heightOf_0 rfl rfl ?_
  refine zr_iload_n dX4_heightOf_1 rfl rfl ?_
  refine zr_call1 (rest := []) (zs_V (As := [.int n]) (by omega) ok_X4_wrongNow q2531 q2533 qs47 q77 q2534 rfl hS.one rfl rfl rfl (Nat.le_of_ble_eq_true rfl) dX4_heightOf_2) (c_X4_wrongNow (n := n) (by omega) hS) ?_
  have hX1 := hS.XO hw (mO c (nI (mNow c n)) ct)
  have hS1 := hS.setT (nI (mNow c n))
  generalize hσ1 : sUp σ (kA c 1) (.inr (4, mO c (nI (mNow c n)) ct)) = σ1 at hX1 hS1 ⊢
  by_cases hb : btw n 0 (nI (kN c) - 1) = true
  · by_cases hl : kLw c = 0
    · have e9 : mNow c n = 2 := by unfold mNow; rw [if_pos hb, if_pos hl]; try rfl
      rw [show mGet c n (fun i => kP c i 3) = (2, .int ((fun i => kP c i 3) n.toNatClampNeg)) from by unfold mGet; rw [e9]]
      rw [e9] at hS1 ⊢
      refine zr_if_le (tgt := 12) dX4_heightOf_5 (by decide) (fun h9 => absurd h9 (by decide)) (fun _ => ?_)
      refine zr_iconst (v := 0) dX4_heightOf_8 (by decide) ?_
      refine zr_goto (tgt := 26) dX4_heightOf_9 (by decide) ?_
      exact zr_iret rfl rfl dX4_heightOf_26 (⟨⟨_, rfl, fun h => by cases h⟩, hS1, hX1.le (by omega)⟩)
    · have e9 : mNow c n = 0 := by unfold mNow; rw [if_pos hb, if_neg hl]
      rw [show mGet c n (fun i => kP c i 3) = (0, .int ((fun i => kP c i 3) n.toNatClampNeg)) from by unfold mGet; rw [e9]]
      rw [e9] at hS1 ⊢
      obtain ⟨i, hi, rfl⟩ := btw_idx (by omega) hb
      have hcl : (nI i).toNatClampNeg = i := nI_clamp (by omega)
      have hone1 := hS1.one
      rw [hcl]
      refine zr_if_le (tgt := 12) dX4_heightOf_5 (by decide) (fun _ => ?_) (fun h9 => absurd (by decide) h9)
      obtain ⟨fl_hfl, hfl⟩ := hS1.bxL.A
      refine zr_aload_n dX4_heightOf_12 rfl rfl ?_
      refine zr_get (k := 0) (v := .ref (kA c 2)) in_X4 hone1 rfl (Nat.le_of_ble_eq_true rfl) q2218 (.inl rfl) rfl dX4_heightOf_13 ?_
      refine zr_iload_n dX4_heightOf_16 rfl rfl ?_
      refine zr_call1 (rest := []) (zs_V (As := [.int (nI i)]) (by omega) ok_J2_get q2250 q959 q2840 q56 q960 rfl hfl rfl rfl rfl (Nat.le_of_ble_eq_true rfl) dX4_heightOf_17) (c_J2_get (by omega) hG hS1.bxL (MSys.bxa hi)) ?_
      refine zr_castS (hS1.bx hi) rfl q2084 dX4_heightOf_20 ?_
      refine zr_get (k := 30) (v := .int (kP c i 3)) in_X5 (hS1.bx hi) rfl (Nat.le_of_ble_eq_true rfl) q2153 (.inl rfl) rfl dX4_heightOf_23 ?_
      exact zr_iret rfl rfl dX4_heightOf_26 (⟨⟨_, rfl, fun _ => rfl⟩, hS1, hX1.le (by omega)⟩)
  · have e9 : mNow c n = 1 := by unfold mNow; rw [if_neg hb]; try rfl
    rw [show mGet c n (fun i => kP c i 3) = (1, .int ((fun i => kP c i 3) n.toNatClampNeg)) from by unfold mGet; rw [e9]]
    rw [e9] at hS1 ⊢
    refine zr_if_le (tgt := 12) dX4_heightOf_5 (by decide) (fun h9 => absurd h9 (by decide)) (fun _ => ?_)
    refine zr_iconst (v := 0) dX4_heightOf_8 (by decide) ?_
    refine zr_goto (tgt := 26) dX4_heightOf_9 (by decide) ?_
    exact zr_iret rfl rfl dX4_heightOf_26 (⟨⟨_, rfl, fun h => by cases h⟩, hS1, hX1.le (by omega)⟩)
set_option maxHeartbeats 4000000 in
theorem c_X4_xOf {G : zG} {σ : zT} {d : Nat} {c : zCS} {th ct : Int32} {n : Int32} (hd : 120 ≤ d) (hG : zOk G) (hw : zGd G σ) (hS : MSys G σ c th ct) : zCall G I_X4_xOf d [.ref (kA c 1), .int n] σ ((fun o σ' => oM o (mGet c n (fun i => mPt 0 24 c i)) ∧ MSys G σ' c (nI (mGet c n (fun i => mPt 0 24 c i)).1) ct ∧ zX G SM σ σ' 160)) := by
  refine zCall_of (ls := [(0, .ref (kA c 1)), (1, .int n)]) (by decide) (Nat.le_of_ble_eq_true rfl) rfl ?_
  have hle := hS.le
  refine zr_aload_n dX4_xOf_0 rfl rfl ?_
  refine zr_iload_n dX4_xOf_1 rfl rfl ?_
  refine zr_call1 (rest := []) (zs_V (As := [.int n]) (by omega) ok_X4_wrongNow q2531 q2533 qs47 q77 q2534 rfl hS.one rfl rfl rfl (Nat.le_of_ble_eq_true rfl) dX4_xOf_2) (c_X4_wrongNow (n := n) (by omega) hS) ?_
  have hX1 := hS.XO hw (mO c (nI (mNow c n)) ct)
  have hS1 := hS.setT (nI (mNow c n))
  generalize hσ1 : sUp σ (kA c 1) (.inr (4, mO c (nI (mNow c n)) ct)) = σ1 at hX1 hS1 ⊢
  by_cases hb : btw n 0 (nI (kN c) - 1) = true
  · by_cases hl : kLw c = 0
    · have e9 : mNow c n = 2 := by unfold mNow; rw [if_pos hb, if_pos hl]; try rfl
      rw [show mGet c n (fun i => mPt 0 24 c i) = (2, .int ((fun i => mPt 0 24 c i) n.toNatClampNeg)) from by unfold mGet; rw [e9]]
      rw [e9] at hS1 ⊢
      refine zr_if_le (tgt := 12) dX4_xOf_5 (by decide) (fun h9 => absurd h9 (by decide)) (fun _ => ?_)
      refine zr_iconst (v := 0) dX4_xOf_8 (by decide) ?_
      refine zr_goto (tgt := 29) dX4_xOf_9 (by decide) ?_
      exact zr_iret rfl rfl dX4_xOf_29 (⟨⟨_, rfl, fun h => by cases h⟩, hS1, hX1.le (by omega)⟩)
    · have e9 : mNow c n = 0 := by unfold mNow; rw [if_pos hb, if_neg hl]
      rw [show mGet c n (fun i => mPt 0 24 c i) = (0, .int ((fun i => mPt 0 24 c i) n.toNatClampNeg)) from by unfold mGet; rw [e9]]
      rw [e9] at hS1 ⊢
      obtain ⟨i, hi, rfl⟩ := btw_idx (by omega) hb
      have hcl : (nI i).toNatClampNeg = i := nI_clamp (by omega)
      have hone1 := hS1.one
      rw [hcl]
      refine zr_if_le (tgt := 12) dX4_xOf_5 (by decide) (fun _ => ?_) (fun h9 => absurd (by decide) h9)
      obtain ⟨fl_hfl, hfl⟩ := hS1.bxL.A
      refine zr_aload_n dX4_xOf_12 rfl rfl ?_
      refine zr_get (k := 0) (v := .ref (kA c 2)) in_X4 hone1 rfl (Nat.le_of_ble_eq_true rfl) q2218 (.inl rfl) rfl dX4_xOf_13 ?_
      refine zr_iload_n dX4_xOf_16 rfl rfl ?_
      refine zr_call1 (rest := []) (zs_V (As := [.int (nI i)]) (by omega) ok_J2_get q2250 q959 q2840 q56 q960 rfl hfl rfl rfl rfl (Nat.le_of_ble_eq_true rfl) dX4_xOf_17) (c_J2_get (by omega) hG hS1.bxL (MSys.bxa hi)) ?_
      refine zr_castS (hS1.bx hi) rfl q2084 dX4_xOf_20 ?_
      obtain ⟨_, σ2, ⟨a1, rfl, hA, hX2⟩, hC⟩ := c_mpoint_all (G := G) 24 (d - 1) (by omega) σ1 c (nI 0) ct i hX1.gd hS1 hi (by omega)
      refine zr_call1 (rest := []) (zs_S (As := [.ref (kA c (rB i))]) (by omega) ok_X4_point q2535 q2536 q77 q2537 rfl rfl (Nat.le_of_ble_eq_true rfl) dX4_xOf_23) hC ?_
      refine zr_call1 (rest := []) (zs_V (As := []) (by omega) ok_X15_x q2551 q2552 q2553 q100 q2554 rfl hA rfl rfl rfl (Nat.le_of_ble_eq_true rfl) dX4_xOf_26) (c_X15_x hA) ?_
      exact zr_iret rfl rfl dX4_xOf_29 (⟨⟨_, rfl, fun _ => rfl⟩, hS1.keep0 hX1.gd hX2, (hX1.trans hX2.in).le (by omega)⟩)
  · have e9 : mNow c n = 1 := by unfold mNow; rw [if_neg hb]; try rfl
    rw [show mGet c n (fun i => mPt 0 24 c i) = (1, .int ((fun i => mPt 0 24 c i) n.toNatClampNeg)) from by unfold mGet; rw [e9]]
    rw [e9] at hS1 ⊢
    refine zr_if_le (tgt := 12) dX4_xOf_5 (by decide) (fun h9 => absurd h9 (by decide)) (fun _ => ?_)
    refine zr_iconst (v := 0) dX4_xOf_8 (by decide) ?_
    refine zr_goto (tgt := 29) dX4_xOf_9 (by decide) ?_
    exact zr_iret rfl rfl dX4_xOf_29 (⟨⟨_, rfl, fun h => by cases h⟩, hS1, hX1.le (by omega)⟩)
set_option maxHeartbeats 4000000 in
theorem c_X4_yOf {G : zG} {σ : zT} {d : Nat} {c : zCS} {th ct : Int32} {n : Int32} (hd : 120 ≤ d) (hG : zOk G) (hw : zGd G σ) (hS : MSys G σ c th ct) : zCall G I_X4_yOf d [.ref (kA c 1), .int n] σ ((fun o σ' => oM o (mGet c n (fun i => mPt 1 24 c i)) ∧ MSys G σ' c (nI (mGet c n (fun i => mPt 1 24 c i)).1) ct ∧ zX G SM σ σ' 160)) := by
  refine zCall_of (ls := [(0, .ref (kA c 1)), (1, .int n)]) (by decide) (Nat.le_of_ble_eq_true rfl) rfl ?_
  have hle := hS.le
  refine zr_aload_n dX4_yOf_0 rfl rfl ?_
  refine zr_iload_n dX4_yOf_1 rfl rfl ?_
  refine zr_call1 (rest := []) (zs_V (As := [.int n]) (by omega) ok_X4_wrongNow q2531 q2533 qs47 q77 q2534 rfl hS.one rfl rfl rfl (Nat.le_of_ble_eq_true rfl) dX4_yOf_2) (c_X4_wrongNow (n := n) (by omega) hS) ?_
  have hX1 := hS.XO hw (mO c (nI (mNow c n)) ct)
  have hS1 := hS.setT (nI (mNow c n))
  generalize hσ1 : sUp σ (kA c 1) (.inr (4, mO c (nI (mNow c n)) ct)) = σ1 at hX1 hS1 ⊢
  by_cases hb : btw n 0 (nI (kN c) - 1) = true
  · by_cases hl : kLw c = 0
    · have e9 : mNow c n = 2 := by unfold mNow; rw [if_pos hb, if_pos hl]; try rfl
      rw [show mGet c n (fun i => mPt 1 24 c i) = (2, .int ((fun i => mPt 1 24 c i) n.toNatClampNeg)) from by unfold mGet; rw [e9]]
      rw [e9] at hS1 ⊢
      refine zr_if_le (tgt := 12) dX4_yOf_5 (by decide) (fun h9 => absurd h9 (by decide)) (fun _ => ?_)
      refine zr_iconst (v := 0) dX4_yOf_8 (by decide) ?_
      refine zr_goto (tgt := 29) dX4_yOf_9 (by decide) ?_
      exact zr_iret rfl rfl dX4_yOf_29 (⟨⟨_, rfl, fun h => by cases h⟩, hS1, hX1.le (by omega)⟩)
    · have e9 : mNow c n = 0 := by unfold mNow; rw [if_pos hb, if_neg hl]
      rw [show mGet c n (fun i => mPt 1 24 c i) = (0, .int ((fun i => mPt 1 24 c i) n.toNatClampNeg)) from by unfold mGet; rw [e9]]
      rw [e9] at hS1 ⊢
      obtain ⟨i, hi, rfl⟩ := btw_idx (by omega) hb
      have hcl : (nI i).toNatClampNeg = i := nI_clamp (by omega)
      have hone1 := hS1.one
      rw [hcl]
      refine zr_if_le (tgt := 12) dX4_yOf_5 (by decide) (fun _ => ?_) (fun h9 => absurd (by decide) h9)
      obtain ⟨fl_hfl, hfl⟩ := hS1.bxL.A
      refine zr_aload_n dX4_yOf_12 rfl rfl ?_
      refine zr_get (k := 0) (v := .ref (kA c 2)) in_X4 hone1 rfl (Nat.le_of_ble_eq_true rfl) q2218 (.inl rfl) rfl dX4_yOf_13 ?_
      refine zr_iload_n dX4_yOf_16 rfl rfl ?_
      refine zr_call1 (rest := []) (zs_V (As := [.int (nI i)]) (by omega) ok_J2_get q2250 q959 q2840 q56 q960 rfl hfl rfl rfl rfl (Nat.le_of_ble_eq_true rfl) dX4_yOf_17) (c_J2_get (by omega) hG hS1.bxL (MSys.bxa hi)) ?_
      refine zr_castS (hS1.bx hi) rfl q2084 dX4_yOf_20 ?_
      obtain ⟨_, σ2, ⟨a1, rfl, hA, hX2⟩, hC⟩ := c_mpoint_all (G := G) 24 (d - 1) (by omega) σ1 c (nI 0) ct i hX1.gd hS1 hi (by omega)
      refine zr_call1 (rest := []) (zs_S (As := [.ref (kA c (rB i))]) (by omega) ok_X4_point q2535 q2536 q77 q2537 rfl rfl (Nat.le_of_ble_eq_true rfl) dX4_yOf_23) hC ?_
      refine zr_call1 (rest := []) (zs_V (As := []) (by omega) ok_X15_y q2555 q2556 q2557 q100 q2558 rfl hA rfl rfl rfl (Nat.le_of_ble_eq_true rfl) dX4_yOf_26) (c_X15_y hA) ?_
      exact zr_iret rfl rfl dX4_yOf_29 (⟨⟨_, rfl, fun _ => rfl⟩, hS1.keep0 hX1.gd hX2, (hX1.trans hX2.in).le (by omega)⟩)
  · have e9 : mNow c n = 1 := by unfold mNow; rw [if_neg hb]; try rfl
    rw [show mGet c n (fun i => mPt 1 24 c i) = (1, .int ((fun i => mPt 1 24 c i) n.toNatClampNeg)) from by unfold mGet; rw [e9]]
    rw [e9] at hS1 ⊢
    refine zr_if_le (tgt := 12) dX4_yOf_5 (by decide) (fun h9 => absurd h9 (by decide)) (fun _ => ?_)
    refine zr_iconst (v := 0) dX4_yOf_8 (by decide) ?_
    refine zr_goto (tgt := 29) dX4_yOf_9 (by decide) ?_
    exact zr_iret rfl rfl dX4_yOf_29 (⟨⟨_, rfl, fun h => by cases h⟩, hS1, hX1.le (by omega)⟩)
