/-! ===== the reference: layOut (rows printed by tools/p116.py) ===== -/
theorem c_mlays_all {G : zG} {th : Int32} (hG : zOk G) : ∀ (f d : Nat), 100 + 5 * f ≤ d → HLM G th (mLF f).1 f d ∧ HCM G th (mLF f).2 f d := by
  intro f
  induction f with
  | zero =>
    intro d hd
    exact ⟨⟨fun s j w b => MQe.rf _, fun σ s j w b _ _ h1 h2 => by omega⟩, ⟨fun s ps i x y b => MQe.rf _, fun σ s ps fa i x y b _ _ _ h1 h2 => by omega⟩⟩
  | succ f ih =>
    intro d hd
    have h4 := ih (d - 4) (by omega)
    have h3 := ih (d - 3) (by omega)
    refine ⟨⟨fun s j w b => MQe.Lays h4.1.1 h4.2.1 s j w b, fun σ s j w b hw hS hj hf => ?_⟩, ⟨fun s ps i x y b => MQe.Con h4.1.1 h4.2.1 s ps i x y b, fun σ s ps fa i x y b hw hS hP hi hf h24 => ?_⟩⟩
    · have h9 := FC_le hS.k (f + 1) hj
      exact c_X4_lays (f := f) (by omega) hG hw hS hj (by omega) (by omega) h4.1 h4.2
    · exact (c_X4_contents (f := f) (x := x) (y := y) (b := b) (by omega) hG hw hS hi (by omega) hP h24 h3.1 h3.2).mono fun o σ' ⟨a1, a2, a3, a4, a5⟩ => ⟨a1, a2, a3, a4, a5.le (by rw [LB_succ]; omega)⟩
abbrev M24 : LM := (mLF 24).1
def mAllS (L : LM) (s : MT) (i : Nat) : MT := if kLifted s.1 i = true then L s i (cFit s.1 i (imax 0 (kP s.1 (kHold s.1 i) 2 - kF s.1 i 18))) true else s
def mAllL (L : LM) (s : MT) (w : Int32) : MT := (List.range (kN s.1)).foldl (mAllS L) (L s 0 w true)
theorem hldF_root {c : zCS} {f p : Nat} (h : kRoot c p = true) : hldF (f + 1) c p = p := by
  unfold hldF
  cases hq : kPar c p with
  | none => rfl
  | some q => unfold kRoot at h; rw [hq] at h; cases h
theorem hldF_no {c : zCS} {f p : Nat} (h : ¬ kF c p 17 = 115) : hldF (f + 1) c p = p := by
  unfold hldF
  cases hq : kPar c p with
  | none => rfl
  | some q => show (if kF c p 17 = 115 then hldF f c q else p) = p; rw [if_neg h]
theorem hldF_up {c : zCS} {f p q : Nat} (hq : kPar c p = some q) (h : kF c p 17 = 115) : hldF (f + 1) c p = hldF f c q := by
  show (match kPar c p with | none => p | some q => if kF c p 17 = 115 then hldF f c q else p) = _
  rw [hq]
  exact if_pos h
set_option maxHeartbeats 4000000 in
theorem l_X4_around {G : zG} {σ : zT} {d : Nat} {c : zCS} {th ct : Int32} {b0 : Nat} {Q : zO → zT → Prop} (hS : MSys G σ c th ct) : ∀ (f p : Nat), p < f → p < kN c → Q (.inl (some (.ref (kA c (rB (hldF f c p)))))) σ → zR G yX4_around cX4_around 2 (Option.some (Jvm.ClassFile.FieldType.object "ColumnarPressModel$Box")) [] d 5 [(0, .ref b0), (1, .ref (kA c (rB p)))] [] σ Q := by
  intro f
  induction f with
  | zero => intro p h; omega
  | succ f ih =>
    intro p hf hp kQ
    refine zr_aload_n dX4_around_5 rfl rfl ?_
    refine zr_get (k := 2) (v := va_rf (kPr c p)) in_X5 (hS.bx hp) rfl (Nat.le_of_ble_eq_true rfl) q2097 (.inl rfl) rfl dX4_around_6 ?_
    cases hq : kPar c p with
    | none =>
      rw [show kPr c p = none from by unfold kPr; rw [hq]; rfl]
      have e9 : hldF (f + 1) c p = p := hldF_root (by unfold kRoot; rw [hq]; rfl)
      rw [e9] at kQ
      show zR _ _ _ _ _ _ _ _ _ [.null] _ _
      refine zr_ifnullN (tgt := 29) dX4_around_9 (by decide) ?_
      refine zr_aload_n dX4_around_29 rfl rfl ?_
      exact zr_aret rfl (.inl ⟨_, rfl⟩) (.inr ⟨_, rfl⟩) dX4_around_30 (kQ)
    | some q =>
      rw [show kPr c p = some (kA c (rB q)) from by unfold kPr; rw [hq]; rfl]
      have hqp := hS.parlt hp hq
      show zR _ _ _ _ _ _ _ _ _ [.ref (kA c (rB q))] _ _
      refine zr_ifnull dX4_around_9 ?_
      refine zr_aload_n dX4_around_12 rfl rfl ?_
      refine zr_get (k := 21) (v := .int (kF c p 17)) in_X5 (hS.bx hp) rfl (Nat.le_of_ble_eq_true rfl) q2135 (.inl rfl) rfl dX4_around_13 ?_
      refine zr_bipush (v := 115) dX4_around_16 (by decide) ?_
      refine zr_icmp_ne (tgt := 29) dX4_around_18 (by decide) (fun h2 => ?_) (fun h2 => ?_)
      · rw [hldF_no h2] at kQ
        refine zr_aload_n dX4_around_29 rfl rfl ?_
        exact zr_aret rfl (.inl ⟨_, rfl⟩) (.inr ⟨_, rfl⟩) dX4_around_30 (kQ)
      · have h2 : kF c p 17 = 115 := by first | exact h2 | exact Decidable.not_not.mp h2
        rw [hldF_up hq h2] at kQ
        refine zr_aload_n dX4_around_21 rfl rfl ?_
        have hpr : va_rf (kPr c p) = .ref (kA c (rB q)) := by unfold kPr; rw [hq]; rfl
        refine zr_get (k := 2) (v := va_rf (kPr c p)) in_X5 (hS.bx hp) rfl (Nat.le_of_ble_eq_true rfl) q2097 (.inl rfl) rfl dX4_around_22 ?_
        rw [hpr]
        show zR G yX4_around cX4_around 2 (Option.some (Jvm.ClassFile.FieldType.object "ColumnarPressModel$Box")) [] d 25 [(0, .ref b0), (1, .ref (kA c (rB p)))] [.ref (kA c (rB q))] σ _
        refine zr_astore_n (ls2 := [(0, .ref b0), (1, .ref (kA c (rB q)))]) dX4_around_25 rfl (Nat.le_of_ble_eq_true rfl) rfl ?_
        refine zr_goto (tgt := 5) dX4_around_26 (by decide) ?_
        exact ih q (by omega) (by omega) kQ
set_option maxHeartbeats 4000000 in
theorem c_X4_around {G : zG} {σ : zT} {d : Nat} {c : zCS} {th ct : Int32} {i q : Nat} (hS : MSys G σ c th ct) (hi : i < kN c) (hq : kPar c i = some q) : zC G I_X4_around d [.ref (kA c (rB i))] σ (.inl (some (.ref (kA c (rB (kHold c i)))))) σ := by
  refine zCall.exact (zCall_of (ls := [(0, .ref (kA c (rB i)))]) (by decide) (Nat.le_of_ble_eq_true rfl) rfl ?_)
  have hle := hS.le
  have hqi := hS.parlt hi hq
  have hpr : va_rf (kPr c i) = .ref (kA c (rB q)) := by unfold kPr; rw [hq]; rfl
  have hh : kHold c i = hldF 24 c q := by unfold kHold; rw [hq]
  rw [hh]
  refine zr_aload_n dX4_around_0 rfl rfl ?_
  refine zr_get (k := 2) (v := va_rf (kPr c i)) in_X5 (hS.bx hi) rfl (Nat.le_of_ble_eq_true rfl) q2097 (.inl rfl) rfl dX4_around_1 ?_
  rw [hpr]
  show zR G yX4_around cX4_around 2 (Option.some (Jvm.ClassFile.FieldType.object "ColumnarPressModel$Box")) [] d 4 [(0, .ref (kA c (rB i)))] [.ref (kA c (rB q))] σ _
  refine zr_astore_n (ls2 := [(0, .ref (kA c (rB i))), (1, .ref (kA c (rB q)))]) dX4_around_4 rfl (Nat.le_of_ble_eq_true rfl) rfl ?_
  exact l_X4_around hS 24 q (by omega) (by omega) ⟨rfl, rfl⟩
theorem MSys.bxK {G : zG} {σ : zT} {c0 c : zCS} {th ct : Int32} (h : MSys G σ c th ct) (hE : MQe c0 c) : zL G σ 1002 (kA c0 2) (kM c0 2) ((List.range (kN c0)).map (fun j => kA c0 (rB j))) := by
  have h1 := h.bxL
  rw [hE.2, hE.1.m, hE.n] at h1
  exact h1
theorem MQe.mLF (f : Nat) : (∀ s j w b, MQe s.1 ((mLF f).1 s j w b).1) ∧ ∀ s ps i x y b, MQe s.1 ((mLF f).2 s ps i x y b).1.1.1 := by
  induction f with
  | zero => exact ⟨fun s j w b => MQe.rf _, fun s ps i x y b => MQe.rf _⟩
  | succ f ih => exact ⟨fun s j w b => MQe.Lays ih.1 ih.2 s j w b, fun s ps i x y b => MQe.Con ih.1 ih.2 s ps i x y b⟩
theorem MQe.AllS (s : MT) (i : Nat) : MQe s.1 (mAllS M24 s i).1 := by
  unfold mAllS
  split
  · exact (MQe.mLF 24).1 _ _ _ _
  · exact MQe.rf _
def mLayOut (c : zCS) (ct w : Int32) : (Nat × Value) × (zCS × Int32) :=
  if btw w 0 400 = true then ((0, .int (mAllL M24 (c, 0) w).2), (kUCt (kULw (mAllL M24 (c, 0) w).1 1) (kCt c + (mAllL M24 (c, 0) w).2), (mAllL M24 (c, 0) w).2)) else ((1, .null), (c, ct))
set_option maxHeartbeats 4000000 in
theorem l_X4_layOut {G : zG} {σ : zT} {d N : Nat} {c0 : zCS} {th w : Int32} {it : Nat} {Q : zO → zT → Prop} (hd : 224 ≤ d) (hG : zOk G) (hw : zGd G σ) (hit : sZ σ ≤ it) : ∀ (ys : List Nat) (k n : Nat) (lr : Int32) (s : MT) (σ1 : zT), (List.range (kN c0)).drop k = ys → k ≤ kN c0 → MQe c0 s.1 → zX G SM σ σ1 n → n + (ys.map (LXA c0)).sum ≤ N → MSys G σ1 s.1 th s.2 → sF σ1 it = some (.inr (21, [.int (nI k), .int lr, .int (kM c0 2), .ref (kA c0 2)])) → sT σ1 it = 0 → (∀ σ2, MQe c0 (ys.foldl (mAllS M24) s).1 → zX G SM σ σ2 N → MSys G σ2 (ys.foldl (mAllS M24) s).1 th (ys.foldl (mAllS M24) s).2 → zR G yX4_layOut cX4_layOut 4 (Option.some Jvm.ClassFile.FieldType.int) [] d 114 [(0, .ref (kA c0 1))] [] σ2 Q) → zR G yX4_layOut cX4_layOut 4 (Option.some Jvm.ClassFile.FieldType.int) [] d 59 [(0, .ref (kA c0 1)), (1, .int w), (2, .ref it)] [] σ1 Q := by
  intro ys
  induction ys with
  | nil =>
    intro k n lr s σ1 hy hk hE hX hN hS hI hT kQ
    have hL1 := hS.bxK hE
    have hkl := drop_nil hy (by rw [List.length_range]; exact hk)
    rw [List.length_range] at hkl
    rw [List.map_nil, List.sum_nil] at hN
    refine zr_aload_n dX4_layOut_59 rfl rfl ?_
    refine zr_call51 (rest := []) (zs_F (As := []) (by omega) okF_J23_hasNext (by decide +kernel) q2324 q927 q929 q84 q931 (.new hI) rfl rfl rfl (Nat.le_of_ble_eq_true rfl) dX4_layOut_60) (c_hasNext0 hL1 hI (by rw [List.length_map, List.length_range]; exact hkl)) ?_
    refine zr_if_eq (tgt := 114) dX4_layOut_65 (by decide) (fun _ => ?_) (fun h9 => absurd (rfl) h9)
    refine zr_sub (ls2 := [(0, .ref (kA c0 1))]) [0] rfl ?_
    exact kQ σ1 hE (hX.le (by omega)) hS
  | cons j ys ih =>
    intro k n lr s σ1 hy hk hE hX hN hS hI hT kQ
    have hL1 := hS.bxK hE
    obtain ⟨hx, hy2, hkl, hm⟩ := drop_cons hy
    rw [List.length_range] at hkl
    have hj := List.mem_range.mp hm
    rw [List.map_cons, List.sum_cons] at hN
    have hX2 := hX.upN (gs := [.int (nI (k + 1)), .int (nI k), .int (kM c0 2), .ref (kA c0 2)]) hI hit
    have hS2 := hS.upI (hs := [.int (nI (k + 1)), .int (nI k), .int (kM c0 2), .ref (kA c0 2)]) hI
    have hI2 : sF (sUp σ1 it (.inr (21, [.int (nI (k + 1)), .int (nI k), .int (kM c0 2), .ref (kA c0 2)]))) it = _ := sF_upS _ _ _
    have hT2 : sT (sUp σ1 it (.inr (21, [.int (nI (k + 1)), .int (nI k), .int (kM c0 2), .ref (kA c0 2)]))) it = 0 := hT
    generalize hσ2 : sUp σ1 it (.inr (21, [.int (nI (k + 1)), .int (nI k), .int (kM c0 2), .ref (kA c0 2)])) = σ2 at hX2 hS2 hI2 hT2
    rw [List.foldl_cons] at kQ
    have hj1 : j < kN s.1 := by rw [hE.n]; exact hj
    have hbj : zAt G σ2 (kA c0 (rB j)) (.inr (5, mBx s.1 j)) := hE.2 ▸ hS2.bx hj1
    have hlf : zC G I_X5_isLifted (d - 1) [.ref (kA c0 (rB j))] σ2 (.inl (some (.int (bI (kLifted s.1 j))))) σ2 := hE.2 ▸ c_X5_isLifted hS2 hj1
    refine zr_aload_n dX4_layOut_59 rfl rfl ?_
    refine zr_call51 (rest := []) (zs_F (As := []) (by omega) okF_J23_hasNext (by decide +kernel) q2324 q927 q929 q84 q931 (.new hI) rfl rfl rfl (Nat.le_of_ble_eq_true rfl) dX4_layOut_60) (c_hasNext1 hL1 hI (by rw [List.length_map, List.length_range]; exact hkl)) ?_
    refine zr_if_eq (tgt := 114) dX4_layOut_65 (by decide) (fun h9 => absurd h9 (by decide)) (fun _ => ?_)
    refine zr_aload_n dX4_layOut_68 rfl rfl ?_
    refine zr_call51 (rest := []) (zs_F (As := []) (by omega) okF_J23_next (by decide +kernel) q2326 q1044 q1046 q84 q1048 (.new hI) rfl rfl rfl (Nat.le_of_ble_eq_true rfl) dX4_layOut_69) (c_J23_next (by omega) hG hL1 hI (map_at (fun j => kA c0 (rB j)) hx)) ?_
    rw [hσ2]
    refine zr_castS hbj rfl q2084 dX4_layOut_74 ?_
    refine zr_astore_n (ls2 := [(0, .ref (kA c0 1)), (1, .int w), (2, .ref it), (3, .ref (kA c0 (rB j)))]) dX4_layOut_77 rfl (Nat.le_of_ble_eq_true rfl) rfl ?_
    refine zr_aload_n dX4_layOut_78 rfl rfl ?_
    refine zr_call1 (rest := []) (zs_V (As := []) (by omega) ok_X5_isLifted q2333 q2334 q2335 q78 q2336 rfl hbj rfl rfl rfl (Nat.le_of_ble_eq_true rfl) dX4_layOut_79) hlf ?_
    refine zr_ifeqB (tgt := 111) dX4_layOut_82 (by decide) (fun h1 => ?_) (fun h1 => ?_)
    · refine zr_goto (tgt := 59) dX4_layOut_111 (by decide) ?_
      refine zr_sub (ls2 := [(0, .ref (kA c0 1)), (1, .int w), (2, .ref it)]) [0, 1, 2] rfl ?_
      rw [show mAllS M24 s j = s from if_neg (by rw [h1]; decide)] at kQ
      exact ih (k + 1) n _ s σ2 hy2 (by omega) hE hX2 (by omega) hS2 hI2 hT2 kQ
    · obtain ⟨q, hq⟩ : ∃ q, kPar s.1 j = some q := by
        cases hq : kPar s.1 j with
        | some q => exact ⟨q, rfl⟩
        | none =>
          exfalso
          unfold kLifted kRoot at h1
          rw [hq] at h1
          cases h1
      have hroot : kRoot s.1 j = false := by unfold kRoot; rw [hq]; rfl
      have hho := kHold_lt hS2.k hj1 hroot
      have hh1 : kHold s.1 j < kN s.1 := by omega
      have hbh : zAt G σ2 (kA c0 (rB (kHold s.1 j))) (.inr (5, mBx s.1 (kHold s.1 j))) := hE.2 ▸ hS2.bx hh1
      have har : zC G I_X4_around (d - 1) [.ref (kA c0 (rB j))] σ2 (.inl (some (.ref (kA c0 (rB (kHold s.1 j)))))) σ2 := hE.2 ▸ c_X4_around hS2 hj1 hq
      obtain ⟨_, σ3, ⟨rfl, hX3⟩, hC3⟩ := c_X4_fits (wd := imax 0 (kP s.1 (kHold s.1 j) 2 - kF s.1 j 18)) (d := d - 1) (by omega) hG hX2.gd hS2 hj1
      rw [hE.2] at hC3
      have hS3 := hS2.keep0 hX2.gd hX3
      have h13 : zAt G σ3 (kA c0 1) (.inr (4, mO s.1 th s.2)) := hE.2 ▸ hS3.one
      obtain ⟨_, σ4, ⟨rfl, hS4, hX4⟩, hC4⟩ := (c_mlays_all (th := th) hG 24 (d - 1) (by omega)).1.2 σ3 s j (cFit s.1 j (imax 0 (kP s.1 (kHold s.1 j) 2 - kF s.1 j 18))) true hX3.gd hS3 hj1 (by have := hS3.le; omega)
      rw [hE.2] at hC4
      rw [LB_eq hE.1] at hX4
      rw [KW_eq hE.1] at hX3
      have est : mAllS M24 s j = M24 s j (cFit s.1 j (imax 0 (kP s.1 (kHold s.1 j) 2 - kF s.1 j 18))) true := if_pos h1
      rw [est] at kQ
      have hE4 : MQe c0 (M24 s j (cFit s.1 j (imax 0 (kP s.1 (kHold s.1 j) 2 - kF s.1 j 18))) true).1 := hE.trans ((MQe.mLF 24).1 _ _ _ _)
      have hX04 := (hX2.trans hX3.in).trans hX4
      have hI3 := hX3.f hX2.gd hI2 (fun h => h)
      have hT3 := (hX3.t hX2.gd hI2).trans hT2
      have hI4 := hX4.f hX3.gd hI3 (by rw [hT3]; exact SM_0)
      have hT4 := (hX4.t hX3.gd hI3).trans hT3
      refine zr_aload_n dX4_layOut_85 rfl rfl ?_
      refine zr_aload_n dX4_layOut_86 rfl rfl ?_
      refine zr_aload_n dX4_layOut_87 rfl rfl ?_
      refine zr_iconst (v := 0) dX4_layOut_88 (by decide) ?_
      refine zr_aload_n dX4_layOut_89 rfl rfl ?_
      refine zr_call1 (rest := [.int 0, .ref (kA c0 (rB j)), .ref (kA c0 (rB j)), .ref (kA c0 1)]) (zs_S (As := [.ref (kA c0 (rB j))]) (by omega) ok_X4_around q2524 q2525 q77 q2526 rfl rfl (Nat.le_of_ble_eq_true rfl) dX4_layOut_90) har ?_
      refine zr_get (k := 29) (v := .int (kP s.1 (kHold s.1 j) 2)) in_X5 hbh rfl (Nat.le_of_ble_eq_true rfl) q2151 (.inl rfl) rfl dX4_layOut_93 ?_
      refine zr_aload_n dX4_layOut_96 rfl rfl ?_
      refine zr_get (k := 17) (v := .int (kF s.1 j 18)) in_X5 hbj rfl (Nat.le_of_ble_eq_true rfl) q2127 (.inl rfl) rfl dX4_layOut_97 ?_
      refine zr_isub dX4_layOut_100 ?_
      refine zr_max (by omega) q2329 q376 q60 q377 (Nat.le_of_ble_eq_true rfl) dX4_layOut_101 ?_
      refine zr_call1 (rest := [.ref (kA c0 (rB j)), .ref (kA c0 1)]) (zs_S (As := [.ref (kA c0 (rB j)), .int (imax 0 ((kP s.1 (kHold s.1 j) 2) - (kF s.1 j 18)))]) (by omega) ok_X4_fits q2373 q2374 q77 q2375 rfl rfl (Nat.le_of_ble_eq_true rfl) dX4_layOut_104) hC3 ?_
      refine zr_iconst (v := 1) dX4_layOut_107 (by decide) ?_
      refine zr_callv (rest := []) (zs_V (As := [.ref (kA c0 (rB j)), .int (cFit s.1 j (imax 0 (kP s.1 (kHold s.1 j) 2 - kF s.1 j 18))), .int 1]) (by omega) ok_X4_lays q2349 q2351 qs39 q77 q2352 rfl h13 rfl rfl rfl (Nat.le_of_ble_eq_true rfl) dX4_layOut_108) hC4 ?_
      refine zr_goto (tgt := 59) dX4_layOut_111 (by decide) ?_
      refine zr_sub (ls2 := [(0, .ref (kA c0 1)), (1, .int w), (2, .ref it)]) [0, 1, 2] rfl ?_
      have hLX : LXA c0 j = LB 24 c0 j + 4 * KW 24 c0 j + 2000 := LXA_l (by rw [← kLift_eq hE.1]; exact h1)
      exact ih (k + 1) _ _ (M24 s j (cFit s.1 j (imax 0 (kP s.1 (kHold s.1 j) 2 - kF s.1 j 18))) true) σ4 hy2 (by omega) hE4 hX04 (by omega) hS4 hI4 hT4 kQ
set_option maxHeartbeats 4000000 in
theorem c_X4_layOut {G : zG} {σ : zT} {d : Nat} {c : zCS} {th ct : Int32} {w : Int32} (hd : 226 ≤ d) (hG : zOk G) (hw : zGd G σ) (hS : MSys G σ c th ct) (h0 : 0 < kN c) : zCall G I_X4_layOut d [.ref (kA c 1), .int w] σ ((fun o σ' => oM o (mLayOut c ct w).1 ∧ MSys G σ' (mLayOut c ct w).2.1 (nI (mLayOut c ct w).1.1) (mLayOut c ct w).2.2 ∧ zX G SM σ σ' (40 + LA c))) := by
  refine zCall_of (ls := [(0, .ref (kA c 1)), (1, .int w)]) (by decide) (Nat.le_of_ble_eq_true rfl) rfl ?_
  have hle := hS.le
  refine zr_aload_n dX4_layOut_0 rfl rfl ?_
  refine zr_iload_n dX4_layOut_1 rfl rfl ?_
  refine zr_iconst (v := 0) dX4_layOut_2 (by decide) ?_
  refine zr_sipush (v := 400) dX4_layOut_3 (by decide) ?_
  refine zr_call1 (rest := [.ref (kA c 1)]) (zs_S (As := [.int w, .int 0, .int 400]) (by omega) ok_X4_in q2247 q2248 q77 q2249 rfl rfl (Nat.le_of_ble_eq_true rfl) dX4_layOut_6) c_X4_in ?_
  refine zr_ifeqB (tgt := 16) dX4_layOut_9 (by decide) (fun hok => ?_) (fun hok => ?_)
  · rw [show mLayOut c ct w = ((1, .null), (c, ct)) from if_neg (by rw [hok]; decide)]
    refine zr_iconst (v := 1) dX4_layOut_16 (by decide) ?_
    refine zr_put (k := 1) (fs' := (mO c 1 ct)) zt_X4 hS.1.1 rfl (Nat.le_of_ble_eq_true rfl) q2219 (.inl rfl) rfl rfl rfl (Nat.le_of_ble_eq_true rfl) rfl dX4_layOut_17 ?_
    refine zr_aload_n dX4_layOut_20 rfl rfl ?_
    refine zr_get (k := 1) (v := .int 1) in_X4 (.new (sF_upS _ _ _)) rfl (Nat.le_of_ble_eq_true rfl) q2219 (.inl rfl) rfl dX4_layOut_21 ?_
    refine zr_if_le (tgt := 29) dX4_layOut_24 (by decide) (fun h9 => absurd h9 (by decide)) (fun _ => ?_)
    refine zr_iconst (v := 0) dX4_layOut_27 (by decide) ?_
    exact zr_iret rfl rfl dX4_layOut_28 (⟨⟨_, rfl, fun h => by cases h⟩, hS.setT 1, (hS.XO hw _).le (by omega)⟩)
  · obtain ⟨s, hs⟩ : ∃ s, s = mAllL M24 (c, 0) w := ⟨_, rfl⟩
    rw [show mLayOut c ct w = ((0, .int s.2), (kUCt (kULw s.1 1) (kCt c + s.2), s.2)) from by rw [hs]; exact if_pos hok]
    have hS1 := hS.setT 0
    have hX1 := hS.XO hw (mO c 0 ct)
    generalize hσ1 : sUp σ (kA c 1) (.inr (4, mO c 0 ct)) = σ1 at hS1 hX1
    have hS2 : MSys G (sUp σ1 (kA c 1) (.inr (4, mO c 0 0))) c 0 0 := hS1.setO 0 0 (kCt c) (kLw c) hS1.2.2.2.2.1
    have hX2 : zX G SM σ (sUp σ1 (kA c 1) (.inr (4, mO c 0 0))) 0 := hX1.trans (hS1.XO hX1.gd (mO c 0 0))
    generalize hσ2 : sUp σ1 (kA c 1) (.inr (4, mO c 0 0)) = σ2 at hS2 hX2
    obtain ⟨_, σ3, ⟨rfl, hS3, hX3⟩, hC3⟩ := (c_mlays_all (th := 0) hG 24 (d - 1) (by omega)).1.2 σ2 (c, 0) 0 w true hX2.gd hS2 h0 (by show kN c ≤ 24 + 0; omega)
    have hE3 : MQe c ((mLF 24).1 (c, 0) 0 w true).1 := (MQe.mLF 24).1 (c, 0) 0 w true
    have hX3' : zX G SM σ2 σ3 (LB 24 c 0) := hX3
    obtain ⟨s3, hs3⟩ : ∃ s3, s3 = M24 (c, 0) 0 w true := ⟨_, rfl⟩
    have hs3' : (mLF 24).1 (c, 0) 0 w true = s3 := hs3.symm
    rw [hs3'] at hS3 hE3
    have hX03 := hX2.trans hX3'
    have h31 : zAt G σ3 (kA c 1) (.inr (4, mO s3.1 0 s3.2)) := hE3.2 ▸ hS3.one
    have hL3 := hS3.bxK hE3
    obtain ⟨fl3, hfl3⟩ := hL3.A
    have hXi := zX.new S0 hX3.gd 0 (by omega) (.inr (21, [.int 0, .int (-1), .int (kM c 2), .ref (kA c 2)])) 4
    have hS4 := hS3.keep0 hX3.gd hXi
    refine zr_iconst (v := 0) dX4_layOut_12 (by decide) ?_
    refine zr_goto (tgt := 17) dX4_layOut_13 (by decide) ?_
    refine zr_put (k := 1) (fs' := (mO c 0 ct)) zt_X4 hS.1.1 rfl (Nat.le_of_ble_eq_true rfl) q2219 (.inl rfl) rfl rfl rfl (Nat.le_of_ble_eq_true rfl) rfl dX4_layOut_17 ?_
    rw [hσ1]
    have h11 := hS1.one
    refine zr_aload_n dX4_layOut_20 rfl rfl ?_
    refine zr_get (k := 1) (v := .int 0) in_X4 h11 rfl (Nat.le_of_ble_eq_true rfl) q2219 (.inl rfl) rfl dX4_layOut_21 ?_
    refine zr_if_le (tgt := 29) dX4_layOut_24 (by decide) (fun _ => ?_) (fun h9 => absurd (by decide) h9)
    refine zr_aload_n dX4_layOut_29 rfl rfl ?_
    refine zr_iconst (v := 0) dX4_layOut_30 (by decide) ?_
    refine zr_put (k := 3) (fs' := (mO c 0 0)) zt_X4 hS1.1.1 rfl (Nat.le_of_ble_eq_true rfl) q2221 (.inl rfl) rfl rfl rfl (Nat.le_of_ble_eq_true rfl) rfl dX4_layOut_31 ?_
    rw [hσ2]
    have h21 := hS2.one
    obtain ⟨fl_hfl, hfl⟩ := hS2.bxL.A
    refine zr_aload_n dX4_layOut_34 rfl rfl ?_
    refine zr_aload_n dX4_layOut_35 rfl rfl ?_
    refine zr_get (k := 0) (v := .ref (kA c 2)) in_X4 h21 rfl (Nat.le_of_ble_eq_true rfl) q2218 (.inl rfl) rfl dX4_layOut_36 ?_
    refine zr_iconst (v := 0) dX4_layOut_39 (by decide) ?_
    refine zr_call1 (rest := [.ref (kA c 1)]) (zs_V (As := [.int 0]) (by omega) ok_J2_get q2250 q959 q2840 q56 q960 rfl hfl rfl rfl rfl (Nat.le_of_ble_eq_true rfl) dX4_layOut_40) (c_J2_get (by omega) hG hS2.bxL (MSys.bxa h0)) ?_
    refine zr_castS (hS2.bx h0) rfl q2084 dX4_layOut_43 ?_
    refine zr_iload_n dX4_layOut_46 rfl rfl ?_
    refine zr_iconst (v := 1) dX4_layOut_47 (by decide) ?_
    refine zr_callv (rest := []) (zs_V (As := [.ref (kA c (rB 0)), .int w, .int 1]) (by omega) ok_X4_lays q2349 q2351 qs39 q77 q2352 rfl h21 rfl rfl rfl (Nat.le_of_ble_eq_true rfl) dX4_layOut_48) hC3 ?_
    refine zr_aload_n dX4_layOut_51 rfl rfl ?_
    refine zr_get (k := 0) (v := .ref (kA s3.1 2)) in_X4 h31 rfl (Nat.le_of_ble_eq_true rfl) q2218 (.inl rfl) rfl dX4_layOut_52 ?_
    have hk2 : kA s3.1 2 = kA c 2 := by rw [hE3.2]
    rw [hk2]
    refine zr_call1 (rest := []) (zs_V (As := []) (by omega) ok_J2_iterator q2322 q834 q2841 q56 q836 rfl hfl3 rfl rfl rfl (Nat.le_of_ble_eq_true rfl) dX4_layOut_55) (c_J2_iterator (by omega) hX3.gd.1 hL3) ?_
    refine zr_astore_n (ls2 := [(0, .ref (kA c 1)), (1, .int w), (2, .ref (sZ σ3))]) dX4_layOut_58 rfl (Nat.le_of_ble_eq_true rfl) rfl ?_
    refine l_X4_layOut (N := (LB 24 c 0 + (4 + 4)) + ((List.range (kN c)).map (LXA c)).sum) (by omega) hG hw (by have := hX03.sz; omega) (List.range (kN c)) 0 _ (-1) s3 _ rfl (Nat.zero_le _) hE3 (hX03.trans hXi.in) (by omega) hS4 (sF_newS _ _ _ _) (sT_newS _ _ _ _) (fun σ5 hE5 hX5 hS5 => ?_)
    have e9 : List.foldl (mAllS M24) s3 (List.range (kN c)) = s := by rw [hs, hs3]; rfl
    rw [e9] at hE5 hS5
    have h51 : zAt G σ5 (kA c 1) (.inr (4, mO s.1 0 s.2)) := hE5.2 ▸ hS5.one
    have h5F : sF σ5 (kA c 1) = some (.inr (4, mO s.1 0 s.2)) := hE5.2 ▸ hS5.1.1
    have hct : kCt s.1 = kCt c := hE5.1.2.2.2.2.2.2.2.2
    have hS6 : MSys G (sUp σ5 (kA c 1) (.inr (4, mO (kULw s.1 1) 0 s.2))) (kULw s.1 1) 0 s.2 := hE5.2 ▸ hS5.setO 0 s.2 (kCt s.1) 1 (Or.inr rfl)
    have hX6 : zX G SM σ5 (sUp σ5 (kA c 1) (.inr (4, mO (kULw s.1 1) 0 s.2))) 0 := hE5.2 ▸ hS5.XO hX5.gd _
    generalize hσ6 : sUp σ5 (kA c 1) (.inr (4, mO (kULw s.1 1) 0 s.2)) = σ6 at hS6 hX6
    have h6F : sF σ6 (kA c 1) = some (.inr (4, mO (kULw s.1 1) 0 s.2)) := hE5.2 ▸ hS6.1.1
    have h61 : zAt G σ6 (kA c 1) (.inr (4, mO (kULw s.1 1) 0 s.2)) := .new h6F
    have hS7 : MSys G (sUp σ6 (kA c 1) (.inr (4, mO (kUCt (kULw s.1 1) (kCt s.1 + s.2)) 0 s.2))) (kUCt (kULw s.1 1) (kCt s.1 + s.2)) 0 s.2 := hE5.2 ▸ hS6.setO 0 s.2 (kCt s.1 + s.2) 1 (Or.inr rfl)
    have hX7 : zX G SM σ6 (sUp σ6 (kA c 1) (.inr (4, mO (kUCt (kULw s.1 1) (kCt s.1 + s.2)) 0 s.2))) 0 := hE5.2 ▸ hS6.XO hX6.gd _
    generalize hσ7 : sUp σ6 (kA c 1) (.inr (4, mO (kUCt (kULw s.1 1) (kCt s.1 + s.2)) 0 s.2)) = σ7 at hS7 hX7
    have h7F : sF σ7 (kA c 1) = some (.inr (4, mO (kUCt (kULw s.1 1) (kCt s.1 + s.2)) 0 s.2)) := hE5.2 ▸ hS7.1.1
    have h71 : zAt G σ7 (kA c 1) (.inr (4, mO (kUCt (kULw s.1 1) (kCt s.1 + s.2)) 0 s.2)) := .new h7F
    show zR G yX4_layOut cX4_layOut 4 (Option.some Jvm.ClassFile.FieldType.int) [] d 114 [(0, .ref (kA c 1))] [] σ5 _
    refine zr_aload_n dX4_layOut_114 rfl rfl ?_
    refine zr_iconst (v := 1) dX4_layOut_115 (by decide) ?_
    refine zr_put (k := 4) (fs' := (mO (kULw s.1 1) 0 s.2)) zt_X4 h5F rfl (Nat.le_of_ble_eq_true rfl) q2222 (.inl rfl) rfl rfl rfl (Nat.le_of_ble_eq_true rfl) rfl dX4_layOut_116 ?_
    rw [hσ6]
    refine zr_aload_n dX4_layOut_119 rfl rfl ?_
    refine zr_dup dX4_layOut_120 rfl ?_
    refine zr_get (k := 2) (v := .int (kCt s.1)) in_X4 h61 rfl (Nat.le_of_ble_eq_true rfl) q2220 (.inl rfl) rfl dX4_layOut_121 ?_
    refine zr_aload_n dX4_layOut_124 rfl rfl ?_
    refine zr_get (k := 3) (v := .int s.2) in_X4 h61 rfl (Nat.le_of_ble_eq_true rfl) q2221 (.inl rfl) rfl dX4_layOut_125 ?_
    refine zr_iadd dX4_layOut_128 ?_
    refine zr_put (k := 2) (fs' := (mO (kUCt (kULw s.1 1) (kCt s.1 + s.2)) 0 s.2)) zt_X4 h6F rfl (Nat.le_of_ble_eq_true rfl) q2220 (.inl rfl) rfl rfl rfl (Nat.le_of_ble_eq_true rfl) rfl dX4_layOut_129 ?_
    rw [hσ7]
    refine zr_aload_n dX4_layOut_132 rfl rfl ?_
    refine zr_get (k := 3) (v := .int s.2) in_X4 h71 rfl (Nat.le_of_ble_eq_true rfl) q2221 (.inl rfl) rfl dX4_layOut_133 ?_
    exact zr_iret rfl rfl dX4_layOut_136 (⟨⟨_, rfl, fun _ => rfl⟩, hct ▸ hS7, ((hX5.trans hX6).trans hX7).le (by unfold LA; omega)⟩)
