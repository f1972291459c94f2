/-! ===== the reference: inRow, row (rows printed by tools/p109.py) ===== -/
/-- the reference's state under a layout: boxes, how many are counted -/
abbrev MT : Type := zCS × Int32
abbrev LM : Type := MT → Nat → Int32 → Bool → MT
def MQe (c c' : zCS) : Prop := KEq c c' ∧ kA c' = kA c
theorem MQe.rf (c : zCS) : MQe c c := ⟨KEq.rf c, rfl⟩
theorem MQe.trans {a b c : zCS} (h : MQe a b) (g : MQe b c) : MQe a c := ⟨h.1.trans g.1, g.2.trans h.2⟩
theorem MQe.setP (c : zCS) (i k : Nat) (v : Int32) : MQe c (kSetP c i k v) := ⟨KEq.setP c i k v, rfl⟩
theorem MQe.setF (c : zCS) (i : Nat) (v : Int32) : MQe c (kSetF c i 25 v) := ⟨KEq.setF c i v, rfl⟩
theorem MQe.n {c c' : zCS} (h : MQe c c') : kN c' = kN c := h.1.n
theorem MQe.over {c c' : zCS} (h : MQe c c') (j k : Nat) (hk : k ≠ 25) : mOver c' j k = mOver c j k := by unfold mOver; rw [h.1.f j k hk]
/-- the contract of lays, for boxes from a depth on -/
def HLM (G : zG) (th : Int32) (L : LM) (f d : Nat) : Prop := (∀ s j w b, MQe s.1 (L s j w b).1) ∧ ∀ (σ : zT) (s : MT) (j : Nat) (w : Int32) (b : Bool), zGd G σ → MSys G σ s.1 th s.2 → j < kN s.1 → kN s.1 ≤ f + j → zCall G I_X4_lays d [.ref (kA s.1 1), .ref (kA s.1 (rB j)), .int w, .int (bI b)] σ (fun o σ' => o = .inl none ∧ MSys G σ' (L s j w b).1 th (L s j w b).2 ∧ zX G SM σ σ' (LB f s.1 j))
def mR1 (L : LM) (b : Bool) (g : Nat → Int32) (p : MT × Int32) (q : Nat × Nat) : MT × Int32 :=
  (L p.1 q.2 (g q.1) b, imax p.2 (mOver (L p.1 q.2 (g q.1) b).1 q.2 8 + kP (L p.1 q.2 (g q.1) b).1 q.2 3 + mOver (L p.1 q.2 (g q.1) b).1 q.2 9))
def mR2 (hi : Int32) (c : zCS) (j : Nat) : zCS := if kF c j 7 < 0 then kSetP c j 3 (imax (kP c j 3) (hi - mOver c j 8 - mOver c j 9)) else c
/-- a run of items is laid: (state, highest) -/
def mRn (L : LM) (b : Bool) (g : Nat → Int32) (s : MT) (rs : List Nat) (fr : Nat) : MT × Int32 :=
  ((rs.foldl (mR2 ((nums rs fr).foldl (mR1 L b g) (s, 0)).2) ((nums rs fr).foldl (mR1 L b g) (s, 0)).1.1, ((nums rs fr).foldl (mR1 L b g) (s, 0)).1.2), ((nums rs fr).foldl (mR1 L b g) (s, 0)).2)
theorem MQe.R2 (hi : Int32) (c : zCS) (j : Nat) : MQe c (mR2 hi c j) := by
  unfold mR2
  split
  · exact MQe.setP _ _ _ _
  · exact MQe.rf _
theorem MQe.fold {α β : Type} (g : α → zCS) (f : α → β → α) (h : ∀ s x, MQe (g s) (g (f s x))) : ∀ (l : List β) (s : α), MQe (g s) (g (l.foldl f s)) := by
  intro l
  induction l with
  | nil => intro s; exact MQe.rf _
  | cons x l ih => intro s; exact (h s x).trans (ih (f s x))
theorem MQe.Rn {L : LM} (hL : ∀ s j w b, MQe s.1 (L s j w b).1) (b : Bool) (g : Nat → Int32) (s : MT) (rs : List Nat) (fr : Nat) : MQe s.1 (mRn L b g s rs fr).1.1 :=
  (MQe.fold (fun p : MT × Int32 => p.1.1) (mR1 L b g) (fun p q => hL p.1 q.2 _ b) _ (s, 0)).trans (MQe.fold (fun c => c) (mR2 _) (fun c j => MQe.R2 _ c j) rs _)
theorem drop_consZ {es ys zs : List Nat} {k j : Nat} (h : es.drop k = (j :: ys) ++ zs) : es[k]? = some j ∧ es.drop (k + 1) = ys ++ zs ∧ k < es.length ∧ j ∈ es := drop_cons h
theorem SM_0 : ¬ SM 0 := by unfold SM; omega
theorem SM_dT {l : Nat} : ¬ SM (dT l) ∧ ¬ SM (dT l + 1) := by unfold SM dT; omega
set_option maxHeartbeats 4000000 in
theorem l_X4_inr1 {G : zG} {σ : zT} {d f : Nat} {c0 : zCS} {th : Int32} {l wb fr to : Nat} {mod : Int32} {es : List Nat} {g : Nat → Int32} {L : LM} {b : Bool} {Q : zO → zT → Prop} (hd : 70 ≤ d) (hG : zOk G) (hw : zGd G σ) (hL : zL G σ (dT l) l mod (es.map (fun j => kA c0 (rB j)))) (hes : ∀ j, j ∈ es → j < kN c0 ∧ kN c0 ≤ f + j) (hel : es.length ≤ 24) (hto : to ≤ es.length) (hA0 : sF σ wb = some (aI G es.length g)) (hT0 : sT σ wb = 0) {N : Nat} (hLM : HLM G th L f (d - 1)) : ∀ (ys : List Nat) (k n : Nat) (p : MT × Int32) (σ1 : zT), (∃ zs, es.drop k = ys ++ zs) → k + ys.length = to → MQe c0 p.1.1 → zX G SM σ σ1 n → n + (ys.map (fun j => LB f c0 j)).sum ≤ N → MSys G σ1 p.1.1 th p.1.2 → (∀ σ2, zX G SM σ σ2 N → MSys G σ2 ((nums ys k).foldl (mR1 L b g) p).1.1 th ((nums ys k).foldl (mR1 L b g) p).1.2 → zR G yX4_inRow cX4_inRow 9 (Option.some Jvm.ClassFile.FieldType.int) [] d 68 [(0, .ref (kA c0 1)), (1, .ref l), (2, .ref wb), (3, .int (nI fr)), (4, .int (nI to)), (5, .int (bI b)), (6, .int ((nums ys k).foldl (mR1 L b g) p).2)] [] σ2 Q) → zR G yX4_inRow cX4_inRow 9 (Option.some Jvm.ClassFile.FieldType.int) [] d 6 [(0, .ref (kA c0 1)), (1, .ref l), (2, .ref wb), (3, .int (nI fr)), (4, .int (nI to)), (5, .int (bI b)), (6, .int p.2), (7, .int (nI k))] [] σ1 Q := by
  intro ys
  induction ys with
  | nil =>
    intro k n p σ1 hy hk hE hX hN hS kQ
    rw [List.length_nil] at hk
    refine zr_iload dX4_inRow_6 rfl ?_
    refine zr_iload dX4_inRow_8 rfl ?_
    refine zr_icmp_ge (tgt := 68) dX4_inRow_10 (by decide) (fun _ => ?_) (fun h9 => absurd (by rw [show k = to by omega]; exact Int32.le_refl _) h9)
    refine zr_sub (ls2 := [(0, .ref (kA c0 1)), (1, .ref l), (2, .ref wb), (3, .int (nI fr)), (4, .int (nI to)), (5, .int (bI b)), (6, .int p.2)]) [0, 1, 2, 3, 4, 5, 6] rfl ?_
    exact kQ σ1 (hX.le (by simpa using hN)) hS
  | cons j ys ih =>
    intro k n p σ1 hy hk hE hX hN hS kQ
    obtain ⟨zs, hy⟩ := hy
    obtain ⟨hx, hy2, hkl, hm⟩ := drop_consZ hy
    obtain ⟨hj, hjf⟩ := hes j hm
    rw [List.length_cons] at hk
    have hkt : k < to := by omega
    have hL1 := hX.L hw hL SM_dT.1 SM_dT.2
    obtain ⟨fl, hfl⟩ := hL1.A
    have hA1 := hX.f hw hA0 (by rw [hT0]; exact SM_0)
    have hT1 := (hX.t hw hA0).trans hT0
    have hj1 : j < kN p.1.1 := by rw [hE.n]; exact hj
    have hbj : zAt G σ1 (kA c0 (rB j)) (.inr (5, mBx p.1.1 j)) := hE.2 ▸ hS.bx hj1
    rw [List.map_cons, List.sum_cons] at hN
    obtain ⟨_, σ2, ⟨rfl, hS2, hX2⟩, hC2⟩ := hLM.2 σ1 p.1 j (g k) b hX.gd hS hj1 (by rw [hE.n]; exact hjf)
    rw [LB_eq hE.1] at hX2
    rw [hE.2] at hC2
    have hE2 := hE.trans (hLM.1 p.1 j (g k) b)
    have hj2 : j < kN (L p.1 j (g k) b).1 := by rw [hE2.n]; exact hj
    have hbj2 : zAt G σ2 (kA c0 (rB j)) (.inr (5, mBx (L p.1 j (g k) b).1 j)) := hE2.2 ▸ hS2.bx hj2
    have h11 : zAt G σ1 (kA c0 1) (.inr (4, mO p.1.1 th p.1.2)) := hE.2 ▸ hS.one
    have hov : zC G I_X5_over (d - 1) [.ref (kA c0 (rB j))] σ2 (.inl (some (.int (mOver (L p.1 j (g k) b).1 j 8)))) σ2 := hE2.2 ▸ c_X5_over hS2 hj2
    have hun : zC G I_X5_under (d - 1) [.ref (kA c0 (rB j))] σ2 (.inl (some (.int (mOver (L p.1 j (g k) b).1 j 9)))) σ2 := hE2.2 ▸ c_X5_under hS2 hj2
    have hfold : ∀ p, List.foldl (mR1 L b g) p (nums (j :: ys) k) = (nums ys (k + 1)).foldl (mR1 L b g) (mR1 L b g p (k, j)) := fun _ => rfl
    simp only [hfold] at kQ
    refine zr_iload dX4_inRow_6 rfl ?_
    refine zr_iload dX4_inRow_8 rfl ?_
    refine zr_icmp_ge (tgt := 68) dX4_inRow_10 (by decide) (fun h9 => absurd h9 (Int32.not_le.mpr ((nI_ltI (by omega) (by omega)).mpr hkt))) (fun _ => ?_)
    refine zr_aload_n dX4_inRow_13 rfl rfl ?_
    refine zr_iload dX4_inRow_14 rfl ?_
    refine zr_call51 (rest := []) (zs_F (As := [.int (nI k)]) (by omega) okF_J2_get (by decide +kernel) q2390 q1106 q959 q56 q960 hfl rfl rfl rfl (Nat.le_of_ble_eq_true rfl) dX4_inRow_16) (c_J2_get (by omega) hG hL1 (map_at (fun j => kA c0 (rB j)) hx)) ?_
    refine zr_castS hbj rfl q2084 dX4_inRow_21 ?_
    refine zr_astore (ls2 := [(0, .ref (kA c0 1)), (1, .ref l), (2, .ref wb), (3, .int (nI fr)), (4, .int (nI to)), (5, .int (bI b)), (6, .int p.2), (7, .int (nI k)), (8, .ref (kA c0 (rB j)))]) dX4_inRow_24 (Nat.le_of_ble_eq_true rfl) rfl ?_
    refine zr_aload_n dX4_inRow_26 rfl rfl ?_
    refine zr_aload dX4_inRow_27 rfl ?_
    refine zr_aload_n dX4_inRow_29 rfl rfl ?_
    refine zr_iload dX4_inRow_30 rfl ?_
    refine zr_iald (v := .int (g k)) (.new hA1) (vp_in_nI (by omega) (by omega)) (by rw [nI_clamp (by omega)]) dX4_inRow_32 ?_
    refine zr_iload dX4_inRow_33 rfl ?_
    refine zr_callv (rest := []) (zs_V (As := [.ref (kA c0 (rB j)), .int (g k), .int (bI b)]) (by omega) ok_X4_lays q2349 q2351 qs39 q77 q2352 rfl h11 rfl rfl rfl (Nat.le_of_ble_eq_true rfl) dX4_inRow_35) hC2 ?_
    refine zr_iload dX4_inRow_38 rfl ?_
    refine zr_aload dX4_inRow_40 rfl ?_
    refine zr_call1 (rest := [.int p.2]) (zs_V (As := []) (by omega) ok_X5_over q2377 q2378 q2379 q78 q2380 rfl hbj2 rfl rfl rfl (Nat.le_of_ble_eq_true rfl) dX4_inRow_42) hov ?_
    refine zr_aload dX4_inRow_45 rfl ?_
    refine zr_get (k := 30) (v := .int (kP (L p.1 j (g k) b).1 j 3)) in_X5 hbj2 rfl (Nat.le_of_ble_eq_true rfl) q2153 (.inl rfl) rfl dX4_inRow_47 ?_
    refine zr_iadd dX4_inRow_50 ?_
    refine zr_aload dX4_inRow_51 rfl ?_
    refine zr_call1 (rest := [.int ((mOver (L p.1 j (g k) b).1 j 8) + (kP (L p.1 j (g k) b).1 j 3)), .int p.2]) (zs_V (As := []) (by omega) ok_X5_under q2381 q2382 q2383 q78 q2384 rfl hbj2 rfl rfl rfl (Nat.le_of_ble_eq_true rfl) dX4_inRow_53) hun ?_
    refine zr_iadd dX4_inRow_56 ?_
    refine zr_max (by omega) q2329 q376 q60 q377 (Nat.le_of_ble_eq_true rfl) dX4_inRow_57 ?_
    refine zr_istore (ls2 := [(0, .ref (kA c0 1)), (1, .ref l), (2, .ref wb), (3, .int (nI fr)), (4, .int (nI to)), (5, .int (bI b)), (6, .int (imax p.2 (((mOver (L p.1 j (g k) b).1 j 8) + (kP (L p.1 j (g k) b).1 j 3)) + (mOver (L p.1 j (g k) b).1 j 9)))), (7, .int (nI k)), (8, .ref (kA c0 (rB j)))]) dX4_inRow_60 (Nat.le_of_ble_eq_true rfl) rfl ?_
    refine zr_iinc (v := (nI k + 1)) (ls2 := [(0, .ref (kA c0 1)), (1, .ref l), (2, .ref wb), (3, .int (nI fr)), (4, .int (nI to)), (5, .int (bI b)), (6, .int (imax p.2 (((mOver (L p.1 j (g k) b).1 j 8) + (kP (L p.1 j (g k) b).1 j 3)) + (mOver (L p.1 j (g k) b).1 j 9)))), (7, .int (nI k + 1)), (8, .ref (kA c0 (rB j)))]) dX4_inRow_62 rfl rfl (Nat.le_of_ble_eq_true rfl) rfl ?_
    rw [show nI k + 1 = nI (k + 1) from nI_1 k]
    refine zr_goto (tgt := 6) dX4_inRow_65 (by decide) ?_
    refine zr_sub (ls2 := [(0, .ref (kA c0 1)), (1, .ref l), (2, .ref wb), (3, .int (nI fr)), (4, .int (nI to)), (5, .int (bI b)), (6, .int (imax p.2 (((mOver (L p.1 j (g k) b).1 j 8) + (kP (L p.1 j (g k) b).1 j 3)) + (mOver (L p.1 j (g k) b).1 j 9)))), (7, .int (nI (k + 1)))]) [0, 1, 2, 3, 4, 5, 6, 7] rfl ?_
    exact ih (k + 1) _ (mR1 L b g p (k, j)) σ2 ⟨zs, hy2⟩ (by omega) hE2 (hX.trans hX2) (by omega) hS2 kQ
set_option maxHeartbeats 4000000 in
theorem l_X4_inr2 {G : zG} {σ : zT} {d f : Nat} {c0 : zCS} {th : Int32} {l wb fr to : Nat} {mod : Int32} {es : List Nat} {g : Nat → Int32} {L : LM} {b : Bool} {Q : zO → zT → Prop} (hd : 70 ≤ d) (hG : zOk G) (hw : zGd G σ) (hL : zL G σ (dT l) l mod (es.map (fun j => kA c0 (rB j)))) (hes : ∀ j, j ∈ es → j < kN c0 ∧ kN c0 ≤ f + j) (hel : es.length ≤ 24) (hto : to ≤ es.length) (hA0 : sF σ wb = some (aI G es.length g)) (hT0 : sT σ wb = 0) {n : Nat} {hi ct : Int32} : ∀ (ys : List Nat) (k : Nat) (p : zCS) (σ1 : zT), (∃ zs, es.drop k = ys ++ zs) → k + ys.length = to → MQe c0 p → zX G SM σ σ1 n → MSys G σ1 p th ct → (∀ σ2, zX G SM σ σ2 n → MSys G σ2 (ys.foldl (mR2 hi) p) th ct → zR G yX4_inRow cX4_inRow 9 (Option.some Jvm.ClassFile.FieldType.int) [] d 132 [(6, .int hi)] [] σ2 Q) → zR G yX4_inRow cX4_inRow 9 (Option.some Jvm.ClassFile.FieldType.int) [] d 71 [(0, .ref (kA c0 1)), (1, .ref l), (2, .ref wb), (3, .int (nI fr)), (4, .int (nI to)), (5, .int (bI b)), (6, .int hi), (7, .int (nI k))] [] σ1 Q := by
  intro ys
  induction ys with
  | nil =>
    intro k p σ1 hy hk hE hX hS kQ
    rw [List.length_nil] at hk
    refine zr_iload dX4_inRow_71 rfl ?_
    refine zr_iload dX4_inRow_73 rfl ?_
    refine zr_icmp_ge (tgt := 132) dX4_inRow_75 (by decide) (fun _ => ?_) (fun h9 => absurd (by rw [show k = to by omega]; exact Int32.le_refl _) h9)
    refine zr_sub (ls2 := [(6, .int hi)]) [6] rfl ?_
    exact kQ σ1 hX hS
  | cons j ys ih =>
    intro k p σ1 hy hk hE hX hS kQ
    obtain ⟨zs, hy⟩ := hy
    obtain ⟨hx, hy2, hkl, hm⟩ := drop_consZ hy
    obtain ⟨hj, hjf⟩ := hes j hm
    rw [List.length_cons] at hk
    have hkt : k < to := by omega
    have hL1 := hX.L hw hL SM_dT.1 SM_dT.2
    obtain ⟨fl, hfl⟩ := hL1.A
    have hA1 := hX.f hw hA0 (by rw [hT0]; exact SM_0)
    have hT1 := (hX.t hw hA0).trans hT0
    have hj1 : j < kN p := by rw [hE.n]; exact hj
    have hbj : zAt G σ1 (kA c0 (rB j)) (.inr (5, mBx p j)) := hE.2 ▸ hS.bx hj1
    have hbF : sF σ1 (kA c0 (rB j)) = some (.inr (5, mBx p j)) := hE.2 ▸ hS.bF hj1
    have hov : zC G I_X5_over (d - 1) [.ref (kA c0 (rB j))] σ1 (.inl (some (.int (mOver p j 8)))) σ1 := hE.2 ▸ c_X5_over hS hj1
    have hun : zC G I_X5_under (d - 1) [.ref (kA c0 (rB j))] σ1 (.inl (some (.int (mOver p j 9)))) σ1 := hE.2 ▸ c_X5_under hS hj1
    rw [List.foldl_cons] at kQ
    refine zr_iload dX4_inRow_71 rfl ?_
    refine zr_iload dX4_inRow_73 rfl ?_
    refine zr_icmp_ge (tgt := 132) dX4_inRow_75 (by decide) (fun h9 => absurd h9 (Int32.not_le.mpr ((nI_ltI (by omega) (by omega)).mpr hkt))) (fun _ => ?_)
    refine zr_aload_n dX4_inRow_78 rfl rfl ?_
    refine zr_iload dX4_inRow_79 rfl ?_
    refine zr_call51 (rest := []) (zs_F (As := [.int (nI k)]) (by omega) okF_J2_get (by decide +kernel) q2390 q1106 q959 q56 q960 hfl rfl rfl rfl (Nat.le_of_ble_eq_true rfl) dX4_inRow_81) (c_J2_get (by omega) hG hL1 (map_at (fun j => kA c0 (rB j)) hx)) ?_
    refine zr_castS hbj rfl q2084 dX4_inRow_86 ?_
    refine zr_astore (ls2 := [(0, .ref (kA c0 1)), (1, .ref l), (2, .ref wb), (3, .int (nI fr)), (4, .int (nI to)), (5, .int (bI b)), (6, .int hi), (7, .int (nI k)), (8, .ref (kA c0 (rB j)))]) dX4_inRow_89 (Nat.le_of_ble_eq_true rfl) rfl ?_
    refine zr_aload dX4_inRow_91 rfl ?_
    refine zr_get (k := 8) (v := .int (kF p j 7)) in_X5 hbj rfl (Nat.le_of_ble_eq_true rfl) q2109 (.inl rfl) rfl dX4_inRow_93 ?_
    refine zr_if_ge (tgt := 126) dX4_inRow_96 (by decide) (fun h1 => ?_) (fun h1 => ?_)
    · rw [show mR2 hi p j = p from if_neg (by first | exact Int32.not_lt.mpr h1 | exact h1)] at kQ
      refine zr_iinc (v := (nI k + 1)) (ls2 := [(0, .ref (kA c0 1)), (1, .ref l), (2, .ref wb), (3, .int (nI fr)), (4, .int (nI to)), (5, .int (bI b)), (6, .int hi), (7, .int (nI k + 1)), (8, .ref (kA c0 (rB j)))]) dX4_inRow_126 rfl rfl (Nat.le_of_ble_eq_true rfl) rfl ?_
      rw [show nI k + 1 = nI (k + 1) from nI_1 k]
      refine zr_goto (tgt := 71) dX4_inRow_129 (by decide) ?_
      refine zr_sub (ls2 := [(0, .ref (kA c0 1)), (1, .ref l), (2, .ref wb), (3, .int (nI fr)), (4, .int (nI to)), (5, .int (bI b)), (6, .int hi), (7, .int (nI (k + 1)))]) [0, 1, 2, 3, 4, 5, 6, 7] rfl ?_
      exact ih (k + 1) p σ1 ⟨zs, hy2⟩ (by omega) hE hX hS kQ
    · rw [show mR2 hi p j = kSetP p j 3 (imax (kP p j 3) (hi - mOver p j 8 - mOver p j 9)) from if_pos (by first | exact Int32.not_le.mp h1 | exact h1)] at kQ
      refine zr_aload dX4_inRow_99 rfl ?_
      refine zr_aload dX4_inRow_101 rfl ?_
      refine zr_get (k := 30) (v := .int (kP p j 3)) in_X5 hbj rfl (Nat.le_of_ble_eq_true rfl) q2153 (.inl rfl) rfl dX4_inRow_103 ?_
      refine zr_iload dX4_inRow_106 rfl ?_
      refine zr_aload dX4_inRow_108 rfl ?_
      refine zr_call1 (rest := [.int hi, .int (kP p j 3), .ref (kA c0 (rB j))]) (zs_V (As := []) (by omega) ok_X5_over q2377 q2378 q2379 q78 q2380 rfl hbj rfl rfl rfl (Nat.le_of_ble_eq_true rfl) dX4_inRow_110) hov ?_
      refine zr_isub dX4_inRow_113 ?_
      refine zr_aload dX4_inRow_114 rfl ?_
      refine zr_call1 (rest := [.int (hi - (mOver p j 8)), .int (kP p j 3), .ref (kA c0 (rB j))]) (zs_V (As := []) (by omega) ok_X5_under q2381 q2382 q2383 q78 q2384 rfl hbj rfl rfl rfl (Nat.le_of_ble_eq_true rfl) dX4_inRow_116) hun ?_
      refine zr_isub dX4_inRow_119 ?_
      refine zr_max (by omega) q2329 q376 q60 q377 (Nat.le_of_ble_eq_true rfl) dX4_inRow_120 ?_
      refine zr_put (k := 30) (fs' := (mBx (kSetP p j 3 (imax (kP p j 3) (hi - mOver p j 8 - mOver p j 9))) j)) zt_X5 hbF rfl (Nat.le_of_ble_eq_true rfl) q2153 (.inl rfl) rfl rfl rfl (Nat.le_of_ble_eq_true rfl) (mBx_P3 _ _ _) dX4_inRow_123 ?_
      have hS2 : MSys G (sUp σ1 (kA c0 (rB j)) (.inr (5, mBx (kSetP p j 3 (imax (kP p j 3) (hi - mOver p j 8 - mOver p j 9))) j))) (kSetP p j 3 (imax (kP p j 3) (hi - mOver p j 8 - mOver p j 9))) th ct := hE.2 ▸ hS.setP (k := 3) hj1 (imax (kP p j 3) (hi - mOver p j 8 - mOver p j 9))
      have hX2 : zX G SM σ (sUp σ1 (kA c0 (rB j)) (.inr (5, mBx (kSetP p j 3 (imax (kP p j 3) (hi - mOver p j 8 - mOver p j 9))) j))) n := hX.trans (show zX G SM σ1 (sUp σ1 (kA c0 (rB j)) (.inr (5, mBx (kSetP p j 3 (imax (kP p j 3) (hi - mOver p j 8 - mOver p j 9))) j))) 0 from hE.2 ▸ hS.XB hX.gd hj1 _)
      generalize hσ2 : sUp σ1 (kA c0 (rB j)) (.inr (5, mBx (kSetP p j 3 (imax (kP p j 3) (hi - mOver p j 8 - mOver p j 9))) j)) = σ2 at hS2 hX2 ⊢
      refine zr_iinc (v := (nI k + 1)) (ls2 := [(0, .ref (kA c0 1)), (1, .ref l), (2, .ref wb), (3, .int (nI fr)), (4, .int (nI to)), (5, .int (bI b)), (6, .int hi), (7, .int (nI k + 1)), (8, .ref (kA c0 (rB j)))]) dX4_inRow_126 rfl rfl (Nat.le_of_ble_eq_true rfl) rfl ?_
      rw [show nI k + 1 = nI (k + 1) from nI_1 k]
      refine zr_goto (tgt := 71) dX4_inRow_129 (by decide) ?_
      refine zr_sub (ls2 := [(0, .ref (kA c0 1)), (1, .ref l), (2, .ref wb), (3, .int (nI fr)), (4, .int (nI to)), (5, .int (bI b)), (6, .int hi), (7, .int (nI (k + 1)))]) [0, 1, 2, 3, 4, 5, 6, 7] rfl ?_
      exact ih (k + 1) _ σ2 ⟨zs, hy2⟩ (by omega) (hE.trans (MQe.setP _ _ _ _)) hX2 hS2 kQ
set_option maxHeartbeats 4000000 in
theorem c_X4_inRow {G : zG} {σ : zT} {d f : Nat} {c0 : zCS} {ct : Int32} {th : Int32} {l wb fr to : Nat} {mod : Int32} {es : List Nat} {g : Nat → Int32} {L : LM} {b : Bool} (hd : 72 ≤ d) (hG : zOk G) (hw : zGd G σ) (hL : zL G σ (dT l) l mod (es.map (fun j => kA c0 (rB j)))) (hes : ∀ j, j ∈ es → j < kN c0 ∧ kN c0 ≤ f + j) (hel : es.length ≤ 24) (hto : to ≤ es.length) (hA0 : sF σ wb = some (aI G es.length g)) (hT0 : sT σ wb = 0) (hS : MSys G σ c0 th ct) (hft : fr ≤ to) (hLM : HLM G th L f (d - 1)) : zCall G I_X4_inRow d [.ref (kA c0 1), .ref l, .ref wb, .int (nI fr), .int (nI to), .int (bI b)] σ ((fun o σ' => o = .inl (some (.int (mRn L b g (c0, ct) ((es.drop fr).take (to - fr)) fr).2)) ∧ MSys G σ' (mRn L b g (c0, ct) ((es.drop fr).take (to - fr)) fr).1.1 th (mRn L b g (c0, ct) ((es.drop fr).take (to - fr)) fr).1.2 ∧ zX G SM σ σ' ((((es.drop fr).take (to - fr)).map (fun j => LB f c0 j)).sum))) := by
  refine zCall_of (ls := [(0, .ref (kA c0 1)), (1, .ref l), (2, .ref wb), (3, .int (nI fr)), (4, .int (nI to)), (5, .int (bI b))]) (by decide) (Nat.le_of_ble_eq_true rfl) rfl ?_
  obtain ⟨rs, hrs⟩ : ∃ rs, rs = (es.drop fr).take (to - fr) := ⟨_, rfl⟩
  have hrl : fr + rs.length = to := by rw [hrs, List.length_take, List.length_drop]; omega
  have hdr : ∃ zs, es.drop fr = rs ++ zs := ⟨(es.drop fr).drop (to - fr), by rw [hrs, List.take_append_drop]⟩
  rw [← hrs]
  refine zr_iconst (v := 0) dX4_inRow_0 (by decide) ?_
  refine zr_istore (ls2 := [(0, .ref (kA c0 1)), (1, .ref l), (2, .ref wb), (3, .int (nI fr)), (4, .int (nI to)), (5, .int (bI b)), (6, .int 0)]) dX4_inRow_1 (Nat.le_of_ble_eq_true rfl) rfl ?_
  refine zr_iload_n dX4_inRow_3 rfl rfl ?_
  refine zr_istore (ls2 := [(0, .ref (kA c0 1)), (1, .ref l), (2, .ref wb), (3, .int (nI fr)), (4, .int (nI to)), (5, .int (bI b)), (6, .int 0), (7, .int (nI fr))]) dX4_inRow_4 (Nat.le_of_ble_eq_true rfl) rfl ?_
  refine l_X4_inr1 (N := (rs.map (fun j => LB f c0 j)).sum) (by omega) hG hw hL hes hel hto hA0 hT0 hLM rs fr 0 ((c0, ct), 0) σ hdr hrl (MQe.rf c0) (zX.rf _ hw 0) (by omega) hS (fun σ2 hX2 hS2 => ?_)
  have hE2 : MQe c0 ((nums rs fr).foldl (mR1 L b g) ((c0, ct), 0)).1.1 := MQe.fold (fun p : MT × Int32 => p.1.1) (mR1 L b g) (fun p q => hLM.1 p.1 q.2 _ b) _ ((c0, ct), 0)
  refine zr_iload_n dX4_inRow_68 rfl rfl ?_
  refine zr_istore (ls2 := [(0, .ref (kA c0 1)), (1, .ref l), (2, .ref wb), (3, .int (nI fr)), (4, .int (nI to)), (5, .int (bI b)), (6, .int ((nums rs fr).foldl (mR1 L b g) ((c0, ct), 0)).2), (7, .int (nI fr))]) dX4_inRow_69 (Nat.le_of_ble_eq_true rfl) rfl ?_
  refine l_X4_inr2 (L := L) (by omega) hG hw hL hes hel hto hA0 hT0 rs fr _ σ2 hdr hrl hE2 hX2 hS2 (fun σ3 hX3 hS3 => ?_)
  refine zr_iload dX4_inRow_132 rfl ?_
  exact zr_iret rfl rfl dX4_inRow_134 (⟨rfl, hS3, hX3⟩)
def mRowW (c : zCS) (i : Nat) : Nat → Int32 :=
  if 0 < ((nums (kItemsOf c i) 0).foldl (rwA c) (fun _ => 0, kInner c i)).2 then cGrow c (kItemsOf c i) ((nums (kItemsOf c i) 0).foldl (rwA c) (fun _ => 0, kInner c i)).2 ((nums (kItemsOf c i) 0).foldl (rwA c) (fun _ => 0, kInner c i)).1
  else if ((nums (kItemsOf c i) 0).foldl (rwA c) (fun _ => 0, kInner c i)).2 < 0 then mShrunk c (kItemsOf c i) (kInner c i) ((nums (kItemsOf c i) 0).foldl (rwA c) (fun _ => 0, kInner c i)).1
  else ((nums (kItemsOf c i) 0).foldl (rwA c) (fun _ => 0, kInner c i)).1
def mRx (i : Nat) (p : zCS × Int32) (j : Nat) : zCS × Int32 := (kSetP (kSetP p.1 j 0 (p.2 + kF p.1 j 10)) j 1 (kF p.1 i 12 + mOver p.1 j 8), p.2 + (kP p.1 j 2 + kSides p.1 j))
def mRow (L : LM) (s : MT) (i : Nat) (b : Bool) : MT × Int32 :=
  ((((kItemsOf s.1 i).foldl (mRx i) ((mRn L b (mRowW s.1 i) s (kItemsOf s.1 i) 0).1.1, kF s.1 i 12)).1, (mRn L b (mRowW s.1 i) s (kItemsOf s.1 i) 0).1.2), (mRn L b (mRowW s.1 i) s (kItemsOf s.1 i) 0).2 + 2 * kF s.1 i 12)
theorem MQe.Rx (i : Nat) (p : zCS × Int32) (j : Nat) : MQe p.1 (mRx i p j).1 := (MQe.setP _ _ _ _).trans (MQe.setP _ _ _ _)
theorem MQe.Row {L : LM} (hL : ∀ s j w b, MQe s.1 (L s j w b).1) (s : MT) (i : Nat) (b : Bool) : MQe s.1 (mRow L s i b).1.1 :=
  (MQe.Rn hL b _ s _ 0).trans (MQe.fold (fun p : zCS × Int32 => p.1) (mRx i) (fun p j => MQe.Rx i p j) _ _)
theorem mOver_P (c : zCS) (j a k : Nat) (v : Int32) : mOver (kSetP c j a v) j k = mOver c j k := rfl
set_option maxHeartbeats 4000000 in
theorem l_X4_row1 {G : zG} {σ : zT} {d : Nat} {c0 : zCS} {th ct : Int32} {i l wb : Nat} {mod : Int32} {es : List Nat} {b : Bool} {Q : zO → zT → Prop} (hd : 70 ≤ d) (hG : zOk G) (hw : zGd G σ) (hL : zL G σ (dT l) l mod (es.map (fun j => kA c0 (rB j)))) (hes : ∀ j, j ∈ es → j < kN c0) (hel : es.length ≤ 24) {N : Nat} (hS : MSys G σ c0 th ct) (hwb : sZ σ ≤ wb) : ∀ (ys : List Nat) (k n : Nat) (p : (Nat → Int32) × Int32) (σ1 : zT), es.drop k = ys → k ≤ es.length → zX G S0 σ σ1 n → n + (ys.map (fun j => KW 24 c0 j)).sum ≤ N → sF σ1 wb = some (aI G es.length p.1) → sT σ1 wb = 0 → (∀ σ2, zX G S0 σ σ2 N → sF σ2 wb = some (aI G es.length ((nums ys k).foldl (rwA c0) p).1) → sT σ2 wb = 0 → zR G yX4_row cX4_row 11 (Option.some Jvm.ClassFile.FieldType.int) [] d 77 [(0, .ref (kA c0 1)), (1, .ref (kA c0 (rB i))), (2, .int (bI b)), (3, .ref l), (4, .ref wb), (5, .int ((nums ys k).foldl (rwA c0) p).2)] [] σ2 Q) → zR G yX4_row cX4_row 11 (Option.some Jvm.ClassFile.FieldType.int) [] d 22 [(0, .ref (kA c0 1)), (1, .ref (kA c0 (rB i))), (2, .int (bI b)), (3, .ref l), (4, .ref wb), (5, .int p.2), (6, .int (nI k))] [] σ1 Q := by
  intro ys
  induction ys with
  | nil =>
    intro k n p σ1 hy hk hX hN hA hT kQ
    have hkl := drop_nil hy hk
    refine zr_iload dX4_row_22 rfl ?_
    refine zr_aload dX4_row_24 rfl ?_
    refine zr_alenI (v := nI es.length) (.new hA) rfl dX4_row_26 ?_
    refine zr_icmp_ge (tgt := 77) dX4_row_27 (by decide) (fun _ => ?_) (fun h9 => absurd (by rw [hkl]; exact Int32.le_refl _) h9)
    refine zr_sub (ls2 := [(0, .ref (kA c0 1)), (1, .ref (kA c0 (rB i))), (2, .int (bI b)), (3, .ref l), (4, .ref wb), (5, .int p.2)]) [0, 1, 2, 3, 4, 5] rfl ?_
    exact kQ σ1 (hX.le (by simpa using hN)) hA hT
  | cons j ys ih =>
    intro k n p σ1 hy hk hX hN hA hT kQ
    obtain ⟨hx, hy2, hkl, hm⟩ := drop_cons hy
    have hj := hes j hm
    have hkt := hkl
    have hS1 := hS.keep0 hw hX
    have hL1 := hX.L hw hL (fun h => h) (fun h => h)
    obtain ⟨fl, hfl⟩ := hL1.A
    rw [List.map_cons, List.sum_cons] at hN
    obtain ⟨_, σ2, ⟨rfl, hX2⟩, hC2⟩ := c_mW (d := d - 1) false (by omega) hG hX.gd hS1 hj
    have hX12 := hX.trans hX2
    have hA2 := hX2.f hX.gd hA (fun h => h)
    have hT2 := (hX2.t hX.gd hA).trans hT
    have hfold : ∀ p, List.foldl (rwA c0) p (nums (j :: ys) k) = (nums ys (k + 1)).foldl (rwA c0) (rwA c0 p (k, j)) := fun _ => rfl
    simp only [hfold] at kQ
    refine zr_iload dX4_row_22 rfl ?_
    refine zr_aload dX4_row_24 rfl ?_
    refine zr_alenI (v := nI es.length) (.new hA) rfl dX4_row_26 ?_
    refine zr_icmp_ge (tgt := 77) dX4_row_27 (by decide) (fun h9 => absurd h9 (Int32.not_le.mpr ((nI_ltI (by omega) (by omega)).mpr hkt))) (fun _ => ?_)
    refine zr_aload dX4_row_30 rfl ?_
    refine zr_iload dX4_row_32 rfl ?_
    refine zr_aload_n dX4_row_34 rfl rfl ?_
    refine zr_iload dX4_row_35 rfl ?_
    refine zr_call1 (rest := [.int (nI k), .ref wb]) (zs_V (As := [.int (nI k)]) (by omega) ok_J2_get q2250 q959 q2840 q56 q960 rfl hfl rfl rfl rfl (Nat.le_of_ble_eq_true rfl) dX4_row_37) (c_J2_get (by omega) hG hL1 (map_at (fun j => kA c0 (rB j)) hx)) ?_
    refine zr_castS (hS1.bx hj) rfl q2084 dX4_row_40 ?_
    refine zr_iconst (v := 0) dX4_row_43 (by decide) ?_
    show zR G yX4_row cX4_row 11 (Option.some Jvm.ClassFile.FieldType.int) [] d 44 [(0, .ref (kA c0 1)), (1, .ref (kA c0 (rB i))), (2, .int (bI b)), (3, .ref l), (4, .ref wb), (5, .int p.2), (6, .int (nI k))] [.int (bI false), .ref (kA c0 (rB j)), .int (nI k), .ref wb] σ1 _
    refine zr_call1 (rest := [.int (nI k), .ref wb]) (zs_S (As := [.ref (kA c0 (rB j)), .int (bI false)]) (by omega) ok_X4_bound q2312 q2313 q77 q2314 rfl rfl (Nat.le_of_ble_eq_true rfl) dX4_row_44) hC2 ?_
    refine zr_iast (f2 := (rwA c0 p (k, j)).1) hA2 (vp_in_nI (by omega) (by omega)) (by rw [nI_clamp (by omega)]; rfl) dX4_row_47 ?_
    have hX3 : zX G S0 σ (sUp σ2 wb (aI G es.length (rwA c0 p (k, j)).1)) (n + KW 24 c0 j) := hX12.upNA hA2 hwb
    have hA3 : sF (sUp σ2 wb (aI G es.length (rwA c0 p (k, j)).1)) wb = some (aI G es.length (rwA c0 p (k, j)).1) := sF_upS _ _ _
    have hT3 : sT (sUp σ2 wb (aI G es.length (rwA c0 p (k, j)).1)) wb = 0 := hT2
    generalize hσ3 : sUp σ2 wb (aI G es.length (rwA c0 p (k, j)).1) = σ3 at hX3 hA3 hT3 ⊢
    have hS3 := hS.keep0 hw hX3
    have hL3 := hX3.L hw hL (fun h => h) (fun h => h)
    obtain ⟨fl3, hfl3⟩ := hL3.A
    have hwk : (rwA c0 p (k, j)).1 k = cW c0 j false := by unfold rwA; simp [upd]
    refine zr_iload dX4_row_48 rfl ?_
    refine zr_aload dX4_row_50 rfl ?_
    refine zr_iload dX4_row_52 rfl ?_
    refine zr_iald (v := .int ((rwA c0 p (k, j)).1 k)) (.new hA3) (vp_in_nI (by omega) (by omega)) (by rw [nI_clamp (by omega)]) dX4_row_54 ?_
    rw [hwk]
    refine zr_aload_n dX4_row_55 rfl rfl ?_
    refine zr_iload dX4_row_56 rfl ?_
    refine zr_call1 (rest := [.int (cW c0 j false), .int p.2]) (zs_V (As := [.int (nI k)]) (by omega) ok_J2_get q2250 q959 q2840 q56 q960 rfl hfl3 rfl rfl rfl (Nat.le_of_ble_eq_true rfl) dX4_row_58) (c_J2_get (by omega) hG hL3 (map_at (fun j => kA c0 (rB j)) hx)) ?_
    refine zr_castS (hS3.bx hj) rfl q2084 dX4_row_61 ?_
    refine zr_call1 (rest := [.int (cW c0 j false), .int p.2]) (zs_V (As := []) (by omega) ok_X5_sides q2337 q2338 q2339 q78 q2340 rfl (hS3.bx hj) rfl rfl rfl (Nat.le_of_ble_eq_true rfl) dX4_row_64) (c_X5_sides hS3 hj) ?_
    refine zr_iadd dX4_row_67 ?_
    refine zr_isub dX4_row_68 ?_
    refine zr_istore (ls2 := [(0, .ref (kA c0 1)), (1, .ref (kA c0 (rB i))), (2, .int (bI b)), (3, .ref l), (4, .ref wb), (5, .int (p.2 - ((cW c0 j false) + (kSides c0 j)))), (6, .int (nI k))]) dX4_row_69 (Nat.le_of_ble_eq_true rfl) rfl ?_
    refine zr_iinc (v := (nI k + 1)) (ls2 := [(0, .ref (kA c0 1)), (1, .ref (kA c0 (rB i))), (2, .int (bI b)), (3, .ref l), (4, .ref wb), (5, .int (p.2 - ((cW c0 j false) + (kSides c0 j)))), (6, .int (nI k + 1))]) dX4_row_71 rfl rfl (Nat.le_of_ble_eq_true rfl) rfl ?_
    rw [show nI k + 1 = nI (k + 1) from nI_1 k]
    refine zr_goto (tgt := 22) dX4_row_74 (by decide) ?_
    refine zr_sub (ls2 := [(0, .ref (kA c0 1)), (1, .ref (kA c0 (rB i))), (2, .int (bI b)), (3, .ref l), (4, .ref wb), (5, .int (p.2 - ((cW c0 j false) + (kSides c0 j)))), (6, .int (nI (k + 1)))]) [0, 1, 2, 3, 4, 5, 6] rfl ?_
    exact ih (k + 1) _ (rwA c0 p (k, j)) σ3 hy2 (by omega) hX3 (by omega) hA3 hT3 kQ
set_option maxHeartbeats 4000000 in
theorem l_X4_row2 {G : zG} {σ : zT} {d : Nat} {c0 : zCS} {th ct : Int32} {i l it : Nat} {mod : Int32} {es : List Nat} {b : Bool} {Q : zO → zT → Prop} (hd : 70 ≤ d) (hG : zOk G) (hw : zGd G σ) (hL : zL G σ (dT l) l mod (es.map (fun j => kA c0 (rB j)))) (hes : ∀ j, j ∈ es → j < kN c0) (hel : es.length ≤ 24) {n : Nat} {hi : Int32} (hi0 : i < kN c0) (hnot : ∀ j, j ∈ es → j ≠ i) (hit : sZ σ ≤ it) : ∀ (ys : List Nat) (k : Nat) (lr : Int32) (p : zCS × Int32) (σ1 : zT), es.drop k = ys → k ≤ es.length → MQe c0 p.1 → zX G SM σ σ1 n → MSys G σ1 p.1 th ct → sF σ1 it = some (.inr (21, [.int (nI k), .int lr, .int mod, .ref l])) → sT σ1 it = 0 → (∀ σ2 x, zX G SM σ σ2 n → MSys G σ2 (ys.foldl (mRx i) p).1 th ct → zR G yX4_row cX4_row 11 (Option.some Jvm.ClassFile.FieldType.int) [] d 210 [(1, .ref (kA c0 (rB i))), (7, .int hi), (8, .int x)] [] σ2 Q) → zR G yX4_row cX4_row 11 (Option.some Jvm.ClassFile.FieldType.int) [] d 141 [(0, .ref (kA c0 1)), (1, .ref (kA c0 (rB i))), (7, .int hi), (8, .int p.2), (9, .ref it)] [] σ1 Q := by
  intro ys
  induction ys with
  | nil =>
    intro k lr p σ1 hy hk hE hX hS hI hT kQ
    have hL1 := hX.L hw hL SM_dT.1 SM_dT.2
    have hkl := drop_nil hy hk
    refine zr_aload dX4_row_141 rfl ?_
    refine zr_call51 (rest := []) (zs_F (As := []) (by omega) okF_J23_hasNext (by decide +kernel) q2324 q927 q929 q84 q931 (.new hI) rfl rfl rfl (Nat.le_of_ble_eq_true rfl) dX4_row_143) (c_hasNext0 hL1 hI (by rw [List.length_map]; exact hkl)) ?_
    refine zr_if_eq (tgt := 210) dX4_row_148 (by decide) (fun _ => ?_) (fun h9 => absurd (rfl) h9)
    refine zr_sub (ls2 := [(1, .ref (kA c0 (rB i))), (7, .int hi), (8, .int p.2)]) [1, 2, 3] rfl ?_
    exact kQ σ1 _ hX hS
  | cons j ys ih =>
    intro k lr p σ1 hy hk hE hX hS hI hT kQ
    have hL1 := hX.L hw hL SM_dT.1 SM_dT.2
    obtain ⟨hx, hy2, hkl, hm⟩ := drop_cons hy
    have hj := hes j hm
    have hX2 := hX.upN (gs := [.int (nI (k + 1)), .int (nI k), .int mod, .ref l]) hI hit
    have hX12 : zX G (fun s => s = 0) σ1 (sUp σ1 it (.inr (21, [.int (nI (k + 1)), .int (nI k), .int mod, .ref l]))) 0 := zX.up hX.gd hI hT
    have hI2 : sF (sUp σ1 it (.inr (21, [.int (nI (k + 1)), .int (nI k), .int mod, .ref l]))) it = _ := sF_upS _ _ _
    have hT2 : sT (sUp σ1 it (.inr (21, [.int (nI (k + 1)), .int (nI k), .int mod, .ref l]))) it = 0 := hT
    generalize hσ2 : sUp σ1 it (.inr (21, [.int (nI (k + 1)), .int (nI k), .int mod, .ref l])) = σ2 at hX2 hX12 hI2 hT2
    have hS2 := hS.keep hX.gd hX12 (fun s h1 h2 h3 => by rw [h3] at h1; omega)
    have hj1 : j < kN p.1 := by rw [hE.n]; exact hj
    have hi1 : i < kN p.1 := by rw [hE.n]; exact hi0
    have hbF : sF σ2 (kA c0 (rB j)) = some (.inr (5, mBx p.1 j)) := hE.2 ▸ hS2.bF hj1
    have hbj : zAt G σ2 (kA c0 (rB j)) (.inr (5, mBx p.1 j)) := .new hbF
    rw [List.foldl_cons] at kQ
    have hS3 : MSys G (sUp σ2 (kA c0 (rB j)) (.inr (5, mBx (kSetP p.1 j 0 (p.2 + kF p.1 j 10)) j))) (kSetP p.1 j 0 (p.2 + kF p.1 j 10)) th ct := hE.2 ▸ hS2.setP (k := 0) hj1 _
    have hX3 : zX G SM σ (sUp σ2 (kA c0 (rB j)) (.inr (5, mBx (kSetP p.1 j 0 (p.2 + kF p.1 j 10)) j))) n := hX2.trans (show zX G SM σ2 _ 0 from hE.2 ▸ hS2.XB hX2.gd hj1 _)
    have hX23 : zX G SM σ2 (sUp σ2 (kA c0 (rB j)) (.inr (5, mBx (kSetP p.1 j 0 (p.2 + kF p.1 j 10)) j))) 0 := hE.2 ▸ hS2.XB hX2.gd hj1 _
    generalize hσ3 : sUp σ2 (kA c0 (rB j)) (.inr (5, mBx (kSetP p.1 j 0 (p.2 + kF p.1 j 10)) j)) = σ3 at hS3 hX3 hX23
    have hbF3 : sF σ3 (kA c0 (rB j)) = some (.inr (5, mBx (kSetP p.1 j 0 (p.2 + kF p.1 j 10)) j)) := hE.2 ▸ hS3.bF hj1
    have hbj3 : zAt G σ3 (kA c0 (rB j)) (.inr (5, mBx (kSetP p.1 j 0 (p.2 + kF p.1 j 10)) j)) := .new hbF3
    have hbi3 : zAt G σ3 (kA c0 (rB i)) (.inr (5, mBx (kSetP p.1 j 0 (p.2 + kF p.1 j 10)) i)) := hE.2 ▸ hS3.bx (i := i) hi1
    have hov9 : zC G I_X5_over (d - 1) [.ref (kA (kSetP p.1 j 0 (p.2 + kF p.1 j 10)) (rB j))] σ3 (.inl (some (.int (mOver (kSetP p.1 j 0 (p.2 + kF p.1 j 10)) j 8)))) σ3 := c_X5_over hS3 hj1
    have hov8 : zC G I_X5_over (d - 1) [.ref (kA p.1 (rB j))] σ3 (.inl (some (.int (mOver p.1 j 8)))) σ3 := hov9
    have hov3 : zC G I_X5_over (d - 1) [.ref (kA c0 (rB j))] σ3 (.inl (some (.int (mOver p.1 j 8)))) σ3 := hE.2 ▸ hov8
    have hS4 : MSys G (sUp σ3 (kA c0 (rB j)) (.inr (5, mBx (kSetP (kSetP p.1 j 0 (p.2 + kF p.1 j 10)) j 1 (kF p.1 i 12 + mOver p.1 j 8)) j))) (kSetP (kSetP p.1 j 0 (p.2 + kF p.1 j 10)) j 1 (kF p.1 i 12 + mOver p.1 j 8)) th ct := hE.2 ▸ hS3.setP (k := 1) hj1 _
    have hX34 : zX G SM σ3 (sUp σ3 (kA c0 (rB j)) (.inr (5, mBx (kSetP (kSetP p.1 j 0 (p.2 + kF p.1 j 10)) j 1 (kF p.1 i 12 + mOver p.1 j 8)) j))) 0 := hE.2 ▸ hS3.XB hX3.gd hj1 _
    generalize hσ4 : sUp σ3 (kA c0 (rB j)) (.inr (5, mBx (kSetP (kSetP p.1 j 0 (p.2 + kF p.1 j 10)) j 1 (kF p.1 i 12 + mOver p.1 j 8)) j)) = σ4 at hS4 hX34
    have hbj4 : zAt G σ4 (kA c0 (rB j)) (.inr (5, mBx (kSetP (kSetP p.1 j 0 (p.2 + kF p.1 j 10)) j 1 (kF p.1 i 12 + mOver p.1 j 8)) j)) := hE.2 ▸ hS4.bx (i := j) hj1
    have hsd9 : zC G I_X5_sides (d - 1) [.ref (kA (kSetP (kSetP p.1 j 0 (p.2 + kF p.1 j 10)) j 1 (kF p.1 i 12 + mOver p.1 j 8)) (rB j))] σ4 (.inl (some (.int (kSides (kSetP (kSetP p.1 j 0 (p.2 + kF p.1 j 10)) j 1 (kF p.1 i 12 + mOver p.1 j 8)) j)))) σ4 := c_X5_sides hS4 hj1
    have hsd8 : zC G I_X5_sides (d - 1) [.ref (kA p.1 (rB j))] σ4 (.inl (some (.int (kSides p.1 j)))) σ4 := hsd9
    have hsd4 : zC G I_X5_sides (d - 1) [.ref (kA c0 (rB j))] σ4 (.inl (some (.int (kSides p.1 j)))) σ4 := hE.2 ▸ hsd8
    have hI3 := hX23.f hX2.gd hI2 (by rw [hT2]; exact SM_0)
    have hT3 := (hX23.t hX2.gd hI2).trans hT2
    have hw4 : kP (kSetP (kSetP p.1 j 0 (p.2 + kF p.1 j 10)) j 1 (kF p.1 i 12 + mOver p.1 j 8)) j 2 = kP p.1 j 2 := by
      show up2 (up2 (kP p.1) j 0 _) j 1 _ j 2 = kP p.1 j 2
      rw [up2_b _ _ _ (by decide), up2_b _ _ _ (by decide)]
    refine zr_aload dX4_row_141 rfl ?_
    refine zr_call51 (rest := []) (zs_F (As := []) (by omega) okF_J23_hasNext (by decide +kernel) q2324 q927 q929 q84 q931 (.new hI) rfl rfl rfl (Nat.le_of_ble_eq_true rfl) dX4_row_143) (c_hasNext1 hL1 hI (by rw [List.length_map]; exact hkl)) ?_
    refine zr_if_eq (tgt := 210) dX4_row_148 (by decide) (fun h9 => absurd h9 (by decide)) (fun _ => ?_)
    refine zr_aload dX4_row_151 rfl ?_
    refine zr_call51 (rest := []) (zs_F (As := []) (by omega) okF_J23_next (by decide +kernel) q2326 q1044 q1046 q84 q1048 (.new hI) rfl rfl rfl (Nat.le_of_ble_eq_true rfl) dX4_row_153) (c_J23_next (by omega) hG hL1 hI (map_at (fun j => kA c0 (rB j)) hx)) ?_
    rw [hσ2]
    refine zr_castS hbj rfl q2084 dX4_row_158 ?_
    refine zr_astore (ls2 := [(0, .ref (kA c0 1)), (1, .ref (kA c0 (rB i))), (7, .int hi), (8, .int p.2), (9, .ref it), (10, .ref (kA c0 (rB j)))]) dX4_row_161 (Nat.le_of_ble_eq_true rfl) rfl ?_
    refine zr_aload dX4_row_163 rfl ?_
    refine zr_iload dX4_row_165 rfl ?_
    refine zr_aload dX4_row_167 rfl ?_
    refine zr_get (k := 11) (v := .int (kF p.1 j 10)) in_X5 hbj rfl (Nat.le_of_ble_eq_true rfl) q2115 (.inl rfl) rfl dX4_row_169 ?_
    refine zr_iadd dX4_row_172 ?_
    refine zr_put (k := 27) (fs' := (mBx (kSetP p.1 j 0 (p.2 + kF p.1 j 10)) j)) zt_X5 hbF rfl (Nat.le_of_ble_eq_true rfl) q2147 (.inl rfl) rfl rfl rfl (Nat.le_of_ble_eq_true rfl) (mBx_P0 _ _ _) dX4_row_173 ?_
    rw [hσ3]
    refine zr_aload dX4_row_176 rfl ?_
    refine zr_aload_n dX4_row_178 rfl rfl ?_
    refine zr_get (k := 13) (v := .int (kF p.1 i 12)) in_X5 hbi3 rfl (Nat.le_of_ble_eq_true rfl) q2119 (.inl rfl) rfl dX4_row_179 ?_
    refine zr_aload dX4_row_182 rfl ?_
    refine zr_call1 (rest := [.int (kF p.1 i 12), .ref (kA c0 (rB j))]) (zs_V (As := []) (by omega) ok_X5_over q2377 q2378 q2379 q78 q2380 rfl hbj3 rfl rfl rfl (Nat.le_of_ble_eq_true rfl) dX4_row_184) hov3 ?_
    refine zr_iadd dX4_row_187 ?_
    refine zr_put (k := 28) (fs' := (mBx (kSetP (kSetP p.1 j 0 (p.2 + kF p.1 j 10)) j 1 (kF p.1 i 12 + mOver p.1 j 8)) j)) zt_X5 hbF3 rfl (Nat.le_of_ble_eq_true rfl) q2149 (.inl rfl) rfl rfl rfl (Nat.le_of_ble_eq_true rfl) (mBx_P1 _ _ _) dX4_row_188 ?_
    rw [hσ4]
    refine zr_iload dX4_row_191 rfl ?_
    refine zr_aload dX4_row_193 rfl ?_
    refine zr_get (k := 29) (v := .int (kP (kSetP (kSetP p.1 j 0 (p.2 + kF p.1 j 10)) j 1 (kF p.1 i 12 + mOver p.1 j 8)) j 2)) in_X5 hbj4 rfl (Nat.le_of_ble_eq_true rfl) q2151 (.inl rfl) rfl dX4_row_195 ?_
    refine zr_aload dX4_row_198 rfl ?_
    rw [hw4]
    refine zr_call1 (rest := [.int (kP p.1 j 2), .int p.2]) (zs_V (As := []) (by omega) ok_X5_sides q2337 q2338 q2339 q78 q2340 rfl hbj4 rfl rfl rfl (Nat.le_of_ble_eq_true rfl) dX4_row_200) hsd4 ?_
    refine zr_iadd dX4_row_203 ?_
    refine zr_iadd dX4_row_204 ?_
    refine zr_istore (ls2 := [(0, .ref (kA c0 1)), (1, .ref (kA c0 (rB i))), (7, .int hi), (8, .int (p.2 + ((kP p.1 j 2) + (kSides p.1 j)))), (9, .ref it), (10, .ref (kA c0 (rB j)))]) dX4_row_205 (Nat.le_of_ble_eq_true rfl) rfl ?_
    refine zr_goto (tgt := 141) dX4_row_207 (by decide) ?_
    refine zr_sub (ls2 := [(0, .ref (kA c0 1)), (1, .ref (kA c0 (rB i))), (7, .int hi), (8, .int (p.2 + ((kP p.1 j 2) + (kSides p.1 j)))), (9, .ref it)]) [0, 1, 2, 3, 4] rfl ?_
    exact ih (k + 1) _ (mRx i p j) σ4 hy2 (by omega) (hE.trans (MQe.Rx i p j)) (hX3.trans hX34) hS4 (hX34.f hX3.gd hI3 (by rw [hT3]; exact SM_0)) ((hX34.t hX3.gd hI3).trans hT3) kQ
set_option maxHeartbeats 4000000 in
theorem c_X4_row {G : zG} {σ : zT} {d : Nat} {c : zCS} {th ct : Int32} {i f : Nat} {b : Bool} {L : LM} (hd : 80 ≤ d) (hG : zOk G) (hw : zGd G σ) (hS : MSys G σ c th ct) (hi : i < kN c) (hf : kN c ≤ f + 1 + i) (hLM : HLM G th L f (d - 2)) : zCall G I_X4_row d [.ref (kA c 1), .ref (kA c (rB i)), .int (bI b)] σ ((fun o σ' => o = .inl (some (.int (mRow L (c, ct) i b).2)) ∧ MSys G σ' (mRow L (c, ct) i b).1.1 th (mRow L (c, ct) i b).1.2 ∧ zX G SM σ σ' (1000 + 62 * (kCh c i).length + ((kItemsOf c i).map (fun j => KW 24 c j)).sum + ((kItemsOf c i).map (fun j => KW 24 c j)).sum + ((kItemsOf c i).map (fun j => LB f c j)).sum))) := by
  refine zCall_of (ls := [(0, .ref (kA c 1)), (1, .ref (kA c (rB i))), (2, .int (bI b))]) (by decide) (Nat.le_of_ble_eq_true rfl) rfl ?_
  have hle := hS.le
  have hchl := hS.chl hi
  have hfl := List.length_filter_le (fun j => !kLifted c j) (kCh c i)
  have hel : (kItemsOf c i).length ≤ 24 := Nat.le_trans hfl hchl
  have hes : ∀ j, j ∈ kItemsOf c i → j < kN c ∧ kN c ≤ f + j := fun j hj => by
    have h9 := hS.ch hi (List.mem_filter.mp hj).1
    exact ⟨h9.2, by omega⟩
  have hni : ∀ j, j ∈ kItemsOf c i → j ≠ i := fun j hj => by
    have h9 := hS.ch hi (List.mem_filter.mp hj).1
    omega
  obtain ⟨_, σ1, ⟨l, mod, rfl, hlz, hL1, hX1⟩, hC1⟩ := c_X4_items (d := d - 1) (by omega) hG hw hS hi
  have hS1 := hS.keep0 hw hX1
  obtain ⟨fl1, hfl1⟩ := hL1.A
  obtain ⟨es, hese⟩ : ∃ es, es = kItemsOf c i := ⟨_, rfl⟩
  rw [← hese] at hel hes hL1 hni
  refine zr_aload_n dX4_row_0 rfl rfl ?_
  refine zr_call1 (rest := []) (zs_S (As := [.ref (kA c (rB i))]) (by omega) ok_X4_items q2501 q2502 q77 q2503 rfl rfl (Nat.le_of_ble_eq_true rfl) dX4_row_1) hC1 ?_
  refine zr_astore_n (ls2 := [(0, .ref (kA c 1)), (1, .ref (kA c (rB i))), (2, .int (bI b)), (3, .ref l)]) dX4_row_4 rfl (Nat.le_of_ble_eq_true rfl) rfl ?_
  refine zr_aload_n dX4_row_5 rfl rfl ?_
  refine zr_call1 (rest := []) (zs_V (As := []) (by omega) ok_J2_size q2246 q164 q2839 q56 q166 rfl hfl1 rfl rfl rfl (Nat.le_of_ble_eq_true rfl) dX4_row_6) (c_size (m := es.length) (by omega) hL1 (List.length_map _)) ?_
  refine zr_newaI (N' := es.length) 0 q1302 (nI_pos (by omega)) (nI_clamp (by omega)) (by omega) dX4_row_9 ?_
  have hX12 := zX.new S0 hX1.gd 0 (by omega) (aI G es.length (fun _ => 0)) es.length
  have hA2 : sF (sNew σ1 0 (aI G es.length (fun _ => 0)) es.length) (sZ σ1) = some (aI G es.length (fun _ => 0)) := sF_newS _ _ _ _
  have hT2 : sT (sNew σ1 0 (aI G es.length (fun _ => 0)) es.length) (sZ σ1) = 0 := sT_newS _ _ _ _
  generalize hσ2 : sNew σ1 0 (aI G es.length (fun _ => 0)) es.length = σ2 at hX12 hA2 hT2 ⊢
  obtain ⟨wb, hwb9⟩ : ∃ z, z = sZ σ1 := ⟨_, rfl⟩
  rw [← hwb9] at hA2 hT2 ⊢
  have hX2 := hX1.trans hX12
  have hS2 := hS.keep0 hw hX2
  have hL2 := hX12.L hX1.gd hL1 (fun h => h) (fun h => h)
  refine zr_astore (ls2 := [(0, .ref (kA c 1)), (1, .ref (kA c (rB i))), (2, .int (bI b)), (3, .ref l), (4, .ref wb)]) dX4_row_11 (Nat.le_of_ble_eq_true rfl) rfl ?_
  refine zr_aload_n dX4_row_13 rfl rfl ?_
  refine zr_call1 (rest := []) (zs_S (As := [.ref (kA c (rB i))]) (by omega) ok_X4_inner q2361 q2362 q77 q2363 rfl rfl (Nat.le_of_ble_eq_true rfl) dX4_row_14) (c_X4_innerB (by omega) (hS2.bx hi)) ?_
  refine zr_istore (ls2 := [(0, .ref (kA c 1)), (1, .ref (kA c (rB i))), (2, .int (bI b)), (3, .ref l), (4, .ref wb), (5, .int (kInner c i))]) dX4_row_17 (Nat.le_of_ble_eq_true rfl) rfl ?_
  refine zr_iconst (v := 0) dX4_row_19 (by decide) ?_
  refine zr_istore (ls2 := [(0, .ref (kA c 1)), (1, .ref (kA c (rB i))), (2, .int (bI b)), (3, .ref l), (4, .ref wb), (5, .int (kInner c i)), (6, .int 0)]) dX4_row_20 (Nat.le_of_ble_eq_true rfl) rfl ?_
  refine l_X4_row1 (σ := σ1) (N := es.length + 4 + (es.map (fun j => KW 24 c j)).sum) (by omega) hG hX1.gd hL1 (fun j hj => (hes j hj).1) hel hS1 (by omega) es 0 _ (fun _ => 0, kInner c i) σ2 rfl (Nat.zero_le _) hX12 (by omega) hA2 hT2 (fun σ3 hX3 hA3 hT3 => ?_)
  have hX13 := hX1.trans hX3
  have hS3 := hS.keep0 hw hX13
  have hL3 := hX3.L hX1.gd hL1 (fun h => h) (fun h => h)
  obtain ⟨fl3, hfl3⟩ := hL3.A
  show zR G yX4_row cX4_row 11 (Option.some Jvm.ClassFile.FieldType.int) [] d 77 [(0, .ref (kA c 1)), (1, .ref (kA c (rB i))), (2, .int (bI b)), (3, .ref l), (4, .ref wb), (5, .int ((nums es 0).foldl (rwA c) (fun _ => 0, kInner c i)).2)] [] σ3 _
  have key113 : ∀ (wc : Nat) (σ4 : zT), zX G S0 σ3 σ4 (900 + (es.map (fun j => KW 24 c j)).sum) → sF σ4 wc = some (aI G es.length (mRowW c i)) → sT σ4 wc = 0 → sF σ4 wb = some (aI G es.length ((nums es 0).foldl (rwA c) (fun _ => 0, kInner c i)).1) → zR G yX4_row cX4_row 11 (Option.some Jvm.ClassFile.FieldType.int) [] d 113 [(0, .ref (kA c 1)), (1, .ref (kA c (rB i))), (2, .int (bI b)), (3, .ref l), (4, .ref wb), (5, .int ((nums es 0).foldl (rwA c) (fun _ => 0, kInner c i)).2)] [.ref wc] σ4 (fun o σ' => o = .inl (some (.int (mRow L (c, ct) i b).2)) ∧ MSys G σ' (mRow L (c, ct) i b).1.1 th (mRow L (c, ct) i b).1.2 ∧ zX G SM σ σ' (1000 + 62 * (kCh c i).length + ((kItemsOf c i).map (fun j => KW 24 c j)).sum + ((kItemsOf c i).map (fun j => KW 24 c j)).sum + ((kItemsOf c i).map (fun j => LB f c j)).sum)) := by
    intro wc σ4 hX34 hA4 hT4 hB4
    have hX14 := hX13.trans hX34
    have hS4 := hS.keep0 hw hX14
    have hL4 := hX34.L hX3.gd hL3 (fun h => h) (fun h => h)
    obtain ⟨fl4, hfl4⟩ := hL4.A
    obtain ⟨_, σ5, ⟨rfl, hS5, hX5⟩, hC5⟩ := c_X4_inRow (fr := 0) (to := es.length) (b := b) (d := d - 1) (f := f) (by omega) hG hX14.gd hL4 hes hel (Nat.le_refl _) hA4 hT4 hS4 (Nat.zero_le _) (L := L) hLM
    have htk : (es.drop 0).take (es.length - 0) = es := by rw [List.drop_zero, Nat.sub_zero, List.take_length]
    rw [htk] at hS5 hX5
    obtain ⟨R, hR⟩ : ∃ R, R = mRn L b (mRowW c i) (c, ct) es 0 := ⟨_, rfl⟩
    rw [← hR] at hS5
    have hE5 : MQe c R.1.1 := by rw [hR]; exact MQe.Rn hLM.1 b _ (c, ct) es 0
    have hX15 := hX14.in.trans hX5
    have hL5 := hX5.L hX14.gd hL4 SM_dT.1 SM_dT.2
    obtain ⟨fl5, hfl5⟩ := hL5.A
    have hi5 : i < kN R.1.1 := by rw [hE5.n]; exact hi
    have hbi5 : zAt G σ5 (kA c (rB i)) (.inr (5, mBx R.1.1 i)) := hE5.2 ▸ hS5.bx hi5
    have hpad : kF R.1.1 i 12 = kF c i 12 := hE5.1.f i 12 (by decide)
    have hrow : mRow L (c, ct) i b = (((es.foldl (mRx i) (R.1.1, kF c i 12)).1, R.1.2), R.2 + 2 * kF c i 12) := by rw [hR, hese]; rfl
    have hrv : (mRn L b (mRowW c i) (c, ct) ((es.drop 0).take (es.length - 0)) 0).2 = R.2 := by rw [htk, ← hR]
    refine zr_astore (ls2 := [(0, .ref (kA c 1)), (1, .ref (kA c (rB i))), (2, .int (bI b)), (3, .ref l), (4, .ref wb), (5, .int ((nums es 0).foldl (rwA c) (fun _ => 0, kInner c i)).2), (6, .ref wc)]) dX4_row_113 (Nat.le_of_ble_eq_true rfl) rfl ?_
    refine zr_aload_n dX4_row_115 rfl rfl ?_
    refine zr_aload_n dX4_row_116 rfl rfl ?_
    refine zr_aload dX4_row_117 rfl ?_
    refine zr_iconst (v := 0) dX4_row_119 (by decide) ?_
    refine zr_aload dX4_row_120 rfl ?_
    refine zr_alenI (v := nI es.length) (.new hB4) rfl dX4_row_122 ?_
    refine zr_iload_n dX4_row_123 rfl rfl ?_
    have hC5 : zC G I_X4_inRow (d - 1) [.ref (kA c 1), .ref l, .ref wc, .int 0, .int (nI es.length), .int (bI b)] σ4 (.inl (some (.int (mRn L b (mRowW c i) (c, ct) ((es.drop 0).take (es.length - 0)) 0).2))) σ5 := hC5
    rw [hrv] at hC5
    refine zr_call1 (rest := []) (zs_V (As := [.ref l, .ref wc, .int 0, .int (nI es.length), .int (bI b)]) (by omega) ok_X4_inRow q2515 q2517 qs45 q77 q2518 rfl hS4.one rfl rfl rfl (Nat.le_of_ble_eq_true rfl) dX4_row_124) hC5 ?_
    refine zr_istore (ls2 := [(0, .ref (kA c 1)), (1, .ref (kA c (rB i))), (2, .int (bI b)), (3, .ref l), (4, .ref wb), (5, .int ((nums es 0).foldl (rwA c) (fun _ => 0, kInner c i)).2), (6, .ref wc), (7, .int R.2)]) dX4_row_127 (Nat.le_of_ble_eq_true rfl) rfl ?_
    refine zr_aload_n dX4_row_129 rfl rfl ?_
    refine zr_get (k := 13) (v := .int (kF R.1.1 i 12)) in_X5 hbi5 rfl (Nat.le_of_ble_eq_true rfl) q2119 (.inl rfl) rfl dX4_row_130 ?_
    rw [hpad]
    refine zr_istore (ls2 := [(0, .ref (kA c 1)), (1, .ref (kA c (rB i))), (2, .int (bI b)), (3, .ref l), (4, .ref wb), (5, .int ((nums es 0).foldl (rwA c) (fun _ => 0, kInner c i)).2), (6, .ref wc), (7, .int R.2), (8, .int (kF c i 12))]) dX4_row_133 (Nat.le_of_ble_eq_true rfl) rfl ?_
    refine zr_aload_n dX4_row_135 rfl rfl ?_
    refine zr_call1 (rest := []) (zs_V (As := []) (by omega) ok_J2_iterator q2322 q834 q2841 q56 q836 rfl hfl5 rfl rfl rfl (Nat.le_of_ble_eq_true rfl) dX4_row_136) (c_J2_iterator (by omega) hX5.gd.1 hL5) ?_
    refine zr_astore (ls2 := [(0, .ref (kA c 1)), (1, .ref (kA c (rB i))), (2, .int (bI b)), (3, .ref l), (4, .ref wb), (5, .int ((nums es 0).foldl (rwA c) (fun _ => 0, kInner c i)).2), (6, .ref wc), (7, .int R.2), (8, .int (kF c i 12)), (9, .ref (sZ σ5))]) dX4_row_139 (Nat.le_of_ble_eq_true rfl) rfl ?_
    refine zr_sub (ls2 := [(0, .ref (kA c 1)), (1, .ref (kA c (rB i))), (7, .int R.2), (8, .int (kF c i 12)), (9, .ref (sZ σ5))]) [0, 1, 7, 8, 9] rfl ?_
    have hXn := zX.new S0 hX5.gd 0 (by omega) (.inr (21, [.int 0, .int (-1), .int mod, .ref l])) 4
    refine l_X4_row2 (b := b) (σ := σ5) (n := 8) (by omega) hG hX5.gd hL5 (fun j hj => (hes j hj).1) hel hi hni (Nat.le_refl _) es 0 (-1) (R.1.1, kF c i 12) _ rfl (Nat.zero_le _) hE5 hXn.in (hS5.keep0 hX5.gd hXn) (sF_newS _ _ _ _) (sT_newS _ _ _ _) (fun σ6 x6 hX6 hS6 => ?_)
    have hE6 : MQe c (es.foldl (mRx i) (R.1.1, kF c i 12)).1 := hE5.trans (MQe.fold (fun p : zCS × Int32 => p.1) (mRx i) (fun p j => MQe.Rx i p j) es (R.1.1, kF c i 12))
    have hi6 : i < kN (es.foldl (mRx i) (R.1.1, kF c i 12)).1 := by rw [hE6.n]; exact hi
    have hbi6 : zAt G σ6 (kA c (rB i)) (.inr (5, mBx (es.foldl (mRx i) (R.1.1, kF c i 12)).1 i)) := hE6.2 ▸ hS6.bx hi6
    have hpad6 : kF (es.foldl (mRx i) (R.1.1, kF c i 12)).1 i 12 = kF c i 12 := hE6.1.f i 12 (by decide)
    rw [hrow]
    refine zr_iload dX4_row_210 rfl ?_
    refine zr_iconst (v := 2) dX4_row_212 (by decide) ?_
    refine zr_aload_n dX4_row_213 rfl rfl ?_
    refine zr_get (k := 13) (v := .int (kF (es.foldl (mRx i) (R.1.1, kF c i 12)).1 i 12)) in_X5 hbi6 rfl (Nat.le_of_ble_eq_true rfl) q2119 (.inl rfl) rfl dX4_row_214 ?_
    rw [hpad6]
    refine zr_imul dX4_row_217 ?_
    refine zr_iadd dX4_row_218 ?_
    exact zr_iret rfl rfl dX4_row_219 (⟨rfl, hS6, (hX15.trans hX6).le (by rw [← hese]; omega)⟩)
  have hrw : mRowW c i = if 0 < ((nums es 0).foldl (rwA c) (fun _ => 0, kInner c i)).2 then cGrow c es ((nums es 0).foldl (rwA c) (fun _ => 0, kInner c i)).2 ((nums es 0).foldl (rwA c) (fun _ => 0, kInner c i)).1 else if ((nums es 0).foldl (rwA c) (fun _ => 0, kInner c i)).2 < 0 then mShrunk c es (kInner c i) ((nums es 0).foldl (rwA c) (fun _ => 0, kInner c i)).1 else ((nums es 0).foldl (rwA c) (fun _ => 0, kInner c i)).1 := by rw [hese]; rfl
  refine zr_iload dX4_row_77 rfl ?_
  refine zr_if_le (tgt := 93) dX4_row_79 (by decide) (fun h1 => ?_) (fun h1 => ?_)
  · have h1' : ¬ 0 < ((nums es 0).foldl (rwA c) (fun _ => 0, kInner c i)).2 := by first | exact h1 | exact Int32.not_lt.mpr h1
    refine zr_iload dX4_row_93 rfl ?_
    refine zr_if_ge (tgt := 111) dX4_row_95 (by decide) (fun h2 => ?_) (fun h2 => ?_)
    · have h2' : ¬ ((nums es 0).foldl (rwA c) (fun _ => 0, kInner c i)).2 < 0 := by first | exact h2 | exact Int32.not_lt.mpr h2
      refine zr_aload dX4_row_111 rfl ?_
      exact key113 wb σ3 (zX.rf _ hX13.gd _) (by rw [hrw, if_neg h1', if_neg h2']; exact hA3) hT3 hA3
    · have h2' : ((nums es 0).foldl (rwA c) (fun _ => 0, kInner c i)).2 < 0 := by first | exact h2 | exact Int32.not_le.mp h2
      obtain ⟨_, σ4, ⟨wc, rfl, hwc, hA4, hT4, hX4⟩, hC4⟩ := c_X4_shrunk (inner := kInner c i) (d := d - 1) (by omega) hG hX13.gd hS3 hL3 (fun j hj => (hes j hj).1) hel (.new hA3)
      refine zr_aload_n dX4_row_98 rfl rfl ?_
      refine zr_aload dX4_row_99 rfl ?_
      refine zr_aload_n dX4_row_101 rfl rfl ?_
      refine zr_call1 (rest := [.ref wb, .ref l]) (zs_S (As := [.ref (kA c (rB i))]) (by omega) ok_X4_inner q2361 q2362 q77 q2363 rfl rfl (Nat.le_of_ble_eq_true rfl) dX4_row_102) (c_X4_innerB (by omega) (hS3.bx hi)) ?_
      refine zr_call1 (rest := []) (zs_S (As := [.ref l, .ref wb, .int (kInner c i)]) (by omega) ok_X4_shrunk q2512 q2513 q77 q2514 rfl rfl (Nat.le_of_ble_eq_true rfl) dX4_row_105) hC4 ?_
      refine zr_goto (tgt := 113) dX4_row_108 (by decide) ?_
      exact key113 wc σ4 (hX4.le (by omega)) (by rw [hrw, if_neg h1', if_pos h2']; exact hA4) hT4 (hX4.f hX13.gd hA3 (fun h => h))
  · have h1' : 0 < ((nums es 0).foldl (rwA c) (fun _ => 0, kInner c i)).2 := by first | exact h1 | exact Int32.not_le.mp h1
    obtain ⟨_, σ4, ⟨wc, rfl, hwc, hA4, hT4, hX4⟩, hC4⟩ := c_X4_grown (free := ((nums es 0).foldl (rwA c) (fun _ => 0, kInner c i)).2) (d := d - 1) (by omega) hG hX13.gd hS3 hL3 (fun j hj => (hes j hj).1) hel (.new hA3)
    refine zr_aload_n dX4_row_82 rfl rfl ?_
    refine zr_aload dX4_row_83 rfl ?_
    refine zr_iload dX4_row_85 rfl ?_
    refine zr_call1 (rest := []) (zs_S (As := [.ref l, .ref wb, .int ((nums es 0).foldl (rwA c) (fun _ => 0, kInner c i)).2]) (by omega) ok_X4_grown q2504 q2505 q77 q2506 rfl rfl (Nat.le_of_ble_eq_true rfl) dX4_row_87) hC4 ?_
    refine zr_goto (tgt := 113) dX4_row_90 (by decide) ?_
    exact key113 wc σ4 (hX4.le (by omega)) (by rw [hrw, if_pos h1']; exact hA4) hT4 (hX4.f hX13.gd hA3 (fun h => h))
