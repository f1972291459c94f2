/-! ===== the component: isConsistent, second loop (rows printed by tools/p99.py) ===== -/
set_option maxHeartbeats 4000000 in
theorem l_X1_conL {G : zG} {σ : zT} {d m : Nat} {t0 pl ly it b p iw t l : Nat} {r mod : Int32} {xs : List Nat} {ls : List (Int32 × Int32 × Int32)} {Q : zO → zT → Prop} (hd : 6 ≤ d) (hG : zOk G) (hw : zGd G σ) (hl : zL G σ t l mod xs) (hlen : xs.length = ls.length) (hls : ∀ (j q : Nat) (z : Int32 × Int32 × Int32), xs[j]? = some q → ls[j]? = some z → sF σ q = some (.inr (11, [.int z.1, .int z.2.1, .int z.2.2]))) (hit : sZ σ ≤ iw) : ∀ (ys : List (Int32 × Int32 × Int32)) (k : Nat) (lr s : Int32) (σ1 : zT), ls.drop k = ys → k ≤ ls.length → zX G S0 σ σ1 m → sF σ1 iw = some (.inr (21, [.int (nI k), .int lr, .int mod, .ref l])) → (∀ σ2, zX G S0 σ σ2 m → zR G yX1_isConsistent cX1_isConsistent 10 (Option.some Jvm.ClassFile.FieldType.boolean) [] d 191 [(0, .ref t0), (1, .ref pl), (2, .ref ly), (3, .int r), (4, .ref it), (5, .ref b), (6, .ref p), (7, .int (lsum ys s))] [] σ2 Q) → zR G yX1_isConsistent cX1_isConsistent 10 (Option.some Jvm.ClassFile.FieldType.boolean) [] d 156 [(0, .ref t0), (1, .ref pl), (2, .ref ly), (3, .int r), (4, .ref it), (5, .ref b), (6, .ref p), (7, .int s), (8, .ref iw)] [] σ1 Q := by
  intro ys
  induction ys with
  | nil =>
    intro k lr s σ1 hy hk hX hI kQ
    have hL1 := hX.L hw hl (fun h => h) (fun h => h)
    have hkl := drop_nil hy hk
    refine zr_aload dX1_isConsistent_156 rfl ?_
    refine zr_call51 (rest := []) (zs_F (As := []) (by omega) okF_J23_hasNext (by decide +kernel) q916 q927 q929 q84 q931 (.new hI) rfl rfl rfl (Nat.le_of_ble_eq_true rfl) dX1_isConsistent_158) (c_hasNext0 hL1 hI (by omega)) ?_
    refine zr_if_eq (tgt := 191) dX1_isConsistent_163 (by decide) (fun _ => ?_) (fun h9 => absurd (rfl) h9)
    refine zr_sub (ls2 := [(0, .ref t0), (1, .ref pl), (2, .ref ly), (3, .int r), (4, .ref it), (5, .ref b), (6, .ref p), (7, .int s)]) [0, 1, 2, 3, 4, 5, 6, 7] rfl ?_
    exact kQ σ1 hX
  | cons z ys ih =>
    intro k lr s σ1 hy hk hX hI kQ
    have hL1 := hX.L hw hl (fun h => h) (fun h => h)
    obtain ⟨hx, hy2, hkl, hm⟩ := drop_cons hy
    obtain ⟨q, hq⟩ : ∃ q, xs[k]? = some q := ⟨_, List.getElem?_eq_getElem (by omega)⟩
    have hqf := hls k q z hq hx
    have hX2 := hX.upN (gs := [.int (nI (k + 1)), .int (nI k), .int mod, .ref l]) hI hit
    have hI2 : sF (sUp σ1 iw (.inr (21, [.int (nI (k + 1)), .int (nI k), .int mod, .ref l]))) iw = _ := sF_upS _ _ _
    generalize hσ2 : sUp σ1 iw (.inr (21, [.int (nI (k + 1)), .int (nI k), .int mod, .ref l])) = σ2 at hX2 hI2
    have hqz : zAt G σ2 q (.inr (11, [.int z.1, .int z.2.1, .int z.2.2])) := .new (hX2.f hw hqf (fun h => h))
    have e9 : lsum (z :: ys) s = lsum ys (s + z.2.2) := rfl
    rw [e9] at kQ
    refine zr_aload dX1_isConsistent_156 rfl ?_
    refine zr_call51 (rest := []) (zs_F (As := []) (by omega) okF_J23_hasNext (by decide +kernel) q916 q927 q929 q84 q931 (.new hI) rfl rfl rfl (Nat.le_of_ble_eq_true rfl) dX1_isConsistent_158) (c_hasNext1 hL1 hI (by omega)) ?_
    refine zr_if_eq (tgt := 191) dX1_isConsistent_163 (by decide) (fun h9 => absurd h9 (by decide)) (fun _ => ?_)
    refine zr_aload dX1_isConsistent_166 rfl ?_
    refine zr_call51 (rest := []) (zs_F (As := []) (by omega) okF_J23_next (by decide +kernel) q942 q1044 q1046 q84 q1048 (.new hI) rfl rfl rfl (Nat.le_of_ble_eq_true rfl) dX1_isConsistent_168) (c_J23_next (by omega) hG hL1 hI hq) ?_
    rw [hσ2]
    refine zr_castS hqz rfl q1588 dX1_isConsistent_173 ?_
    refine zr_astore (ls2 := [(0, .ref t0), (1, .ref pl), (2, .ref ly), (3, .int r), (4, .ref it), (5, .ref b), (6, .ref p), (7, .int s), (8, .ref iw), (9, .ref q)]) dX1_isConsistent_176 (Nat.le_of_ble_eq_true rfl) rfl ?_
    refine zr_iload dX1_isConsistent_178 rfl ?_
    refine zr_aload dX1_isConsistent_180 rfl ?_
    refine zr_call1 (rest := [.int s]) (zs_V (As := []) (by omega) ok_X11_words q1589 q1485 q1486 q96 q1487 rfl hqz rfl rfl rfl (Nat.le_of_ble_eq_true rfl) dX1_isConsistent_182) (c_X11_words hqz) ?_
    refine zr_iadd dX1_isConsistent_185 ?_
    refine zr_istore (ls2 := [(0, .ref t0), (1, .ref pl), (2, .ref ly), (3, .int r), (4, .ref it), (5, .ref b), (6, .ref p), (7, .int (s + z.2.2)), (8, .ref iw), (9, .ref q)]) dX1_isConsistent_186 (Nat.le_of_ble_eq_true rfl) rfl ?_
    refine zr_goto (tgt := 156) dX1_isConsistent_188 (by decide) ?_
    refine zr_sub (ls2 := [(0, .ref t0), (1, .ref pl), (2, .ref ly), (3, .int r), (4, .ref it), (5, .ref b), (6, .ref p), (7, .int (s + z.2.2)), (8, .ref iw)]) [0, 1, 2, 3, 4, 5, 6, 7, 8] rfl ?_
    exact ih (k + 1) _ _ σ2 hy2 hkl hX2 hI2 kQ
set_option maxHeartbeats 4000000 in
theorem l_X1_conC {G : zG} {σ0 : zT} {d : Nat} {c0 c2 : zCS} {pl ly it N : Nat} {mod : Int32} (hd : 14 ≤ d) (hG : zOk G) (hw0 : zGd G σ0) (hS0 : CSys G σ0 c0) (hit : sZ σ0 ≤ it) : ∀ (ys : List Nat) (k m : Nat) (lr : Int32) (r : Bool) (c : zCS) (σ1 : zT), (List.range (kN c0)).drop k = ys → k ≤ kN c0 → KEq c0 c → kF c = kF c0 → (∀ j, j < k → kA c (rP j) = kA c0 (rP j) ∧ kA c (rL j) = kA c0 (rL j) ∧ (∀ t, kP c j t = kP c0 j t) ∧ kLn c j = kLn c0 j) → (∀ j, k ≤ j → kP c j = kP c2 j ∧ kLn c j = kLn c2 j) → zXr G (kN c0) σ0 σ1 m → (∀ i, i < kN c0 → Old (if i < k then 0 else 4000) σ0 σ1 i) → CSys G σ1 c → zL G σ1 (dT pl) pl mod ((List.range (kN c0)).map (fun j => kA c0 (rP j))) → m + 8 * ys.length ≤ N → sF σ1 it = some (.inr (21, [.int (nI k), .int lr, .int (kM c0 2), .ref (kA c0 2)])) → sT σ1 it = 0 → zR G yX1_isConsistent cX1_isConsistent 10 (Option.some Jvm.ClassFile.FieldType.boolean) [] d 103 [(0, .ref (kA c0 1)), (1, .ref pl), (2, .ref ly), (3, .int (bI r)), (4, .ref it)] [] σ1 (fun o σ' => o = .inl (some (.int (bI (ys.foldl (fun r j => r && okB c0 c2 j) r)))) ∧ CSys G σ' c0 ∧ zX G SC σ0 σ' N) := by
  have hle := hS0.le
  intro ys
  induction ys with
  | nil =>
    intro k m lr r c σ1 hy hk hE hF hR hK hX hO hS hL hN hI hT
    have hL1 : zL G σ1 2 (kA c0 2) (kM c0 2) ((List.range (kN c0)).map (fun j => kA c0 (rB j))) := hS.bxK hE
    have hkl := drop_nil hy (by rw [List.length_range]; exact hk)
    rw [List.length_range] at hkl
    subst hkl
    refine zr_aload dX1_isConsistent_103 rfl ?_
    refine zr_call51 (rest := []) (zs_F (As := []) (by omega) okF_J23_hasNext (by decide +kernel) q916 q927 q929 q84 q931 (.new hI) rfl rfl rfl (Nat.le_of_ble_eq_true rfl) dX1_isConsistent_105) (c_hasNext0 hL1 hI (by rw [CSys.bxl])) ?_
    refine zr_if_eq (tgt := 237) dX1_isConsistent_110 (by decide) (fun _ => ?_) (fun h9 => absurd (rfl) h9)
    refine zr_iload_n dX1_isConsistent_237 rfl rfl ?_
    exact zr_iret rfl (nar_z _) dX1_isConsistent_238 (⟨rfl, hS.ext hE hF hR, (hX.le (by omega)).done (fun i hi => by have := hO i hi; rw [if_pos hi] at this; exact this)⟩)
  | cons j ys ih =>
    intro k m lr r c σ1 hy hk hE hF hR hK hX hO hS hL hN hI hT
    have hL1 : zL G σ1 2 (kA c0 2) (kM c0 2) ((List.range (kN c0)).map (fun j => kA c0 (rB j))) := hS.bxK hE
    obtain ⟨hx, hy2, hkl, hm⟩ := drop_cons hy
    rw [List.length_range] at hkl
    have hjk := range_at hx
    subst hjk
    rw [List.length_cons] at hN
    have hX2 := hX.upN (gs := [.int (nI (j + 1)), .int (nI j), .int (kM c0 2), .ref (kA c0 2)]) hI hit
    have hX12 : zX G (fun s => s = 0) σ1 (sUp σ1 it (.inr (21, [.int (nI (j + 1)), .int (nI j), .int (kM c0 2), .ref (kA c0 2)]))) 0 := zX.up hX.gd hI hT
    have hI2 : sF (sUp σ1 it (.inr (21, [.int (nI (j + 1)), .int (nI j), .int (kM c0 2), .ref (kA c0 2)]))) it = _ := sF_upS _ _ _
    have hT2 : sT (sUp σ1 it (.inr (21, [.int (nI (j + 1)), .int (nI j), .int (kM c0 2), .ref (kA c0 2)]))) it = 0 := hT
    generalize hσ2 : sUp σ1 it (.inr (21, [.int (nI (j + 1)), .int (nI j), .int (kM c0 2), .ref (kA c0 2)])) = σ2 at hX2 hX12 hI2 hT2
    have hS2 := hS.keep hX.gd hX12 (fun s h1 h2 h3 => by rw [h3] at h1; omega)
    have hO2 : ∀ i, i < kN c0 → Old (if i < j then 0 else 4000) σ0 σ2 i := fun i hi => (hO i hi).keep0 (by omega) hX.1 hX12 (by split <;> omega) (fun t h => Or.inl h)
    have hL2 := hX12.L hX.gd hL (by unfold dT; omega) (by unfold dT; omega)
    have hj : j < kN c := hE.nn hkl
    have hbj : zAt G σ2 (kA c0 (rB j)) (.inr (2, kBx c j)) := hE.b j ▸ hS2.bx hj
    obtain ⟨fl_p, hflp⟩ := hL2.A
    have hOj : Old 4000 σ0 σ2 j := by have := hO2 j hkl; rw [if_neg (by omega)] at this; exact this
    have h0j := (hS0.2.2.1 j hkl).2.2.2
    have hold := hOj _ (hw0.1 _ _ h0j.1.1) (by rw [h0j.1.2]; exact Or.inl rfl)
    have hpo : sF σ2 (kA c0 (rP j)) = some (.inr (3, kPl c0 j)) := hold.1.trans h0j.1.1
    have hpz : zAt G σ2 (kA c0 (rP j)) (.inr (3, [.int (kP c0 j 0), .int (kP c0 j 1), .int (kP c0 j 2), .int (kP c0 j 3), .int (kP c0 j 4), .ref (kA c0 (rL j))])) := .new hpo
    have hln := hOj.ln hw0 h0j.2
    obtain ⟨mo, xs, l1, l2, l3⟩ := id hln
    obtain ⟨fl_l, hfll⟩ := l1.A
    refine zr_aload dX1_isConsistent_103 rfl ?_
    refine zr_call51 (rest := []) (zs_F (As := []) (by omega) okF_J23_hasNext (by decide +kernel) q916 q927 q929 q84 q931 (.new hI) rfl rfl rfl (Nat.le_of_ble_eq_true rfl) dX1_isConsistent_105) (c_hasNext1 hL1 hI (by rw [CSys.bxl]; exact hkl)) ?_
    refine zr_if_eq (tgt := 237) dX1_isConsistent_110 (by decide) (fun h9 => absurd h9 (by decide)) (fun _ => ?_)
    refine zr_aload dX1_isConsistent_113 rfl ?_
    refine zr_call51 (rest := []) (zs_F (As := []) (by omega) okF_J23_next (by decide +kernel) q942 q1044 q1046 q84 q1048 (.new hI) rfl rfl rfl (Nat.le_of_ble_eq_true rfl) dX1_isConsistent_115) (c_J23_next (by omega) hG hL1 hI (map_at (fun j => kA c0 (rB j)) hx)) ?_
    rw [hσ2]
    refine zr_castS hbj rfl q151 dX1_isConsistent_120 ?_
    refine zr_astore (ls2 := [(0, .ref (kA c0 1)), (1, .ref pl), (2, .ref ly), (3, .int (bI r)), (4, .ref it), (5, .ref (kA c0 (rB j)))]) dX1_isConsistent_123 (Nat.le_of_ble_eq_true rfl) rfl ?_
    refine zr_aload_n dX1_isConsistent_125 rfl rfl ?_
    refine zr_aload dX1_isConsistent_126 rfl ?_
    refine zr_getN (k := 0) (v := .int (nI j)) in_X2 hbj rfl (Nat.le_of_ble_eq_true rfl) q227 (.inl rfl) rfl dX1_isConsistent_128 ?_
    refine zr_call51 (rest := []) (zs_F (As := [.int (nI j)]) (by omega) okF_J2_get (by decide +kernel) q1180 q1106 q959 q56 q960 hflp rfl rfl rfl (Nat.le_of_ble_eq_true rfl) dX1_isConsistent_131) (c_J2_get (by omega) hG hL2 (map_at (fun j => kA c0 (rP j)) hx)) ?_
    refine zr_castS hpz rfl q1079 dX1_isConsistent_136 ?_
    refine zr_astore (ls2 := [(0, .ref (kA c0 1)), (1, .ref pl), (2, .ref ly), (3, .int (bI r)), (4, .ref it), (5, .ref (kA c0 (rB j))), (6, .ref (kA c0 (rP j)))]) dX1_isConsistent_139 (Nat.le_of_ble_eq_true rfl) rfl ?_
    refine zr_iconst (v := 0) dX1_isConsistent_141 (by decide) ?_
    refine zr_istore (ls2 := [(0, .ref (kA c0 1)), (1, .ref pl), (2, .ref ly), (3, .int (bI r)), (4, .ref it), (5, .ref (kA c0 (rB j))), (6, .ref (kA c0 (rP j))), (7, .int 0)]) dX1_isConsistent_142 (Nat.le_of_ble_eq_true rfl) rfl ?_
    refine zr_aload dX1_isConsistent_144 rfl ?_
    refine zr_getN (k := 5) (v := .ref (kA c0 (rL j))) in_X3 hpz rfl (Nat.le_of_ble_eq_true rfl) q211 (.inl rfl) rfl dX1_isConsistent_146 ?_
    refine zr_call51 (rest := []) (zs_F (As := []) (by omega) okF_J2_iterator (by decide +kernel) q829 q832 q834 q56 q836 hfll rfl rfl rfl (Nat.le_of_ble_eq_true rfl) dX1_isConsistent_149) (c_J2_iterator (by omega) hX2.gd.1 l1) ?_
    refine zr_astore (ls2 := [(0, .ref (kA c0 1)), (1, .ref pl), (2, .ref ly), (3, .int (bI r)), (4, .ref it), (5, .ref (kA c0 (rB j))), (6, .ref (kA c0 (rP j))), (7, .int 0), (8, .ref (sZ σ2))]) dX1_isConsistent_154 (Nat.le_of_ble_eq_true rfl) rfl ?_
    refine zr_sub (ls2 := [(0, .ref (kA c0 1)), (1, .ref pl), (2, .ref ly), (3, .int (bI r)), (4, .ref it), (5, .ref (kA c0 (rB j))), (6, .ref (kA c0 (rP j))), (7, .int 0), (8, .ref (sZ σ2))]) [0, 1, 2, 3, 4, 5, 6, 7, 8] rfl ?_
    have hXn := zX.new S0 hX2.gd 0 (by omega) (.inr (21, [.int 0, .int (-1), .int mo, .ref (kA c0 (rL j))])) 4
    refine l_X1_conL (σ := σ2) (m := 8) (by omega) hG hX2.gd l1 l2 (fun a q z hq hz => (l3 a q z hq hz).1) (Nat.le_refl _) (kLn c0 j) 0 (-1) 0 _ rfl (Nat.zero_le _) hXn (sF_newS _ _ _ _) (fun σ3 x3 => ?_)
    have hXr3 := hX2.step hle hw0 x3 (fun t h => absurd h (fun h => h))
    have hS3 := hS2.keep0 hX2.gd x3
    have hO3 : ∀ i, i < kN c0 → Old (if i < j then 0 else 4000) σ0 σ3 i := fun i hi => (hO2 i hi).keep0 (by omega) hX2.1 x3 (by split <;> omega) (fun t h => absurd h (fun h => h))
    have hOj3 : Old 4000 σ0 σ3 j := by have := hO3 j hkl; rw [if_neg (by omega)] at this; exact this
    have hL3 := x3.L hX2.gd hL2 (fun h => h) (fun h => h)
    have hI3 := x3.f hX2.gd hI2 (fun h => h)
    have hT3 := (x3.t hX2.gd hI2).trans hT2
    have hln3 := zLn.keep x3 hX2.gd hln (fun h => h) (fun h => h) (fun h => h)
    have hpz3 := x3.at hX2.gd hpz (fun h => h)
    have hbj3 : zAt G σ3 (kA c0 (rB j)) (.inr (2, kBx c j)) := hE.b j ▸ hS3.bx hj
    have hnz3 : zAt G σ3 (kA c (rP j)) (.inr (3, [.int (kP c j 0), .int (kP c j 1), .int (kP c j 2), .int (kP c j 3), .int (kP c j 4), .ref (kA c (rL j))])) := hS3.pl hj
    have hnl3 := (hS3.2.2.1 j hj).2.2.2.2
    obtain ⟨flw, hflw⟩ := (hS3.wdL hj).A
    have key : ∀ z : Int32, z = bI (okB c0 c2 j) → zR G yX1_isConsistent cX1_isConsistent 10 (Option.some Jvm.ClassFile.FieldType.boolean) [] d 225 [(0, .ref (kA c0 1)), (1, .ref pl), (2, .ref ly), (3, .int (bI r)), (4, .ref it), (5, .ref (kA c0 (rB j))), (6, .ref (kA c0 (rP j))), (7, .int (lsum (kLn c0 j) 0))] [.int z, .int (bI r)] σ3 (fun o σ' => o = .inl (some (.int (bI ((j :: ys).foldl (fun r j => r && okB c0 c2 j) r)))) ∧ CSys G σ' c0 ∧ zX G SC σ0 σ' N) := by
      intro z hz
      subst hz
      refine zr_iand dX1_isConsistent_225 ?_
      rw [bI_and]
      refine zr_tag (σ2 := sRc σ0 σ3 j) rfl rfl rfl ?_
      have hXr4 := hXr3.rc hle hkl
      have hO4 : ∀ i, i < kN c0 → Old (if i < j + 1 then 0 else 4000) σ0 (sRc σ0 σ3 j) i := fun i hi => by
        have h9 := hO3 i hi
        by_cases e : i = j
        · subst e
          rw [if_neg (by omega)] at h9
          rw [if_pos (by omega)]
          exact h9.rc
        · have h8 := h9.rc_ne (k := j) (by omega) (by omega) (fun h => e h.symm) (by split <;> omega)
          by_cases e2 : i < j
          · rw [if_pos e2] at h8; rw [if_pos (by omega)]; exact h8
          · rw [if_neg e2] at h8; rw [if_neg (by omega)]; exact h8
      have hOj4 : Old 0 σ0 (sRc σ0 σ3 j) j := hOj3.rc
      have hTk : ∀ a t, a < sZ σ3 → sT σ3 a = t → t < 1000 → ¬ PT j t → sT (sRc σ0 σ3 j) a = t := fun a t _ h1 h2 h3 => by
        rw [sT_rc, if_neg (fun hq => by
          have := (hOj3 a hq.1 hq.2).2
          omega), h1, if_neg h3]
      have hL4 : zL G (sRc σ0 σ3 j) (dT pl) pl mod ((List.range (kN c0)).map (fun j => kA c0 (rP j))) := hL3.keep (fun a e ha ht => ⟨ha, by
        rw [sT_rc, if_neg (fun hq => by
          have h8 := (hOj3 a hq.1 hq.2).2
          have := PT_b hq.2
          unfold dT at ht
          omega), if_neg (fun hp => by have := PT_b hp; unfold dT at ht; omega)]⟩)
      have hI4 : sF (sRc σ0 σ3 j) it = _ := hI3
      have hT4 : sT (sRc σ0 σ3 j) it = 0 := by
        rw [sT_rc, if_neg (fun hq => by omega), hT3, if_neg (fun hp => by have := PT_b hp; omega)]
      have hb4 : sF (sRc σ0 σ3 j) (kA c0 (rB j)) = some (.inr (2, kBx c j)) := by rw [← hE.b j]; exact (hS3.2.2.1 j hj).1.1
      have hbt4 : sT (sRc σ0 σ3 j) (kA c0 (rB j)) = rB j := hTk _ _ (hXr3.gd.1 _ _ hb4) (by rw [← hE.b j]; exact (hS3.2.2.1 j hj).1.2) (by unfold rB; omega) (fun hp => by have := PT_b hp; unfold rB at this; omega)
      have hF4 : sF (sRc σ0 σ3 j) = sF σ3 := rfl
      generalize hσ4 : sRc σ0 σ3 j = σ4 at hXr4 hO4 hOj4 hTk hL4 hI4 hT4 hb4 hbt4 hF4 ⊢
      refine zr_istore_n (ls2 := [(0, .ref (kA c0 1)), (1, .ref pl), (2, .ref ly), (3, .int (bI (r && okB c0 c2 j))), (4, .ref it), (5, .ref (kA c0 (rB j))), (6, .ref (kA c0 (rP j))), (7, .int (lsum (kLn c0 j) 0))]) dX1_isConsistent_226 rfl (Nat.le_of_ble_eq_true rfl) rfl ?_
      refine zr_aload dX1_isConsistent_227 rfl ?_
      refine zr_aload dX1_isConsistent_229 rfl ?_
      refine zr_putN (k := 24) (fs' := (kBx (kPut c j (kA c0 (rP j)) (kA c0 (rL j)) (kP c0 j) (kLn c0 j)) j)) zt_X2 hb4 rfl (Nat.le_of_ble_eq_true rfl) q292 (.inl rfl) rfl rfl rfl (Nat.le_of_ble_eq_true rfl) (kBx_put c j _ _ _ _) dX1_isConsistent_231 ?_
      have hX6 : zX G (fun s => s = rB j) σ4 (sUp σ4 (kA c0 (rB j)) (.inr (2, kBx (kPut c j (kA c0 (rP j)) (kA c0 (rL j)) (kP c0 j) (kLn c0 j)) j))) 0 := zX.up hXr4.gd hb4 hbt4
      have hb6 : sF (sUp σ4 (kA c0 (rB j)) (.inr (2, kBx (kPut c j (kA c0 (rP j)) (kA c0 (rL j)) (kP c0 j) (kLn c0 j)) j))) (kA c (rB j)) = some (.inr (2, kBx (kPut c j (kA c0 (rP j)) (kA c0 (rL j)) (kP c0 j) (kLn c0 j)) j)) := by rw [hE.b j]; exact sF_upS _ _ _
      generalize hσ6 : sUp σ4 (kA c0 (rB j)) (.inr (2, kBx (kPut c j (kA c0 (rP j)) (kA c0 (rL j)) (kP c0 j) (kLn c0 j)) j)) = σ6 at hX6 hb6 ⊢
      have hXr6 := hXr4.step hle hw0 hX6 (fun s hs => Or.inl (by rw [hs]; unfold rB; exact ⟨by omega, by omega⟩))
      have hO6 : ∀ i, i < kN c0 → Old (if i < j + 1 then 0 else 4000) σ0 σ6 i := fun i hi => (hO4 i hi).keep0 (by omega) hXr4.1 hX6 (by split <;> omega) (fun t h => Or.inr (Or.inr ⟨j, h, by omega⟩))
      have hOj6 : Old 0 σ0 σ6 j := hOj4.keep0 (by omega) hXr4.1 hX6 (Or.inl rfl) (fun t h => Or.inr (Or.inr ⟨j, h, by omega⟩))
      have hp6 := hOj6 _ (hw0.1 _ _ h0j.1.1) (by rw [h0j.1.2]; exact Or.inl rfl)
      have hS6 : CSys G σ6 (kPut c j (kA c0 (rP j)) (kA c0 (rL j)) (kP c0 j) (kLn c0 j)) := CSys.place hS3 hXr3.gd hXr4.gd hj hF4 hTk hX6 hb6 ⟨hp6.1.trans h0j.1.1, hp6.2.trans h0j.1.2⟩ (hOj6.ln hw0 h0j.2)
      have hE6 := hE.trans (KEq.Put2 c j (kA c0 (rP j)) (kA c0 (rL j)) (kP c0 j) (kLn c0 j))
      refine zr_goto (tgt := 103) dX1_isConsistent_234 (by decide) ?_
      refine zr_sub (ls2 := [(0, .ref (kA c0 1)), (1, .ref pl), (2, .ref ly), (3, .int (bI (r && okB c0 c2 j))), (4, .ref it)]) [0, 1, 2, 3, 4] rfl ?_
      refine ih (j + 1) _ _ (r && okB c0 c2 j) (kPut c j (kA c0 (rP j)) (kA c0 (rL j)) (kP c0 j) (kLn c0 j)) σ6 hy2 hkl hE6 hF (fun i hi => ?_) (fun i hi => ?_) hXr6 hO6 hS6 (hX6.L hXr4.gd hL4 (by unfold dT rB; omega) (by unfold dT rB; omega)) (by omega) (hX6.f hXr4.gd hI4 (by rw [hT4]; unfold rB; omega)) ((hX6.t hXr4.gd hI4).trans hT4)
      · by_cases e : i = j
        · subst e
          exact ⟨kPut_P _ _ _ _ _ _, kPut_L _ _ _ _ _ _, fun t => if_pos rfl, if_pos rfl⟩
        · obtain ⟨p1, p2, p3, p4⟩ := hR i (by omega)
          exact ⟨(kPut_A (by unfold rP; omega) (by unfold rP rL; omega)).trans p1, (kPut_A (by unfold rL rP; omega) (by unfold rL; omega)).trans p2, fun t => (if_neg e : (if i = j then kP c0 j t else kP c i t) = _).trans (p3 t), (if_neg e : (if i = j then kLn c0 j else kLn c i) = _).trans p4⟩
      · obtain ⟨p1, p2⟩ := hK i (by omega)
        have e : i ≠ j := by omega
        exact ⟨(funext fun t => (if_neg e : (if i = j then kP c0 j t else kP c i t) = _)).trans p1, (if_neg e : (if i = j then kLn c0 j else kLn c i) = _).trans p2⟩
    have hok : okB c0 c2 j = (pLike (kP c0 j) (kP c j) (kLn c0 j) (kLn c j) && decide (lsum (kLn c0 j) 0 = nI (kWd c j).length)) := by
      unfold okB
      rw [(hK j (Nat.le_refl _)).1, (hK j (Nat.le_refl _)).2, hE.wd]
    show zR G yX1_isConsistent cX1_isConsistent 10 (Option.some Jvm.ClassFile.FieldType.boolean) [] d 191 [(0, .ref (kA c0 1)), (1, .ref pl), (2, .ref ly), (3, .int (bI r)), (4, .ref it), (5, .ref (kA c0 (rB j))), (6, .ref (kA c0 (rP j))), (7, .int (lsum (kLn c0 j) 0))] [] σ3 _
    refine zr_iload_n dX1_isConsistent_191 rfl rfl ?_
    refine zr_aload dX1_isConsistent_192 rfl ?_
    refine zr_aload dX1_isConsistent_194 rfl ?_
    refine zr_getN (k := 24) (v := .ref (kA c (rP j))) in_X2 hbj3 rfl (Nat.le_of_ble_eq_true rfl) q292 (.inl rfl) rfl dX1_isConsistent_196 ?_
    refine zr_call1 (rest := [.int (bI r)]) (zs_V (As := [.ref (kA c (rP j))]) (by omega) ok_X3_isLike q1590 q1591 q1592 q58 q1593 rfl hpz3 rfl rfl rfl (Nat.le_of_ble_eq_true rfl) dX1_isConsistent_199) (c_X3_isLike (v := kP c0 j) (w := kP c j) (ls := kLn c0 j) (ms := kLn c j) (d := d - 1) (by omega) hG hpz3 hnz3 hln3 hnl3) ?_
    refine zr_ifeqB (tgt := 224) dX1_isConsistent_202 (by decide) (fun h1 => ?_) (fun h1 => ?_)
    · refine zr_iconst (v := 0) dX1_isConsistent_224 (by decide) ?_
      exact key _ (by rw [hok, h1]; rfl)
    · refine zr_iload dX1_isConsistent_205 rfl ?_
      refine zr_aload dX1_isConsistent_207 rfl ?_
      refine zr_getN (k := 5) (v := .ref (kA c (rW j))) in_X2 hbj3 rfl (Nat.le_of_ble_eq_true rfl) q241 (.inl rfl) rfl dX1_isConsistent_209 ?_
      refine zr_call51 (rest := [.int (lsum (kLn c0 j) 0), .int (bI r)]) (zs_F (As := []) (by omega) okF_J2_size (by decide +kernel) q1178 q162 q164 q56 q166 hflw rfl rfl rfl (Nat.le_of_ble_eq_true rfl) dX1_isConsistent_212) (c_size (m := (kWd c j).length) (by omega) (hS3.wdL hj) (List.length_map _)) ?_
      refine zr_icmp_ne (tgt := 224) dX1_isConsistent_217 (by decide) (fun h2 => ?_) (fun h2 => ?_)
      · refine zr_iconst (v := 0) dX1_isConsistent_224 (by decide) ?_
        exact key _ (by rw [hok, decide_eq_false h2, Bool.and_false]; rfl)
      · refine zr_iconst (v := 1) dX1_isConsistent_220 (by decide) ?_
        refine zr_goto (tgt := 225) dX1_isConsistent_221 (by decide) ?_
        exact key _ (by rw [hok, h1, decide_eq_true h2]; rfl)
set_option maxHeartbeats 4000000 in
theorem c_X1_isConsistent {G : zG} {σ : zT} {d : Nat} {c : zCS} (hd : 224 ≤ d) (hG : zOk G) (hw : zGd G σ) (hS : CSys G σ c) (h0 : 0 < kN c) : zCall G I_X1_isConsistent d [.ref (kA c 1)] σ ((fun o σ' => o = .inl (some (.int (bI (pCons c)))) ∧ CSys G σ' c ∧ zX G SC σ σ' (LA c + 4000))) := by
  refine zCall_of (ls := [(0, .ref (kA c 1))]) (by decide) (Nat.le_of_ble_eq_true rfl) rfl ?_
  have hle := hS.le
  obtain ⟨fl_hfl, hfl⟩ := hS.bxL.A
  refine zr_aload_n dX1_isConsistent_0 rfl rfl ?_
  refine zr_get (k := 1) (v := .int (kLw c)) in_X1 hS.one rfl (Nat.le_of_ble_eq_true rfl) q810 (.inl rfl) rfl dX1_isConsistent_1 ?_
  refine zr_iconst (v := (-1)) dX1_isConsistent_4 (by decide) ?_
  refine zr_icmp_ne (tgt := 10) dX1_isConsistent_5 (by decide) (fun h1 => ?_) (fun h1 => ?_)
  · have hpc : pCons c = (List.range (kN c)).foldl (fun r j => r && okB c (pChk c) j) true := if_neg h1
    rw [hpc]
    refine zr_new (ci := 20) (dT (sZ σ)) zt_J2 q114 q115 q56 rfl df_J2 dX1_isConsistent_10 ?_
    refine zr_dup dX1_isConsistent_13 rfl ?_
    refine zr_callv (rest := [.ref (sZ σ)]) (zs_I (As := []) (by omega) ok_J2_init q116 q117 q56 q118 rfl rfl rfl (Nat.le_of_ble_eq_true rfl) dX1_isConsistent_14) (c_J2_init (by omega) hG (sF_newS _ _ _ _)) ?_
    rw [sNew_up]
    have hX1 := zX.new S0 hw (dT (sZ σ)) (by unfold dT; omega) (.inr (20, [.int 0, .ref (zc G 0), .int 0])) 3
    have hL1 : zL G (sNew σ (dT (sZ σ)) (.inr (20, [.int 0, .ref (zc G 0), .int 0])) 3) (dT (sZ σ)) (sZ σ) 0 [] := zL.mk σ (dT (sZ σ))
    have hXr1 := (zXr.rf (N := kN c) hw 0).step hle hw hX1 (fun t h => absurd h (fun h => h))
    generalize hσ1 : sNew σ (dT (sZ σ)) (.inr (20, [.int 0, .ref (zc G 0), .int 0])) 3 = σ1 at hX1 hL1 hXr1 ⊢
    obtain ⟨pl, hpl⟩ : ∃ z, z = sZ σ := ⟨_, rfl⟩
    have hple : sZ σ ≤ pl := by omega
    rw [← hpl] at hL1 ⊢
    have hS1 := hS.keep0 hw hX1
    have hO1 : ∀ i, i < kN c → Old 0 σ σ1 i := fun i hi => Old.keep0 (σ := σ) (fun a _ _ => ⟨rfl, rfl⟩) (by omega) (Nat.le_refl _) hX1 (Or.inl rfl) (fun t h => absurd h (fun h => h))
    obtain ⟨fl_hfl1, hfl1⟩ := hS1.bxL.A
    refine zr_astore_n (ls2 := [(0, .ref (kA c 1)), (1, .ref pl)]) dX1_isConsistent_17 rfl (Nat.le_of_ble_eq_true rfl) rfl ?_
    refine zr_aload_n dX1_isConsistent_18 rfl rfl ?_
    refine zr_get (k := 0) (v := .ref (kA c 2)) in_X1 hS1.one rfl (Nat.le_of_ble_eq_true rfl) q806 (.inl rfl) rfl dX1_isConsistent_19 ?_
    refine zr_call51 (rest := []) (zs_F (As := []) (by omega) okF_J2_iterator (by decide +kernel) q829 q832 q834 q56 q836 hfl1 rfl rfl rfl (Nat.le_of_ble_eq_true rfl) dX1_isConsistent_22) (c_J2_iterator (by omega) hX1.gd.1 hS1.bxL) ?_
    refine zr_astore_n (ls2 := [(0, .ref (kA c 1)), (1, .ref pl), (2, .ref (sZ σ1))]) dX1_isConsistent_27 rfl (Nat.le_of_ble_eq_true rfl) rfl ?_
    have hX2 := zX.new S0 hX1.gd 0 (by omega) (.inr (21, [.int 0, .int (-1), .int (kM c 2), .ref (kA c 2)])) 4
    have hXr2 := hXr1.step hle hw hX2 (fun t h => absurd h (fun h => h))
    refine l_X1_conA (σ0 := σ) (N := 15 + 90 * 24) (by omega) hG hw hS hX1.sz hple (List.range (kN c)) 0 15 (-1) 0 c _ rfl (Nat.zero_le _) (KEq.rf c) rfl rfl (fun _ _ => rfl) (hXr2.le (by omega)) (fun i hi => by rw [if_neg (by omega)]; exact (hO1 i hi).keep0 (by omega) hXr1.1 hX2 (Or.inl rfl) (fun t h => absurd h (fun h => h))) (hS1.keep0 hX1.gd hX2) (hX2.L hX1.gd hL1 (fun h => h) (fun h => h)) (fun y hy => by cases hy) (by rw [List.length_range]; omega) (sF_newS _ _ _ _) (sT_newS _ _ _ _) (fun σ3 c3 mod3 hE3 hF3 hZ3 hXr3 hO3 hS3 hL3 => ?_)
    rw [← hE3.one]
    refine zr_new (ci := 6) (5) zt_X6 q1081 q1082 q83 rfl df_X6 dX1_isConsistent_72 ?_
    refine zr_dup dX1_isConsistent_75 rfl ?_
    refine zr_aload_n dX1_isConsistent_76 rfl rfl ?_
    refine zr_iconst (v := 1) dX1_isConsistent_77 (by decide) ?_
    refine zr_callv (rest := [.ref (sZ σ3)]) (zs_I (As := [.ref (kA c3 1), .int 1]) (by omega) ok_X6_init q1083 q1084 q83 q1085 rfl rfl rfl (Nat.le_of_ble_eq_true rfl) dX1_isConsistent_78) (c_X6_init (b := true) (by omega) (sF_newS _ _ _ _)) ?_
    rw [sNew_up]
    have hXn := zX.new S0 hXr3.gd 5 (by omega) (.inr (6, [.int (bI true), .int 0, .ref (kA c3 1)])) 3
    have hYn : LY G (sNew σ3 5 (.inr (6, [.int (bI true), .int 0, .ref (kA c3 1)])) 3) c3 (sZ σ3) true 0 := ⟨hS3.keep0 hXr3.gd hXn, sF_newS _ _ _ _, sT_newS _ _ _ _⟩
    obtain ⟨_, σ4, ⟨c4, rfl, hE4, hz4, hY4, hX4⟩, hC4⟩ := c_X6_layAll (wd := kLw c3) (d := d - 1) (by omega) hG hXn.gd (by rw [hE3.n]; exact h0) hYn
    generalize hσn : sNew σ3 5 (.inr (6, [.int (bI true), .int 0, .ref (kA c3 1)])) 3 = σn at hXn hYn hX4 hC4 ⊢
    have hSn := hYn.1
    refine zr_astore_n (ls2 := [(0, .ref (kA c3 1)), (1, .ref pl), (2, .ref (sZ σ3))]) dX1_isConsistent_81 rfl (Nat.le_of_ble_eq_true rfl) rfl ?_
    refine zr_aload_n dX1_isConsistent_82 rfl rfl ?_
    refine zr_aload_n dX1_isConsistent_83 rfl rfl ?_
    refine zr_get (k := 1) (v := .int (kLw c3)) in_X1 hSn.one rfl (Nat.le_of_ble_eq_true rfl) q810 (.inl rfl) rfl dX1_isConsistent_84 ?_
    refine zr_callv (rest := []) (zs_V (As := [.int (kLw c3)]) (by omega) ok_X6_layAll q1098 q1099 q1100 q83 q1101 rfl hYn.lf rfl rfl rfl (Nat.le_of_ble_eq_true rfl) dX1_isConsistent_87) hC4 ?_
    have hS4 := hY4.1
    have hE34 := hE3.trans hE4
    have hnq := NQ.All true (kZ c3, 0) (kLw c3)
    have hF4 : kF c4 = kF c := by
      have e1 : kF c4 = kF (kZ c4) := rfl
      rw [e1, hz4, hnq.2.2 rfl]
      exact hF3
    have hlw : kLw c3 = kLw c := hE3.2.2.2.2.2.2.2.1
    have hzc : kZ c4 = pChk c := by
      rw [hz4, hZ3, hlw]
      rfl
    have hXr4 := (hXr3.step hle hw hXn (fun t h => absurd h (fun h => h))).step hle hw hX4 (fun t h => Or.inl h)
    have hO4 : ∀ i, i < kN c → Old 4000 σ σ4 i := fun i hi => ((hO3 i hi).keepC (by omega) hXr3.1 hXn (fun t h => absurd h (fun h => h))).keepC (by omega) (Nat.le_trans hXr3.1 hXn.sz) hX4 (fun t h => Or.inl (by have := h.2; omega))
    have hLn := hXn.L hXr3.gd hL3 (fun h => h) (fun h => h)
    have hL4 := hX4.L hXn.gd hLn (SC_big (by unfold dT; omega)) (SC_big (by unfold dT; omega))
    rw [hE3.one, ← hE34.one]
    obtain ⟨fl_hfl4, hfl4⟩ := hS4.bxL.A
    refine zr_iconst (v := 1) dX1_isConsistent_90 (by decide) ?_
    refine zr_istore_n (ls2 := [(0, .ref (kA c4 1)), (1, .ref pl), (2, .ref (sZ σ3)), (3, .int 1)]) dX1_isConsistent_91 rfl (Nat.le_of_ble_eq_true rfl) rfl ?_
    refine zr_aload_n dX1_isConsistent_92 rfl rfl ?_
    refine zr_get (k := 0) (v := .ref (kA c4 2)) in_X1 hS4.one rfl (Nat.le_of_ble_eq_true rfl) q806 (.inl rfl) rfl dX1_isConsistent_93 ?_
    refine zr_call51 (rest := []) (zs_F (As := []) (by omega) okF_J2_iterator (by decide +kernel) q829 q832 q834 q56 q836 hfl4 rfl rfl rfl (Nat.le_of_ble_eq_true rfl) dX1_isConsistent_96) (c_J2_iterator (by omega) hX4.gd.1 hS4.bxL) ?_
    refine zr_astore (ls2 := [(0, .ref (kA c4 1)), (1, .ref pl), (2, .ref (sZ σ3)), (3, .int 1), (4, .ref (sZ σ4))]) dX1_isConsistent_101 (Nat.le_of_ble_eq_true rfl) rfl ?_
    have hX5 := zX.new S0 hX4.gd 0 (by omega) (.inr (21, [.int 0, .int (-1), .int (kM c4 2), .ref (kA c4 2)])) 4
    have hXr5 := hXr4.step hle hw hX5 (fun t h => absurd h (fun h => h))
    have hLA : LA c3 = LA c := by
      unfold LA
      rw [hE3.n, LB_eq hE3]
      congr 2
      refine List.map_congr_left (fun j _ => ?_)
      exact LXA_eq hE3 j
    have hI5 : sF (sNew σ4 0 (.inr (21, [.int 0, .int (-1), .int (kM c4 2), .ref (kA c4 2)])) 4) (sZ σ4) = some (.inr (21, [.int (nI 0), .int (-1), .int (kM c 2), .ref (kA c 2)])) := by rw [← hE34.m, ← hE34.two]; exact sF_newS _ _ _ _
    rw [hE34.one]
    have hgo := l_X1_conC (σ0 := σ) (c2 := pChk c) (ly := sZ σ3) (N := LA c + 4000) (d := d) (by omega) hG hw hS (Nat.le_trans hXr3.1 (Nat.le_trans hXn.sz hX4.sz)) (List.range (kN c)) 0 _ (-1) true c4 _ rfl (Nat.zero_le _) hE34 hF4 (fun j hj => absurd hj (Nat.not_lt_zero _)) (fun j _ => ⟨by rw [← hzc]; rfl, by rw [← hzc]; rfl⟩) hXr5 (fun i hi => by rw [if_neg (by omega)]; exact (hO4 i hi).keepC (by omega) hXr4.1 hX5 (fun t h => absurd h (fun h => h))) (hS4.keep0 hX4.gd hX5) (hX5.L hX4.gd hL4 (fun h => h) (fun h => h)) (by rw [List.length_range, hLA]; omega) hI5 (sT_newS _ _ _ _)
    exact hgo
  · rw [show pCons c = true from if_pos (by first | exact h1 | exact Decidable.not_not.mp h1)]
    refine zr_iconst (v := 1) dX1_isConsistent_8 (by decide) ?_
    exact zr_iret rfl rfl dX1_isConsistent_9 (⟨rfl, hS, zX.rf _ hw _⟩)
