/-! ===== the component: isConsistent (rows printed by tools/p98.py) ===== -/
theorem zXr.upN {G : zG} {N n it ci : Nat} {fs gs : List Value} {σ0 σ : zT} (h : zXr G N σ0 σ n) (ha : sF σ it = some (.inr (ci, fs))) (hn : sZ σ0 ≤ it) : zXr G N σ0 (sUp σ it (.inr (ci, gs))) n := by
  have hX := zX.up (S := fun s => s = sT σ it) h.gd (gs := gs) ha rfl
  refine ⟨Nat.le_trans h.1 hX.1.1, fun a hlt => ⟨fun hsc => ?_, fun hp => ((h.2.1 a hlt).2 hp)⟩, hX.gd, h.2.2.2.1.trans hX.2.2.1, by have := h.2.2.2.2; have := hX.2.2.2; omega⟩
  rw [sF_upN _ _ _ (by omega)]
  exact (h.2.1 a hlt).1 hsc
theorem kBx_put (c : zCS) (i pl ln : Nat) (v : Nat → Int32) (ls : List (Int32 × Int32 × Int32)) : (kBx c i).set 24 (.ref pl) = kBx (kPut c i pl ln v ls) i := by
  have q1 : kPr (kPut c i pl ln v ls) i = kPr c i := by
    show (kPar c i).map (fun p => kA (kPut c i pl ln v ls) (rB p)) = (kPar c i).map (fun p => kA c (rB p))
    congr 1
    funext p
    exact kPut_A (by unfold rB rP; omega) (by unfold rB rL; omega)
  unfold kBx
  rw [q1, kPut_A (t := rC i) (by unfold rC rP; omega) (by unfold rC rL; omega), kPut_A (t := rW i) (by unfold rW rP; omega) (by unfold rW rL; omega), kPut_P, kPut_A (t := 1) (by unfold rP; omega) (by unfold rL; omega)]
  rfl
theorem bI_and (x y : Bool) : bI x &&& bI y = bI (x && y) := by cases x <;> cases y <;> rfl
/-- places of the first k boxes cleared -/
def kClr (c : zCS) (k : Nat) : zCS := kUP (kULn c (fun a => if a < k then [] else kLn c a)) (fun a t => if a < k then 0 else kP c a t)
theorem kClr_Z0 (c : zCS) : kZ (kClr c 0) = kZ c := rfl
theorem kClr_put {c0 c : zCS} {k pl ln : Nat} (h : kZ c = kZ (kClr c0 k)) : kZ (kPut c k pl ln (fun _ => 0) []) = kZ (kClr c0 (k + 1)) := by
  have h1 : kZ (kPut c k pl ln (fun _ => 0) []) = kZ (kPut (kZ c) k pl ln (fun _ => 0) []) := rfl
  rw [h1, h]
  have e1 : (fun (a t : Nat) => if a = k then (0 : Int32) else if a < k then 0 else kP c0 a t) = (fun a t => if a < k + 1 then 0 else kP c0 a t) := by
    funext a t
    by_cases h2 : a = k
    · rw [if_pos h2, if_pos (by omega)]
    · rw [if_neg h2]
      by_cases h3 : a < k
      · rw [if_pos h3, if_pos (by omega)]
      · rw [if_neg h3, if_neg (by omega)]
  have e2 : (fun a : Nat => if a = k then ([] : List (Int32 × Int32 × Int32)) else if a < k then [] else kLn c0 a) = (fun a => if a < k + 1 then [] else kLn c0 a) := by
    funext a
    by_cases h2 : a = k
    · rw [if_pos h2, if_pos (by omega)]
    · rw [if_neg h2]
      by_cases h3 : a < k
      · rw [if_pos h3, if_pos (by omega)]
      · rw [if_neg h3, if_neg (by omega)]
  show (kN c0, _, kM c0, kF c0, kPar c0, kCh c0, kWd c0, (fun (a t : Nat) => if a = k then (0 : Int32) else if a < k then 0 else kP c0 a t), (fun a : Nat => if a = k then ([] : List (Int32 × Int32 × Int32)) else if a < k then [] else kLn c0 a), kLw c0, kCt c0) = _
  rw [e1, e2]
  rfl
def lsum (ls : List (Int32 × Int32 × Int32)) (s : Int32) : Int32 := ls.foldl (fun s z => s + z.2.2) s
def okB (c0 c2 : zCS) (j : Nat) : Bool := pLike (kP c0 j) (kP c2 j) (kLn c0 j) (kLn c2 j) && decide (lsum (kLn c0 j) 0 = nI (kWd c0 j).length)
def pChk (c : zCS) : zCS := (cAll (L24 true) (kZ (kClr c (kN c)), 0) (kLw c)).1
def pCons (c : zCS) : Bool := if kLw c = -1 then true else (List.range (kN c)).foldl (fun r j => r && okB c (pChk c) j) true
theorem Old.keep0 {G : zG} {δ n i : Nat} {S : Nat → Prop} {σ0 σ σ1 : zT} (h : Old δ σ0 σ i) (hi : i < 24) (hz : sZ σ0 ≤ sZ σ) (hX : zX G S σ σ1 n) (hδ : δ = 0 ∨ δ = 4000) (hs : ∀ t, S t → t = 0 ∨ 10000 ≤ t ∨ ∃ k, t = rB k ∧ k < 24) : Old δ σ0 σ1 i := by
  refine h.keep hz hX (fun t hp hS => ?_)
  have := PT_b hp
  rcases hs _ hS with h1 | h1 | ⟨k, h1, h2⟩
  · omega
  · omega
  · unfold rB at h1; omega
theorem Old.keepC {G : zG} {n i : Nat} {S : Nat → Prop} {σ0 σ σ1 : zT} (h : Old 4000 σ0 σ i) (hi : i < 24) (hz : sZ σ0 ≤ sZ σ) (hX : zX G S σ σ1 n) (hs : ∀ t, S t → t < 4000 ∨ 10000 ≤ t) : Old 4000 σ0 σ1 i := by
  refine h.keep hz hX (fun t hp hS => ?_)
  have := PT_b hp
  have := hs _ hS
  omega
abbrev S2 (t : Nat) : Nat → Prop := fun s => s = t ∨ s = t + 1
set_option maxHeartbeats 4000000 in
theorem l_X1_conA {G : zG} {σ0 : zT} {d : Nat} {c0 : zCS} {pl it N : Nat} {Q : zO → zT → Prop} (hd : 14 ≤ d) (hG : zOk G) (hw0 : zGd G σ0) (hS0 : CSys G σ0 c0) (hit : sZ σ0 ≤ it) (hpl : sZ σ0 ≤ pl) : ∀ (ys : List Nat) (k m : Nat) (lr mod : Int32) (c : zCS) (σ1 : zT), (List.range (kN c0)).drop k = ys → k ≤ kN c0 → KEq c0 c → kF c = kF c0 → kZ c = kZ (kClr c0 k) → (∀ j, k ≤ j → kA c (rP j) = kA c0 (rP j)) → zXr G (kN c0) σ0 σ1 m → (∀ i, i < kN c0 → Old (if i < k then 4000 else 0) σ0 σ1 i) → CSys G σ1 c → zL G σ1 (dT pl) pl mod ((List.range k).map (fun j => kA c0 (rP j))) → (∀ y, y ∈ (List.range k).map (fun j => kA c0 (rP j)) → zEl G σ1 y) → m + 90 * ys.length ≤ N → sF σ1 it = some (.inr (21, [.int (nI k), .int lr, .int (kM c0 2), .ref (kA c0 2)])) → sT σ1 it = 0 → (∀ σ2 c2 mod2, KEq c0 c2 → kF c2 = kF c0 → kZ c2 = kZ (kClr c0 (kN c0)) → zXr G (kN c0) σ0 σ2 N → (∀ i, i < kN c0 → Old 4000 σ0 σ2 i) → CSys G σ2 c2 → zL G σ2 (dT pl) pl mod2 ((List.range (kN c0)).map (fun j => kA c0 (rP j))) → zR G yX1_isConsistent cX1_isConsistent 10 (Option.some Jvm.ClassFile.FieldType.boolean) [] d 72 [(0, .ref (kA c0 1)), (1, .ref pl), (2, .ref it)] [] σ2 Q) → zR G yX1_isConsistent cX1_isConsistent 10 (Option.some Jvm.ClassFile.FieldType.boolean) [] d 28 [(0, .ref (kA c0 1)), (1, .ref pl), (2, .ref it)] [] σ1 Q := by
  have hle := hS0.le
  intro ys
  induction ys with
  | nil =>
    intro k m lr mod c σ1 hy hk hE hF hZ hA hX hO hS hL hel hN hI hT kQ
    have hL1 : zL G σ1 2 (kA c0 2) (kM c0 2) ((List.range (kN c0)).map (fun j => kA c0 (rB j))) := hS.bxK hE
    have hkl := drop_nil hy (by rw [List.length_range]; exact hk)
    rw [List.length_range] at hkl
    subst hkl
    refine zr_aload_n dX1_isConsistent_28 rfl rfl ?_
    refine zr_call51 (rest := []) (zs_F (As := []) (by omega) okF_J23_hasNext (by decide +kernel) q916 q927 q929 q84 q931 (.new hI) rfl rfl rfl (Nat.le_of_ble_eq_true rfl) dX1_isConsistent_29) (c_hasNext0 hL1 hI (by rw [CSys.bxl])) ?_
    refine zr_if_eq (tgt := 72) dX1_isConsistent_34 (by decide) (fun _ => ?_) (fun h9 => absurd (rfl) h9)
    exact kQ σ1 c mod hE hF hZ (hX.le (by omega)) (fun i hi => by have := hO i hi; rw [if_pos hi] at this; exact this) hS hL
  | cons j ys ih =>
    intro k m lr mod c σ1 hy hk hE hF hZ hA hX hO hS hL hel hN hI hT kQ
    have hL1 : zL G σ1 2 (kA c0 2) (kM c0 2) ((List.range (kN c0)).map (fun j => kA c0 (rB j))) := hS.bxK hE
    obtain ⟨hx, hy2, hkl, hm⟩ := drop_cons hy
    rw [List.length_range] at hkl
    have hjk := range_at hx
    subst hjk
    rw [List.length_cons] at hN
    have hX2 := hX.upN (gs := [.int (nI (j + 1)), .int (nI j), .int (kM c0 2), .ref (kA c0 2)]) hI hit
    have hX12 : zX G (fun s => s = 0) σ1 (sUp σ1 it (.inr (21, [.int (nI (j + 1)), .int (nI j), .int (kM c0 2), .ref (kA c0 2)]))) 0 := zX.up hX.gd hI hT
    have hI2 : sF (sUp σ1 it (.inr (21, [.int (nI (j + 1)), .int (nI j), .int (kM c0 2), .ref (kA c0 2)]))) it = _ := sF_upS _ _ _
    have hT2 : sT (sUp σ1 it (.inr (21, [.int (nI (j + 1)), .int (nI j), .int (kM c0 2), .ref (kA c0 2)]))) it = 0 := hT
    generalize hσ2 : sUp σ1 it (.inr (21, [.int (nI (j + 1)), .int (nI j), .int (kM c0 2), .ref (kA c0 2)])) = σ2 at hX2 hX12 hI2 hT2
    have hS2 := hS.keep hX.gd hX12 (fun s h1 h2 h3 => by rw [h3] at h1; omega)
    have hO2 : ∀ i, i < kN c0 → Old (if i < j then 4000 else 0) σ0 σ2 i := fun i hi => (hO i hi).keep0 (by omega) hX.1 hX12 (by split <;> omega) (fun t h => Or.inl h)
    have hL2 := hX12.L hX.gd hL (by unfold dT; omega) (by unfold dT; omega)
    have hel2 : ∀ y, y ∈ (List.range j).map (fun j => kA c0 (rP j)) → zEl G σ2 y := fun y hy => hX12.2.2.1 _ (hel y hy)
    have hj : j < kN c := hE.nn hkl
    have hbj : zAt G σ2 (kA c0 (rB j)) (.inr (2, kBx c j)) := hE.b j ▸ hS2.bx hj
    obtain ⟨fl_p, hflp⟩ := hL2.A
    have hpA : kA c (rP j) = kA c0 (rP j) := hA j (Nat.le_refl _)
    have hpo : sF σ2 (kA c (rP j)) = some (.inr (3, kPl c j)) := (hS2.2.2.1 j hj).2.2.2.1.1
    refine zr_aload_n dX1_isConsistent_28 rfl rfl ?_
    refine zr_call51 (rest := []) (zs_F (As := []) (by omega) okF_J23_hasNext (by decide +kernel) q916 q927 q929 q84 q931 (.new hI) rfl rfl rfl (Nat.le_of_ble_eq_true rfl) dX1_isConsistent_29) (c_hasNext1 hL1 hI (by rw [CSys.bxl]; exact hkl)) ?_
    refine zr_if_eq (tgt := 72) dX1_isConsistent_34 (by decide) (fun h9 => absurd h9 (by decide)) (fun _ => ?_)
    refine zr_aload_n dX1_isConsistent_37 rfl rfl ?_
    refine zr_call51 (rest := []) (zs_F (As := []) (by omega) okF_J23_next (by decide +kernel) q942 q1044 q1046 q84 q1048 (.new hI) rfl rfl rfl (Nat.le_of_ble_eq_true rfl) dX1_isConsistent_38) (c_J23_next (by omega) hG hL1 hI (map_at (fun j => kA c0 (rB j)) hx)) ?_
    rw [hσ2]
    refine zr_castS hbj rfl q151 dX1_isConsistent_43 ?_
    refine zr_astore_n (ls2 := [(0, .ref (kA c0 1)), (1, .ref pl), (2, .ref it), (3, .ref (kA c0 (rB j)))]) dX1_isConsistent_46 rfl (Nat.le_of_ble_eq_true rfl) rfl ?_
    refine zr_aload_n dX1_isConsistent_47 rfl rfl ?_
    refine zr_aload_n dX1_isConsistent_48 rfl rfl ?_
    refine zr_getN (k := 24) (v := .ref (kA c (rP j))) in_X2 hbj rfl (Nat.le_of_ble_eq_true rfl) q292 (.inl rfl) rfl dX1_isConsistent_49 ?_
    obtain ⟨_, σ3, ⟨rfl, hL3, hX3⟩, hC3⟩ := c_add (d := d - 1) (x := kA c (rP j)) (by omega) hG hX2.gd hL2 (by rw [List.length_map, List.length_range]; omega) ⟨_, _, _, _, _, .new hpo, rfl, q2848⟩ hel2
    rw [List.length_map, List.length_range] at hX3
    refine zr_call51 (rest := []) (zs_F (As := [.ref (kA c (rP j))]) (by omega) okF_J2_add (by decide +kernel) q352 q355 q357 q56 q359 hflp rfl rfl rfl (Nat.le_of_ble_eq_true rfl) dX1_isConsistent_52) hC3 ?_
    refine zr_pop dX1_isConsistent_57 rfl ?_
    refine zr_aload_n dX1_isConsistent_58 rfl rfl ?_
    have hd3 : ∀ s, S2 (dT pl) s → SC s ∨ 10000 + 2 * sZ σ0 ≤ s := fun s hs => Or.inr (by unfold dT at hs; omega)
    have hXr3 := hX2.step hle hw0 hX3 hd3
    have hS3 := hS2.keep hX2.gd hX3 (fun s h1 h2 h3 => by unfold dT at h3; omega)
    have hO3 : ∀ i, i < kN c0 → Old (if i < j then 4000 else 0) σ0 σ3 i := fun i hi => (hO2 i hi).keep0 (by omega) hX2.1 hX3 (by split <;> omega) (fun t h => Or.inr (Or.inl (by unfold dT at h; omega)))
    have hI3 := hX3.f hX2.gd hI2 (by rw [hT2]; unfold dT; omega)
    have hT3 := (hX3.t hX2.gd hI2).trans hT2
    have hel3 : ∀ y, y ∈ (List.range j).map (fun j => kA c0 (rP j)) ++ [kA c (rP j)] → zEl G σ3 y := fun y hy => by
      rcases List.mem_append.mp hy with h | h
      · exact hX3.2.2.1 _ (hel2 y h)
      · rw [List.mem_singleton.mp h]
        exact hX3.2.2.1 _ ⟨_, _, _, _, _, .new hpo, rfl, q2848⟩
    have hmapj : (List.range j).map (fun j => kA c0 (rP j)) ++ [kA c (rP j)] = (List.range (j + 1)).map (fun j => kA c0 (rP j)) := by rw [hpA, List.range_succ, List.map_append]; rfl
    rw [hmapj] at hL3 hel3
    refine zr_tag (σ2 := sRa σ3 j) rfl rfl rfl ?_
    have hXr4 := hXr3.ra hle hkl
    have hO4 : ∀ i, i < kN c0 → Old (if i < j + 1 then 4000 else 0) σ0 (sRa σ3 j) i := fun i hi => by
      have h9 := hO3 i hi
      by_cases e : i = j
      · subst e
        rw [if_neg (by omega)] at h9
        rw [if_pos (by omega)]
        exact h9.ra
      · have h8 := h9.ra_ne (k := j) (by omega) (by omega) (fun h => e h.symm) (by split <;> omega)
        by_cases e2 : i < j
        · rw [if_pos e2] at h8; rw [if_pos (by omega)]; exact h8
        · rw [if_neg e2] at h8; rw [if_neg (by omega)]; exact h8
    have hL4 : zL G (sRa σ3 j) (dT pl) pl (mod + 1) ((List.range (j + 1)).map (fun j => kA c0 (rP j))) := hL3.keep (fun a e ha ht => ⟨ha, by
      rw [sT_ra, if_neg (fun hp => by have := PT_b hp; unfold dT at ht; omega)]⟩)
    have hI4 : sF (sRa σ3 j) it = _ := hI3
    have hT4 : sT (sRa σ3 j) it = 0 := by rw [sT_ra, hT3, if_neg (fun hp => by have := PT_b hp; omega)]
    have hb4 : sF (sRa σ3 j) (kA c (rB j)) = some (.inr (2, kBx c j)) := (hS3.2.2.1 j hj).1.1
    have hbt4 : sT (sRa σ3 j) (kA c (rB j)) = rB j := by rw [sT_ra, (hS3.2.2.1 j hj).1.2, if_neg (fun hp => by have := PT_b hp; unfold rB at this; omega)]
    have hTk : ∀ a t, a < sZ σ3 → sT σ3 a = t → t < 1000 → ¬ PT j t → sT (sRa σ3 j) a = t := fun a t _ h1 _ h2 => by rw [sT_ra, h1, if_neg h2]
    have hF4 : sF (sRa σ3 j) = sF σ3 := rfl
    have hel4 : ∀ y, y ∈ (List.range (j + 1)).map (fun j => kA c0 (rP j)) → zEl G (sRa σ3 j) y := hel3
    generalize hσ4 : sRa σ3 j = σ4 at hXr4 hO4 hL4 hI4 hT4 hb4 hbt4 hTk hF4 hel4 ⊢
    rw [← hE.b j]
    refine zr_new (ci := 3) (rP j) zt_X3 q1079 q181 q58 rfl df_X3 dX1_isConsistent_59 ?_
    refine zr_dup dX1_isConsistent_62 rfl ?_
    refine zr_callv (rest := [.ref (sZ σ4), .ref (kA c (rB j))]) (zs_IN (As := []) (by omega) ok_X3_init q1080 q183 q58 q184 rfl rfl rfl (Nat.le_of_ble_eq_true rfl) dX1_isConsistent_63) (c_X3_init (rL j) (by omega) hG (sF_newS _ _ _ _) (Nat.lt_succ_self _)) ?_
    obtain ⟨hX5, hp5, hpt5, hl5, -⟩ := mkPl (G := G) (tp := rP j) (tl := rL j) hXr4.gd (by unfold rP; omega) (by unfold rL; omega) (σ3 := (sUp (sNew (sNew σ4 (rP j) (.inr (3, d0_X3)) 6) (rL j) (.inr (20, [.int 0, .ref (zc G 0), .int 0])) 3) (sZ σ4) (.inr (3, [.int 0, .int 0, .int 0, .int 0, .int 0, .ref (sZ σ4 + 1)])))) rfl
    show zR _ _ _ _ _ _ _ _ _ _ (sUp (sNew (sNew σ4 (rP j) (.inr (3, d0_X3)) 6) (rL j) (.inr (20, [.int 0, .ref (zc G 0), .int 0])) 3) (sZ σ4) (.inr (3, [.int 0, .int 0, .int 0, .int 0, .int 0, .ref (sZ σ4 + 1)]))) _
    generalize hσ5 : sUp (sNew (sNew σ4 (rP j) (.inr (3, d0_X3)) 6) (rL j) (.inr (20, [.int 0, .ref (zc G 0), .int 0])) 3) (sZ σ4) (.inr (3, [.int 0, .int 0, .int 0, .int 0, .int 0, .ref (sZ σ4 + 1)])) = σ5 at hX5 hp5 hpt5 hl5 ⊢
    obtain ⟨np, hnp⟩ : ∃ z, z = sZ σ4 := ⟨_, rfl⟩
    obtain ⟨nl, hnl⟩ : ∃ z, z = np + 1 := ⟨_, rfl⟩
    rw [← hnp] at hp5 hpt5 hl5 ⊢
    rw [← hnl] at hp5 hl5
    have hb5 := hX5.f hXr4.gd hb4 (fun h => h)
    have hbt5 := (hX5.t hXr4.gd hb4).trans hbt4
    refine zr_putN (k := 24) (fs' := (kBx (kPut c j np nl (fun _ => 0) []) j)) zt_X2 hb5 rfl (Nat.le_of_ble_eq_true rfl) q292 (.inl rfl) rfl rfl rfl (Nat.le_of_ble_eq_true rfl) (kBx_put c j np nl (fun _ => 0) []) dX1_isConsistent_66 ?_
    have hX6 : zX G (fun s => s = rB j) σ4 (sUp σ5 (kA c (rB j)) (.inr (2, kBx (kPut c j np nl (fun _ => 0) []) j))) (17 + 0) := hX5.in.trans (zX.up hX5.gd hb5 hbt5)
    have hX56 : zX G (fun s => s = rB j) σ5 (sUp σ5 (kA c (rB j)) (.inr (2, kBx (kPut c j np nl (fun _ => 0) []) j))) 0 := zX.up hX5.gd hb5 hbt5
    have hb6 : sF (sUp σ5 (kA c (rB j)) (.inr (2, kBx (kPut c j np nl (fun _ => 0) []) j))) (kA c (rB j)) = some (.inr (2, kBx (kPut c j np nl (fun _ => 0) []) j)) := sF_upS _ _ _
    have hp6 := hX56.f hX5.gd hp5 (by rw [hpt5]; unfold rP rB; omega)
    have hpt6 := (hX56.t hX5.gd hp5).trans hpt5
    have hl6 := hX56.L hX5.gd hl5 (by unfold rL rB; omega) (by unfold rL rB; omega)
    generalize hσ6 : sUp σ5 (kA c (rB j)) (.inr (2, kBx (kPut c j np nl (fun _ => 0) []) j)) = σ6 at hX6 hX56 hb6 hp6 hpt6 hl6 ⊢
    have hS6 : CSys G σ6 (kPut c j np nl (fun _ => 0) []) := CSys.place hS3 hXr3.gd hXr4.gd hj hF4 hTk hX6 hb6 ⟨hp6, hpt6⟩ ⟨0, [], hl6, rfl, fun j q z h => by cases h⟩
    have hXr6 := hXr4.step hle hw0 hX6 (fun s hs => Or.inl (by rw [hs]; unfold rB; exact ⟨by omega, by omega⟩))
    have hO6 : ∀ i, i < kN c0 → Old (if i < j + 1 then 4000 else 0) σ0 σ6 i := fun i hi => (hO4 i hi).keep0 (by omega) hXr4.1 hX6 (by split <;> omega) (fun t h => Or.inr (Or.inr ⟨j, h, by omega⟩))
    have hE6 := hE.trans (KEq.Put2 c j np nl (fun _ => 0) [])
    refine zr_goto (tgt := 28) dX1_isConsistent_69 (by decide) ?_
    refine zr_sub (ls2 := [(0, .ref (kA c0 1)), (1, .ref pl), (2, .ref it)]) [0, 1, 2] rfl ?_
    refine ih (j + 1) _ _ _ (kPut c j np nl (fun _ => 0) []) σ6 hy2 hkl hE6 hF (kClr_put hZ) (fun i hi => ?_) hXr6 hO6 hS6 (hX6.L hXr4.gd hL4 (by unfold dT rB; omega) (by unfold dT rB; omega)) (fun y hy => hX6.2.2.1 _ (hel4 y hy)) (by omega) (hX6.f hXr4.gd hI4 (by rw [hT4]; unfold rB; omega)) ((hX6.t hXr4.gd hI4).trans hT4) kQ
    rw [kPut_A (by unfold rP; omega) (by unfold rP rL; omega)]
    exact hA i (by omega)
