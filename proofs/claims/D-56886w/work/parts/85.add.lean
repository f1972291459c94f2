/-! ===== the component: add (rows printed by tools/p85.py) ===== -/
theorem sum_len : ∀ l : List Nat, (l.map (fun _ => 1)).sum = l.length
  | [] => rfl
  | x :: t => by rw [List.map_cons, List.sum_cons, sum_len t, List.length_cons]; omega
def newF (kd dp : Int32) (k : Nat) : Int32 := match k with
  | 2 => kd
  | 3 => dp
  | 6 => -1
  | 7 => -1
  | 14 => 1
  | 15 => 1
  | 16 => 110
  | 17 => 115
  | 22 => 97
  | 23 => 108
  | 25 => -1
  | _ => 0
/-- one box more, with the number kN c: its parent, kind; the addresses of all -/
def kAddA (c : zCS) (p : Nat) (kd : Int32) (A : Nat → Nat) : zCS :=
  (kN c + 1, A, fun t => if t = 2 then kM c 2 + 1 else if t = rC p then kM c (rC p) + 1 else if t = rC (kN c) then 0 else if t = rW (kN c) then 0 else kM c t,
   fun i k => if i = kN c then newF kd (kF c p 3 + 1) k else kF c i k, fun i => if i = kN c then some p else kPar c i,
   fun i => if i = kN c then [] else if i = p then kCh c p ++ [kN c] else kCh c i, fun i => if i = kN c then [] else kWd c i, fun i k => if i = kN c then 0 else kP c i k, fun i => if i = kN c then [] else kLn c i, kLw c, kCt c)
def addA (c : zCS) (b ch wd pl ln : Nat) : Nat → Nat := fun t => if t = rB (kN c) then b else if t = rC (kN c) then ch else if t = rW (kN c) then wd else if t = rP (kN c) then pl else if t = rL (kN c) then ln else kA c t
theorem addA_o {c : zCS} {b ch wd pl ln t : Nat} (h : t < 16 * kN c + 16) : addA c b ch wd pl ln t = kA c t := by
  unfold addA rB rC rW rP rL
  rw [if_neg (by omega), if_neg (by omega), if_neg (by omega), if_neg (by omega), if_neg (by omega)]
theorem addA_b (c : zCS) (b ch wd pl ln : Nat) : addA c b ch wd pl ln (rB (kN c)) = b := if_pos rfl
theorem addA_c (c : zCS) (b ch wd pl ln : Nat) : addA c b ch wd pl ln (rC (kN c)) = ch := by unfold addA; rw [if_neg (by unfold rC rB; omega), if_pos rfl]
theorem addA_w (c : zCS) (b ch wd pl ln : Nat) : addA c b ch wd pl ln (rW (kN c)) = wd := by unfold addA; rw [if_neg (by unfold rW rB; omega), if_neg (by unfold rW rC; omega), if_pos rfl]
theorem addA_p (c : zCS) (b ch wd pl ln : Nat) : addA c b ch wd pl ln (rP (kN c)) = pl := by unfold addA; rw [if_neg (by unfold rP rB; omega), if_neg (by unfold rP rC; omega), if_neg (by unfold rP rW; omega), if_pos rfl]
theorem addA_l (c : zCS) (b ch wd pl ln : Nat) : addA c b ch wd pl ln (rL (kN c)) = ln := by unfold addA; rw [if_neg (by unfold rL rB; omega), if_neg (by unfold rL rC; omega), if_neg (by unfold rL rW; omega), if_neg (by unfold rL rP; omega), if_pos rfl]
theorem KWf.add {c : zCS} (h : KWf c) {p : Nat} {kd : Int32} (A : Nat → Nat) (hN : kN c < 24) (hp : p < kN c) (hkd : kd = 98 ∨ kd = 116 ∨ kd = 102 ∨ kd = 103) : KWf (kAddA c p kd A) := by
  refine ⟨by show kN c + 1 ≤ 24; omega, fun i hi => ?_⟩
  have hi' : i < kN c + 1 := hi
  by_cases e : i = kN c
  · subst e
    refine ⟨fun q hq => ?_, fun j hj => ?_, ⟨?_, ?_⟩, ⟨?_, fun v hv => ?_⟩, fun k => ?_⟩
    · have h9 : (if kN c = kN c then some p else kPar c (kN c)) = some q := hq
      rw [if_pos rfl] at h9
      cases h9
      exact hp
    · have h9 : j ∈ (if kN c = kN c then [] else if kN c = p then kCh c p ++ [kN c] else kCh c (kN c)) := hj
      rw [if_pos rfl] at h9
      cases h9
    · show (if kN c = kN c then [] else if kN c = p then kCh c p ++ [kN c] else kCh c (kN c)).length ≤ 24
      rw [if_pos rfl]; exact Nat.zero_le _
    · show (if kN c = kN c then [] else if kN c = p then kCh c p ++ [kN c] else kCh c (kN c)).Nodup
      rw [if_pos rfl]; exact List.nodup_nil
    · show (if kN c = kN c then [] else kWd c (kN c)).length ≤ 20
      rw [if_pos rfl]; exact Nat.zero_le _
    · have h9 : v ∈ (if kN c = kN c then [] else kWd c (kN c)) := hv
      rw [if_pos rfl] at h9
      cases h9
    · show KVal k (if kN c = kN c then newF kd (kF c p 3 + 1) k else kF c (kN c) k)
      rw [if_pos rfl]
      unfold newF
      split
      · exact hkd
      · exact trivial
      · show btw (-1) (-1) 400 = true; decide
      · show btw (-1) (-1) 400 = true; decide
      · show btw 1 0 9 = true; decide
      · exact ⟨1, by omega, by omega, rfl⟩
      · exact Or.inl rfl
      · exact Or.inl rfl
      · exact Or.inl rfl
      · exact Or.inl rfl
      · exact trivial
      · rename_i n1 n2 n3 n4 n5 n6 n7 n8 n9 n10 n11
        unfold KVal
        split
        all_goals first | exact trivial | (show btw 0 _ _ = true; decide) | exact Or.inl rfl | (exfalso; first | exact n1 rfl | exact n2 rfl | exact n3 rfl | exact n4 rfl | exact n5 rfl | exact n6 rfl | exact n7 rfl | exact n8 rfl | exact n9 rfl | exact n10 rfl | exact n11 rfl)
  · have hin : i < kN c := by omega
    obtain ⟨h1, h2, ⟨h3, h3'⟩, ⟨h4, h4'⟩, h5⟩ := h.2 i hin
    have ec : kCh (kAddA c p kd A) i = if i = p then kCh c p ++ [kN c] else kCh c i := by
      show (if i = kN c then [] else if i = p then kCh c p ++ [kN c] else kCh c i) = _
      rw [if_neg e]
    have ep : ∀ j, j < kN c → kPar (kAddA c p kd A) j = kPar c j := by
      intro j hj
      show (if j = kN c then some p else kPar c j) = _
      rw [if_neg (by omega)]
    have epn : kPar (kAddA c p kd A) (kN c) = some p := by
      show (if kN c = kN c then some p else kPar c (kN c)) = _
      rw [if_pos rfl]
    refine ⟨fun q hq => h1 q ((ep i hin).symm.trans hq), fun j hj => ?_, ?_, ⟨?_, fun v hv => ?_⟩, fun k => ?_⟩
    · rw [ec] at hj
      by_cases eip : i = p
      · rw [if_pos eip] at hj
        rcases List.mem_append.mp hj with hj | hj
        · have h9 := h2 j (by rw [eip]; exact hj)
          exact ⟨⟨h9.1.1, by show j < kN c + 1; omega⟩, (ep j h9.1.2).trans h9.2⟩
        · rw [List.mem_singleton.mp hj]
          exact ⟨⟨hin, Nat.lt_succ_self _⟩, by rw [epn, eip]⟩
      · rw [if_neg eip] at hj
        have h9 := h2 j hj
        exact ⟨⟨h9.1.1, by show j < kN c + 1; omega⟩, (ep j h9.1.2).trans h9.2⟩
    · rw [ec]
      by_cases eip : i = p
      · rw [if_pos eip]
        have hnd : (kCh c p ++ [kN c]).Nodup := by
          refine List.nodup_append.mpr ⟨by rw [← eip]; exact h3', List.nodup_cons.mpr ⟨List.not_mem_nil, List.nodup_nil⟩, fun a ha b hb hab => ?_⟩
          rw [List.mem_singleton.mp hb] at hab
          have := (h2 a (by rw [eip]; exact ha)).1.2
          omega
        refine ⟨?_, hnd⟩
        have h8 := nodup_sum (fun _ => 1) (kN c + 1) (kCh c p ++ [kN c]) hnd (fun x hx => by
          rcases List.mem_append.mp hx with hx | hx
          · have := (h2 x (by rw [eip]; exact hx)).1.2; omega
          · rw [List.mem_singleton.mp hx]; omega)
        rw [sum_one] at h8
        have h7 : ((kCh c p ++ [kN c]).map (fun _ => 1)).sum = (kCh c p ++ [kN c]).length := sum_len _
        omega
      · rw [if_neg eip]; exact ⟨h3, h3'⟩
    · show (if i = kN c then [] else kWd c i).length ≤ 20
      rw [if_neg e]; exact h4
    · have h9 : v ∈ (if i = kN c then [] else kWd c i) := hv
      rw [if_neg e] at h9
      exact h4' v h9
    · show KVal k (if i = kN c then newF kd (kF c p 3 + 1) k else kF c i k)
      rw [if_neg e]; exact h5 k
theorem kTouch_Z (c : zCS) (i : Nat) : kZ (kTouch c i) = kTouch (kZ c) i := by
  have h : ∀ f c i, kZ (tchF f c i) = tchF f (kZ c) i := by
    intro f
    induction f with
    | zero => intro c i; rfl
    | succ f ih =>
      intro c i
      show kZ (match kPar c i with | none => kSetF c i 25 (-1) | some p => tchF f (kSetF c i 25 (-1)) p) = (match kPar c i with | none => kSetF (kZ c) i 25 (-1) | some p => tchF f (kSetF (kZ c) i 25 (-1)) p)
      cases kPar c i with
      | none => rfl
      | some p => exact ih _ p
  exact h 24 _ i
abbrev ST4 (p : Nat) : Nat → Prop := fun s => s = 2 ∨ s = 3 ∨ s = rC p ∨ s = rC p + 1
/-- the store behind add -/
theorem CSys.add {G : zG} {σ σ1 σ3 : zT} {c : zCS} {p b ch wd pl ln n0 n1 : Nat} {kd : Int32} (hS : CSys G σ c) (hw : zGd G σ) (hw1 : zGd G σ1) (hN : kN c < 24) (hp : p < kN c) (hkd : kd = 98 ∨ kd = 116 ∨ kd = 102 ∨ kd = 103)
    (hX : zX G (ST4 p) σ σ3 n0) (hX1 : zX G (ST4 p) σ1 σ3 n1)
    (hb : sF σ1 b = some (.inr (2, [.int (nI (kN c)), .ref (kA c (rB p)), .int kd, .int (kF c p 3 + 1), .ref ch, .ref wd, .int (-1), .int (-1), .int 0, .int 0, .int 0, .int 0, .int 0, .int 0, .int 1, .int 1, .int 110, .int 115, .int 0, .int 0, .int 0, .int 0, .int 97, .int 108, .ref pl, .int (-1), .ref (kA c 1)]))) (hbt : sT σ1 b = rB (kN c))
    (hch : zL G σ1 (rC (kN c)) ch 0 []) (hwd : zL G σ1 (rW (kN c)) wd 0 []) (hpl : sF σ1 pl = some (.inr (3, [.int 0, .int 0, .int 0, .int 0, .int 0, .ref ln]))) (hplt : sT σ1 pl = rP (kN c)) (hln : zL G σ1 (rL (kN c)) ln 0 [])
    (hbx : zL G σ3 2 (kA c 2) (kM c 2 + 1) ((List.range (kN c)).map (fun j => kA c (rB j)) ++ [b])) (hcx : zL G σ3 (rC p) (kA c (rC p)) (kM c (rC p) + 1) ((kCh c p).map (fun j => kA c (rB j)) ++ [b])) :
    CSys G σ3 (kAddA c p kd (addA c b ch wd pl ln)) := by
  have hA : ∀ i t, i < kN c → t ≤ 16 * i + 26 → addA c b ch wd pl ln t = kA c t := fun i t hi ht => addA_o (by omega)
  have hAB : ∀ i, i < kN c → addA c b ch wd pl ln (rB i) = kA c (rB i) := fun i hi => hA i _ hi (by unfold rB; omega)
  have hpar : ∀ i, i < kN c → kPr (kAddA c p kd (addA c b ch wd pl ln)) i = kPr c i := by
    intro i hi
    show ((if i = kN c then some p else kPar c i).map (fun q => addA c b ch wd pl ln (rB q))) = (kPar c i).map (fun q => kA c (rB q))
    rw [if_neg (by omega)]
    cases hq : kPar c i with
    | none => rfl
    | some q => exact congrArg some (hAB q (by have := hS.parlt hi hq; omega))
  have hrC : ∀ i j, i < kN c → (rC i = rC j ↔ i = j) := by intro i j _; unfold rC; omega
  obtain ⟨⟨a1, a2⟩, a3, a4, a5⟩ := hS
  refine ⟨⟨?_, ?_⟩, ?_, fun i hi => ?_, a5.add _ hN hp hkd⟩
  · show sF σ3 (addA c b ch wd pl ln 1) = some (.inr (1, [.ref (addA c b ch wd pl ln 2), .int (kLw c), .int (kCt c)]))
    rw [addA_o (by omega), addA_o (by omega)]
    exact hX.f hw a1 (by rw [a2]; unfold ST4 rC; omega)
  · show sT σ3 (addA c b ch wd pl ln 1) = 1
    rw [addA_o (by omega)]
    exact (hX.t hw a1).trans a2
  · show zL G σ3 2 (addA c b ch wd pl ln 2) (if (2:Nat) = 2 then kM c 2 + 1 else if (2:Nat) = rC p then kM c (rC p) + 1 else if (2:Nat) = rC (kN c) then 0 else if (2:Nat) = rW (kN c) then 0 else kM c ((2:Nat))) ((List.range (kN c + 1)).map (fun j => addA c b ch wd pl ln (rB j)))
    rw [addA_o (by omega), if_pos rfl, List.range_succ, List.map_append]
    have e1 : (List.range (kN c)).map (fun j => addA c b ch wd pl ln (rB j)) = (List.range (kN c)).map (fun j => kA c (rB j)) := List.map_congr_left (fun j hj => hAB j (List.mem_range.mp hj))
    rw [e1]
    show zL G σ3 2 (kA c 2) (kM c 2 + 1) (_ ++ [addA c b ch wd pl ln (rB (kN c))])
    rw [addA_b]
    exact hbx
  · have hi' : i < kN c + 1 := hi
    by_cases e : i = kN c
    · subst e
      refine ⟨⟨?_, ?_⟩, ?_, ?_, ⟨?_, ?_⟩, ?_⟩
      · show sF σ3 (addA c b ch wd pl ln (rB (kN c))) = _
        rw [addA_b, hX1.f hw1 hb (by rw [hbt]; unfold ST4 rC rB; omega)]
        unfold kBx
        have e2 : kPr (kAddA c p kd (addA c b ch wd pl ln)) (kN c) = some (kA c (rB p)) := by
          show ((if kN c = kN c then some p else kPar c (kN c)).map (fun q => addA c b ch wd pl ln (rB q))) = _
          rw [if_pos rfl]
          exact congrArg some (hAB p hp)
        have ef : ∀ k, kF (kAddA c p kd (addA c b ch wd pl ln)) (kN c) k = newF kd (kF c p 3 + 1) k := by
          intro k
          show (if kN c = kN c then newF kd (kF c p 3 + 1) k else kF c (kN c) k) = _
          rw [if_pos rfl]
        have eA : kA (kAddA c p kd (addA c b ch wd pl ln)) = addA c b ch wd pl ln := rfl
        rw [e2, eA, addA_c, addA_w, addA_p, addA_o (t := 1) (by omega)]
        simp only [ef]
        rfl
      · show sT σ3 (addA c b ch wd pl ln (rB (kN c))) = _
        rw [addA_b]
        exact (hX1.t hw1 hb).trans hbt
      · show zL G σ3 (rC (kN c)) (addA c b ch wd pl ln (rC (kN c))) (if rC (kN c) = 2 then kM c 2 + 1 else if rC (kN c) = rC p then kM c (rC p) + 1 else if rC (kN c) = rC (kN c) then 0 else if rC (kN c) = rW (kN c) then 0 else kM c (rC (kN c))) ((if kN c = kN c then [] else if kN c = p then kCh c p ++ [kN c] else kCh c (kN c)).map (fun j => addA c b ch wd pl ln (rB j)))
        rw [addA_c, if_neg (by unfold rC; omega), if_neg (by unfold rC; omega), if_pos rfl, if_pos rfl]
        exact hX1.L hw1 hch (by unfold ST4 rC; omega) (by unfold ST4 rC; omega)
      · show zL G σ3 (rW (kN c)) (addA c b ch wd pl ln (rW (kN c))) (if rW (kN c) = 2 then kM c 2 + 1 else if rW (kN c) = rC p then kM c (rC p) + 1 else if rW (kN c) = rC (kN c) then 0 else if rW (kN c) = rW (kN c) then 0 else kM c (rW (kN c))) ((if kN c = kN c then [] else kWd c (kN c)).map (zbx G))
        rw [addA_w, if_neg (by unfold rW; omega), if_neg (by unfold rW rC; omega), if_neg (by unfold rW rC; omega), if_pos rfl, if_pos rfl]
        exact hX1.L hw1 hwd (by unfold ST4 rC rW; omega) (by unfold ST4 rC rW; omega)
      · show sF σ3 (addA c b ch wd pl ln (rP (kN c))) = _
        rw [addA_p, hX1.f hw1 hpl (by rw [hplt]; unfold ST4 rC rP; omega)]
        unfold kPl
        have eA : kA (kAddA c p kd (addA c b ch wd pl ln)) = addA c b ch wd pl ln := rfl
        have ef : ∀ k, kP (kAddA c p kd (addA c b ch wd pl ln)) (kN c) k = 0 := by
          intro k
          show (if kN c = kN c then (0 : Int32) else kP c (kN c) k) = _
          rw [if_pos rfl]
        rw [eA, addA_l]
        simp only [ef]
      · show sT σ3 (addA c b ch wd pl ln (rP (kN c))) = _
        rw [addA_p]
        exact (hX1.t hw1 hpl).trans hplt
      · show zLn G σ3 (rL (kN c)) (rO (kN c)) (addA c b ch wd pl ln (rL (kN c))) (if kN c = kN c then [] else kLn c (kN c))
        rw [addA_l, if_pos rfl]
        exact ⟨0, [], hX1.L hw1 hln (by unfold ST4 rC rL; omega) (by unfold ST4 rC rL; omega), rfl, fun j q z h => by cases h⟩
    · have hin : i < kN c := by omega
      obtain ⟨⟨b1, b2⟩, b3, b4, ⟨b5, b6⟩, b7⟩ := a4 i hin
      refine ⟨⟨?_, ?_⟩, ?_, ?_, ⟨?_, ?_⟩, ?_⟩
      · show sF σ3 (addA c b ch wd pl ln (rB i)) = _
        rw [hAB i hin, hX.f hw b1 (by rw [b2]; unfold ST4 rC rB; omega)]
        unfold kBx
        have ef : ∀ k, kF (kAddA c p kd (addA c b ch wd pl ln)) i k = kF c i k := by
          intro k
          show (if i = kN c then newF kd (kF c p 3 + 1) k else kF c i k) = _
          rw [if_neg e]
        have eA : kA (kAddA c p kd (addA c b ch wd pl ln)) = addA c b ch wd pl ln := rfl
        rw [hpar i hin, eA, hA i (rC i) hin (by unfold rC; omega), hA i (rW i) hin (by unfold rW; omega), hA i (rP i) hin (by unfold rP; omega), addA_o (t := 1) (by omega)]
        simp only [ef]
      · show sT σ3 (addA c b ch wd pl ln (rB i)) = _
        rw [hAB i hin]
        exact (hX.t hw b1).trans b2
      · show zL G σ3 (rC i) (addA c b ch wd pl ln (rC i)) (if rC i = 2 then kM c 2 + 1 else if rC i = rC p then kM c (rC p) + 1 else if rC i = rC (kN c) then 0 else if rC i = rW (kN c) then 0 else kM c (rC i)) ((if i = kN c then [] else if i = p then kCh c p ++ [kN c] else kCh c i).map (fun j => addA c b ch wd pl ln (rB j)))
        rw [hA i (rC i) hin (by unfold rC; omega), if_neg (by unfold rC; omega), if_neg e]
        by_cases eip : i = p
        · subst eip
          rw [if_pos rfl, if_pos rfl, List.map_append]
          have e1 : (kCh c i).map (fun j => addA c b ch wd pl ln (rB j)) = (kCh c i).map (fun j => kA c (rB j)) := List.map_congr_left (fun j hj => hAB j (a5.ch hin hj).2.1)
          rw [e1]
          show zL G σ3 (rC i) (kA c (rC i)) (kM c (rC i) + 1) (_ ++ [addA c b ch wd pl ln (rB (kN c))])
          rw [addA_b]
          exact hcx
        · rw [if_neg (fun h => eip ((hrC i p hin).mp h)), if_neg eip, if_neg (by unfold rC; omega), if_neg (by unfold rC rW; omega)]
          have e1 : (kCh c i).map (fun j => addA c b ch wd pl ln (rB j)) = (kCh c i).map (fun j => kA c (rB j)) := List.map_congr_left (fun j hj => hAB j (a5.ch hin hj).2.1)
          rw [e1]
          exact hX.L hw b3 (by unfold ST4 rC; omega) (by unfold ST4 rC; omega)
      · show zL G σ3 (rW i) (addA c b ch wd pl ln (rW i)) (if rW i = 2 then kM c 2 + 1 else if rW i = rC p then kM c (rC p) + 1 else if rW i = rC (kN c) then 0 else if rW i = rW (kN c) then 0 else kM c (rW i)) ((if i = kN c then [] else kWd c i).map (zbx G))
        rw [hA i (rW i) hin (by unfold rW; omega), if_neg (by unfold rW; omega), if_neg (by unfold rW rC; omega), if_neg (by unfold rW rC; omega), if_neg (by unfold rW; omega), if_neg e]
        exact hX.L hw b4 (by unfold ST4 rC rW; omega) (by unfold ST4 rC rW; omega)
      · show sF σ3 (addA c b ch wd pl ln (rP i)) = _
        rw [hA i (rP i) hin (by unfold rP; omega), hX.f hw b5 (by rw [b6]; unfold ST4 rC rP; omega)]
        unfold kPl
        have eA : kA (kAddA c p kd (addA c b ch wd pl ln)) = addA c b ch wd pl ln := rfl
        have ef : ∀ k, kP (kAddA c p kd (addA c b ch wd pl ln)) i k = kP c i k := by
          intro k
          show (if i = kN c then (0 : Int32) else kP c i k) = _
          rw [if_neg e]
        rw [eA, hA i (rL i) hin (by unfold rL; omega)]
        simp only [ef]
      · show sT σ3 (addA c b ch wd pl ln (rP i)) = _
        rw [hA i (rP i) hin (by unfold rP; omega)]
        exact (hX.t hw b5).trans b6
      · show zLn G σ3 (rL i) (rO i) (addA c b ch wd pl ln (rL i)) (if i = kN c then [] else kLn c i)
        rw [hA i (rL i) hin (by unfold rL; omega), if_neg e]
        exact zLn.keep hX hw b7 (by unfold ST4 rC rL; omega) (by unfold ST4 rC rL; omega) (by unfold ST4 rC rO; omega)
