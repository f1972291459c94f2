/-! ===== the reference: add (rows printed by tools/p124.py) ===== -/
/-- one box more in the reference -/
def mAddA (c : zCS) (p : Nat) (kd : Int32) (A : Nat → Nat) : zCS :=
  (kN c + 1, A, fun t => if t = 2 then kM c 2 + 1 else if t = rC p then kM c (rC p) + 1 else if t = rC (kN c) then 0 else if t = rW (kN c) then 0 else kM c t,
   fun i k => if i = kN c then newM kd (kF c p 3 + 1) k else kF c i k, fun i => if i = kN c then some p else kPar c i,
   fun i => if i = kN c then [] else if i = p then kCh c p ++ [kN c] else kCh c i, fun i => if i = kN c then [] else kWd c i, fun i k => if i = kN c then (if k = 4 then -1 else 0) else kP c i k, fun i => if i = kN c then [] else kLn c i, kLw c, kCt c)
theorem KWf.addM {c : zCS} (h : KWf c) {p : Nat} {kd : Int32} (A : Nat → Nat) (hN : kN c < 24) (hp : p < kN c) (hkd : kd = 98 ∨ kd = 116 ∨ kd = 102 ∨ kd = 103) : KWf (mAddA c p kd A) := by
  have h9 := h.add A hN hp hkd
  refine ⟨h9.1, fun i hi => ?_⟩
  have h8 := h9.2 i hi
  refine ⟨h8.1, h8.2.1, h8.2.2.1, h8.2.2.2.1, fun k => ?_⟩
  have h7 : KVal k (if i = kN c then newF kd (kF c p 3 + 1) k else kF c i k) := h8.2.2.2.2 k
  show KVal k (if i = kN c then newM kd (kF c p 3 + 1) k else kF c i k)
  by_cases e : i = kN c
  · rw [if_pos e] at h7 ⊢
    unfold newM
    by_cases e2 : k = 25
    · rw [if_pos e2]; subst e2; exact trivial
    · rw [if_neg e2]; exact h7
  · rw [if_neg e] at h7 ⊢
    exact h7
theorem MWf.add {c : zCS} (h : MWf c) {p : Nat} {kd : Int32} (A : Nat → Nat) (hN : kN c < 24) (hp : p < kN c) (hkd : kd = 98 ∨ kd = 116 ∨ kd = 102 ∨ kd = 103) (hp2 : kF c p 2 ≠ 116) : MWf (mAddA c p kd A) := by
  refine ⟨h.1.addM A hN hp hkd, h.2.1, fun i => ?_, fun i q hi hq => ?_⟩
  · show (if i = kN c then newM kd (kF c p 3 + 1) 25 else kF c i 25) = 0 ∨ (if i = kN c then newM kd (kF c p 3 + 1) 25 else kF c i 25) = 1
    by_cases e : i = kN c
    · rw [if_pos e]; exact Or.inr rfl
    · rw [if_neg e]; exact h.2.2.1 i
  · have hq' : (if i = kN c then some p else kPar c i) = some q := hq
    show (if q = kN c then newM kd (kF c p 3 + 1) 2 else kF c q 2) ≠ 116
    by_cases e : i = kN c
    · rw [if_pos e] at hq'
      cases hq'
      rw [if_neg (by omega)]; exact hp2
    · rw [if_neg e] at hq'
      have hin : i < kN c := by have : i < kN c + 1 := hi; omega
      have := h.1.par hin hq'
      rw [if_neg (by omega)]
      exact h.2.2.2 i q hin hq'

abbrev ST4m (p : Nat) : Nat → Prop := fun s => s = 1002 ∨ s = 1003 ∨ s = 1000 + rC p ∨ s = 1000 + rC p + 1
theorem MSys.add {G : zG} {σ σ1 σ3 : zT} {c : zCS} {p b ch wd ln n0 n1 : Nat} {th ct : Int32} {kd : Int32} (hS : MSys G σ c th ct) (hw : zGd G σ) (hw1 : zGd G σ1) (hN : kN c < 24) (hp : p < kN c) (hkd : kd = 98 ∨ kd = 116 ∨ kd = 102 ∨ kd = 103)
    (hX : zX G (ST4m p) σ σ3 n0) (hX1 : zX G (ST4m p) σ1 σ3 n1)
    (hp2 : kF c p 2 ≠ 116) (hb : sF σ1 b = some (.inr (5, [.int (nI (kN c)), .int kd, .ref (kA c (rB p)), .int (kF c p 3 + 1), .ref ch, .ref wd, .ref ln, .int (-1), .int (-1), .int 0, .int 0, .int 0, .int 0, .int 0, .int 0, .int 1, .int 1, .int 0, .int 0, .int 0, .int 110, .int 115, .int 97, .int 108, .int 0, .int 1, .int (-1), .int 0, .int 0, .int 0, .int 0]))) (hbt : sT σ1 b = 1000 + rB (kN c))
    (hch : zL G σ1 (1000 + rC (kN c)) ch 0 []) (hwd : zL G σ1 (1000 + rW (kN c)) wd 0 []) (hln : zL G σ1 (1000 + rL (kN c)) ln 0 [])
    (hbx : zL G σ3 1002 (kA c 2) (kM c 2 + 1) ((List.range (kN c)).map (fun j => kA c (rB j)) ++ [b])) (hcx : zL G σ3 (1000 + rC p) (kA c (rC p)) (kM c (rC p) + 1) ((kCh c p).map (fun j => kA c (rB j)) ++ [b])) :
    MSys G σ3 (mAddA c p kd (addA c b ch wd 0 ln)) th ct := by
  have hA : ∀ i t, i < kN c → t ≤ 16 * i + 26 → addA c b ch wd 0 ln t = kA c t := fun i t hi ht => addA_o (by omega)
  have hAB : ∀ i, i < kN c → addA c b ch wd 0 ln (rB i) = kA c (rB i) := fun i hi => hA i _ hi (by unfold rB; omega)
  have hpar : ∀ i, i < kN c → kPr (mAddA c p kd (addA c b ch wd 0 ln)) i = kPr c i := by
    intro i hi
    show ((if i = kN c then some p else kPar c i).map (fun q => addA c b ch wd 0 ln (rB q))) = (kPar c i).map (fun q => kA c (rB q))
    rw [if_neg (by omega)]
    cases hq : kPar c i with
    | none => rfl
    | some q => exact congrArg some (hAB q (by have := hS.parlt hi hq; omega))
  have hrC : ∀ i j, i < kN c → (rC i = rC j ↔ i = j) := by intro i j _; unfold rC; omega
  obtain ⟨⟨a1, a2⟩, a3, a4, a5⟩ := hS
  refine ⟨⟨?_, ?_⟩, ?_, fun i hi => ?_, a5.add _ hN hp hkd hp2⟩
  · show sF σ3 (addA c b ch wd 0 ln 1) = some (.inr (4, [.ref (addA c b ch wd 0 ln 2), .int th, .int (kCt c), .int ct, .int (kLw c)]))
    rw [addA_o (by omega), addA_o (by omega)]
    exact hX.f hw a1 (by rw [a2]; unfold ST4m rC; omega)
  · show sT σ3 (addA c b ch wd 0 ln 1) = 1001
    rw [addA_o (by omega)]
    exact (hX.t hw a1).trans a2
  · show zL G σ3 1002 (addA c b ch wd 0 ln 2) (if (2:Nat) = 2 then kM c 2 + 1 else if (2:Nat) = rC p then kM c (rC p) + 1 else if (2:Nat) = rC (kN c) then 0 else if (2:Nat) = rW (kN c) then 0 else kM c ((2:Nat))) ((List.range (kN c + 1)).map (fun j => addA c b ch wd 0 ln (rB j)))
    rw [addA_o (by omega), if_pos rfl, List.range_succ, List.map_append]
    have e1 : (List.range (kN c)).map (fun j => addA c b ch wd 0 ln (rB j)) = (List.range (kN c)).map (fun j => kA c (rB j)) := List.map_congr_left (fun j hj => hAB j (List.mem_range.mp hj))
    rw [e1]
    show zL G σ3 1002 (kA c 2) (kM c 2 + 1) (_ ++ [addA c b ch wd 0 ln (rB (kN c))])
    rw [addA_b]
    exact hbx
  · have hi' : i < kN c + 1 := hi
    by_cases e : i = kN c
    · subst e
      refine ⟨⟨?_, ?_⟩, ?_, ?_, ?_⟩
      · show sF σ3 (addA c b ch wd 0 ln (rB (kN c))) = _
        rw [addA_b, hX1.f hw1 hb (by rw [hbt]; unfold ST4m rC rB; omega)]
        unfold mBx
        have e2 : kPr (mAddA c p kd (addA c b ch wd 0 ln)) (kN c) = some (kA c (rB p)) := by
          show ((if kN c = kN c then some p else kPar c (kN c)).map (fun q => addA c b ch wd 0 ln (rB q))) = _
          rw [if_pos rfl]
          exact congrArg some (hAB p hp)
        have ef : ∀ k, kF (mAddA c p kd (addA c b ch wd 0 ln)) (kN c) k = newM kd (kF c p 3 + 1) k := by
          intro k
          show (if kN c = kN c then newM kd (kF c p 3 + 1) k else kF c (kN c) k) = _
          rw [if_pos rfl]
        have eA : kA (mAddA c p kd (addA c b ch wd 0 ln)) = addA c b ch wd 0 ln := rfl
        have epp : ∀ k, kP (mAddA c p kd (addA c b ch wd 0 ln)) (kN c) k = if k = 4 then -1 else 0 := by
          intro k
          show (if kN c = kN c then (if k = 4 then (-1 : Int32) else 0) else kP c (kN c) k) = _
          rw [if_pos rfl]
        rw [e2, eA, addA_c, addA_w, addA_l]
        simp only [ef, epp]
        rfl
      · show sT σ3 (addA c b ch wd 0 ln (rB (kN c))) = _
        rw [addA_b]
        exact (hX1.t hw1 hb).trans hbt
      · show zL G σ3 (1000 + rC (kN c)) (addA c b ch wd 0 ln (rC (kN c))) (if rC (kN c) = 2 then kM c 2 + 1 else if rC (kN c) = rC p then kM c (rC p) + 1 else if rC (kN c) = rC (kN c) then 0 else if rC (kN c) = rW (kN c) then 0 else kM c (rC (kN c))) ((if kN c = kN c then [] else if kN c = p then kCh c p ++ [kN c] else kCh c (kN c)).map (fun j => addA c b ch wd 0 ln (rB j)))
        rw [addA_c, if_neg (by unfold rC; omega), if_neg (by unfold rC; omega), if_pos rfl, if_pos rfl]
        exact hX1.L hw1 hch (by unfold ST4m rC; omega) (by unfold ST4m rC; omega)
      · show zL G σ3 (1000 + rW (kN c)) (addA c b ch wd 0 ln (rW (kN c))) (if rW (kN c) = 2 then kM c 2 + 1 else if rW (kN c) = rC p then kM c (rC p) + 1 else if rW (kN c) = rC (kN c) then 0 else if rW (kN c) = rW (kN c) then 0 else kM c (rW (kN c))) ((if kN c = kN c then [] else kWd c (kN c)).map (zbx G))
        rw [addA_w, if_neg (by unfold rW; omega), if_neg (by unfold rW rC; omega), if_neg (by unfold rW rC; omega), if_pos rfl, if_pos rfl]
        exact hX1.L hw1 hwd (by unfold ST4m rC rW; omega) (by unfold ST4m rC rW; omega)
      · show mLn G σ3 (1000 + rL (kN c)) (1000 + rO (kN c)) (addA c b ch wd 0 ln (rL (kN c))) (if kN c = kN c then [] else kLn c (kN c))
        rw [addA_l, if_pos rfl]
        exact ⟨0, [], hX1.L hw1 hln (by unfold ST4m rC rL; omega) (by unfold ST4m rC rL; omega), rfl, fun j q z h => by cases h⟩
    · have hin : i < kN c := by omega
      obtain ⟨⟨b1, b2⟩, b3, b4, b7⟩ := a4 i hin
      refine ⟨⟨?_, ?_⟩, ?_, ?_, ?_⟩
      · show sF σ3 (addA c b ch wd 0 ln (rB i)) = _
        rw [hAB i hin, hX.f hw b1 (by rw [b2]; unfold ST4m rC rB; omega)]
        unfold mBx
        have ef : ∀ k, kF (mAddA c p kd (addA c b ch wd 0 ln)) i k = kF c i k := by
          intro k
          show (if i = kN c then newM kd (kF c p 3 + 1) k else kF c i k) = _
          rw [if_neg e]
        have eA : kA (mAddA c p kd (addA c b ch wd 0 ln)) = addA c b ch wd 0 ln := rfl
        have epp : ∀ k, kP (mAddA c p kd (addA c b ch wd 0 ln)) i k = kP c i k := by
          intro k
          show (if i = kN c then (if k = 4 then (-1 : Int32) else 0) else kP c i k) = _
          rw [if_neg e]
        rw [hpar i hin, eA, hA i (rC i) hin (by unfold rC; omega), hA i (rW i) hin (by unfold rW; omega), hA i (rL i) hin (by unfold rL; omega)]
        simp only [ef, epp]
      · show sT σ3 (addA c b ch wd 0 ln (rB i)) = _
        rw [hAB i hin]
        exact (hX.t hw b1).trans b2
      · show zL G σ3 (1000 + rC i) (addA c b ch wd 0 ln (rC i)) (if rC i = 2 then kM c 2 + 1 else if rC i = rC p then kM c (rC p) + 1 else if rC i = rC (kN c) then 0 else if rC i = rW (kN c) then 0 else kM c (rC i)) ((if i = kN c then [] else if i = p then kCh c p ++ [kN c] else kCh c i).map (fun j => addA c b ch wd 0 ln (rB j)))
        rw [hA i (rC i) hin (by unfold rC; omega), if_neg (by unfold rC; omega), if_neg e]
        by_cases eip : i = p
        · subst eip
          rw [if_pos rfl, if_pos rfl, List.map_append]
          have e1 : (kCh c i).map (fun j => addA c b ch wd 0 ln (rB j)) = (kCh c i).map (fun j => kA c (rB j)) := List.map_congr_left (fun j hj => hAB j (a5.1.ch hin hj).2.1)
          rw [e1]
          show zL G σ3 (1000 + rC i) (kA c (rC i)) (kM c (rC i) + 1) (_ ++ [addA c b ch wd 0 ln (rB (kN c))])
          rw [addA_b]
          exact hcx
        · rw [if_neg (fun h => eip ((hrC i p hin).mp h)), if_neg eip, if_neg (by unfold rC; omega), if_neg (by unfold rC rW; omega)]
          have e1 : (kCh c i).map (fun j => addA c b ch wd 0 ln (rB j)) = (kCh c i).map (fun j => kA c (rB j)) := List.map_congr_left (fun j hj => hAB j (a5.1.ch hin hj).2.1)
          rw [e1]
          exact hX.L hw b3 (by unfold ST4m rC; omega) (by unfold ST4m rC; omega)
      · show zL G σ3 (1000 + rW i) (addA c b ch wd 0 ln (rW i)) (if rW i = 2 then kM c 2 + 1 else if rW i = rC p then kM c (rC p) + 1 else if rW i = rC (kN c) then 0 else if rW i = rW (kN c) then 0 else kM c (rW i)) ((if i = kN c then [] else kWd c i).map (zbx G))
        rw [hA i (rW i) hin (by unfold rW; omega), if_neg (by unfold rW; omega), if_neg (by unfold rW rC; omega), if_neg (by unfold rW rC; omega), if_neg (by unfold rW; omega), if_neg e]
        exact hX.L hw b4 (by unfold ST4m rC rW; omega) (by unfold ST4m rC rW; omega)
      · show mLn G σ3 (1000 + rL i) (1000 + rO i) (addA c b ch wd 0 ln (rL i)) (if i = kN c then [] else kLn c i)
        rw [hA i (rL i) hin (by unfold rL; omega), if_neg e]
        exact mLn.keep hX hw b7 (by unfold ST4m rC rL; omega) (by unfold ST4m rC rL; omega) (by unfold ST4m rC rO; omega)
