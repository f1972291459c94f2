/-! ===== the plain law: the invariant is kept ===== -/
theorem J.Z {c m : zCS} : J (kZ c) m ↔ J c m := Iff.rfl
theorem J.ofZ {c d m : zCS} (h : kZ c = kZ d) (hJ : J d m) : J c m := J.Z.mp (h ▸ J.Z.mpr hJ)
theorem stt_set {c : zCS} {i k : Nat} {v : Int32} (h : k = 20 ∨ k = 22) : stt (kSetF c i k v) = stt c := by
  have e : (fun y b => if b = 22 then (97 : Int32) else if b = 20 ∨ b = 25 then 0 else kF (kSetF c i k v) y b) = fun y b => if b = 22 then (97 : Int32) else if b = 20 ∨ b = 25 then 0 else kF c y b := by
    funext y b
    by_cases h1 : b = 22
    · rw [if_pos h1, if_pos h1]
    · rw [if_neg h1, if_neg h1]
      by_cases h2 : b = 20 ∨ b = 25
      · rw [if_pos h2, if_pos h2]
      · rw [if_neg h2, if_neg h2]
        exact kF_k c i k v y b (fun e => by rcases h with h | h <;> subst h; exact h2 (Or.inl e); exact h1 e)
  unfold stt
  rw [e]
  rfl
theorem sm_set (c : zCS) (i k : Nat) (v : Int32) (h : k ≠ 25) (y : Nat) : sm c (kSetF c i k v) y := ⟨fun _ => rfl, kF_k c i k v y 25 (Ne.symm h), rfl⟩
theorem CA.st {S c c' : zCS} (h : CA S c) (hs : ∀ y, sm c c' y) : CA S c' := fun x hx hk => by
  rw [(hs x).2.1] at hk
  exact (h x hx hk).st (fun y _ _ => hs y) (hs x).sl
theorem LG.st {S c c' m m' : zCS} (hW : WS S) (h : LG S c m) (hs : ∀ y, sm c c' y) (hm : ∀ y, sm m m' y) : LG S c' m' := fun r h1 h2 => (h r h1 h2).st hW h2 (fun x _ => hs x) (fun x _ => hm x)
/-- depth and break touch nothing -/
theorem J.nset {c m : zCS} {i k : Nat} {v : Int32} (hJ : J c m) (hk : k = 20 ∨ k = 22) : J (kSetF c i k v) (kSetF m i k v) := by
  obtain ⟨S, hB, hL⟩ := hJ
  have hP := hB.pr.set i k v
  obtain ⟨⟨hW, hc, hm⟩, h20, htx, h00, hCA, hCB, hct, hdp, h98⟩ := hB
  have k25 : k ≠ 25 := by rcases hk with h | h <;> subst h <;> decide
  have k3 : 3 ≠ k := by rcases hk with h | h <;> subst h <;> decide
  have hs := sm_set c i k v k25
  have hs' := sm_set m i k v k25
  refine ⟨S, ⟨⟨hW, (stt_set hk).trans hc, (stt_set hk).trans hm⟩, hP.2, htx, h00, hCA.st hs, fun x hx => (hCB x hx).st (hs x).sl (hs' x).sl, hct, fun j => by rw [kF_k c i k v j 3 k3]; exact hdp j, by rw [kF_k c i k v 0 2 (by rcases hk with h | h <;> subst h <;> decide)]; exact h98⟩, ?_⟩
  rcases hL with h | ⟨h1, h2, h3, h4⟩
  · exact Or.inl h
  · exact Or.inr ⟨h1, h2, h3.st hW hs hs', fun m' ct hm' => (h4 m' ct hm').st hW hs (fun y => sm.rf _ y)⟩
theorem WS.mk {S : zCS} {c1 : zCS} (hW : WS S) (hK : KWf (stt c1)) (hn : kN c1 = kN S) (hp : kPar c1 = kPar S) (hc : kCh c1 = kCh S) (hk : ∀ y, kF c1 y 2 = kF S y 2) : WS (stt c1) := by
  refine ⟨hK, fun x p h => ?_, show 0 < kN c1 by rw [hn]; exact hW.2.2.1, fun j hj => ?_⟩
  · have h' : kPar c1 x = some p := h
    rw [hp] at h'
    show x < kN c1 ∧ x ∈ kCh c1 p ∧ kF c1 p 2 ≠ 116
    rw [hn, hc, hk]
    exact hW.2.1 x p h'
  · show kPar c1 j = none ↔ _
    rw [hp]
    exact hW.2.2.2 j (by rw [← hn]; exact hj)
theorem touch_stt (c : zCS) (i : Nat) : stt (kTouch c i) = stt c := by
  have : ∀ (f : Nat) (j : Nat) (d : zCS), stt (tchF f d j) = stt d := by
    intro f
    induction f with
    | zero => intro j d; rfl
    | succ f ih =>
      intro j d
      unfold tchF
      cases kPar d j with
      | none => exact stt_K (KEq.setF d j (-1))
      | some p => exact (ih p _).trans (stt_K (KEq.setF d j (-1)))
  exact this 24 i (kULw c (-1))
/-- a word -/
theorem J.word {c m : zCS} {i : Nat} {v : Int32} (hJ : J c m) (hi : i < kN c) (ht : kText c i = true) (hK : KWf (kTouch (kAddW c i v) i)) : J (kTouch (kAddW c i v) i) (mMark (kAddW m i v) i) := by
  obtain ⟨S, hB, -⟩ := hJ
  have hB' := hB
  obtain ⟨⟨hW, hc, hm⟩, h20, htx, h00, hCA, hCB, hct, hdp, -⟩ := hB
  have hw : kWd m = kWd c := hm.wd.trans hc.wd.symm
  have e1 : stt (kAddW m i v) = stt (kAddW c i v) := by
    have e0 : stt m = stt c := hm.trans hc.symm
    have n1 : kN m = kN c := hm.n.trans hc.n.symm
    have n2 : kPar m = kPar c := hm.par.trans hc.par.symm
    have n3 : kCh m = kCh c := hm.ch.trans hc.ch.symm
    have nF : kF (stt m) = kF (stt c) := by rw [e0]
    show (kN m, (fun _ => 0), (fun _ => 0), kF (stt m), kPar m, kCh m, (fun j => if j = i then kWd m i ++ [v] else kWd m j), _, _, _, _) = (kN c, (fun _ => 0), (fun _ => 0), kF (stt c), kPar c, kCh c, (fun j => if j = i then kWd c i ++ [v] else kWd c j), _, _, _, _)
    rw [n1, n2, n3, nF, hw]
  have hW1 : WS (stt (kAddW c i v)) := WS.mk hW (touch_stt (kAddW c i v) i ▸ hK.st) hc.n hc.par hc.ch (fun y => hc.f y 2 rfl)
  refine J.chg hB' e1 hW1 (Nat.le_of_eq hc.n.symm) hi (fun y _ hy => ?_) (fun y p h => h) (fun y p h => Or.inl h) (fun y _ => rfl) (fun y _ => ⟨fun k => rfl, rfl, rfl⟩) (fun y _ => ⟨fun k => rfl, rfl⟩) (fun y h1 h2 => ?_) h20 (fun x hx => ?_) hct hdp
  · have hne : y ≠ i := fun e => hy (e ▸ An.rf _ y)
    exact ⟨fun k _ => rfl, rfl, rfl, if_neg hne⟩
  · have h2' : y < kN c := h2
    rw [hc.n] at h2'
    omega
  · have hx' : kText S x = false := by
      have h9 : kText c x = false := hx
      rw [hc.text] at h9
      exact h9
    have hne : x ≠ i := fun e => by
      rw [hc.text, ← e, hx'] at ht
      cases ht
    have h9 := htx x hx'
    refine ⟨?_, h9.2⟩
    show (if x = i then kWd c i ++ [v] else kWd c x) = []
    rw [if_neg hne, hc.wd]
    exact h9.1
/-- a box -/
theorem J.add {c m : zCS} {p : Nat} {kd : Int32} {A B : Nat → Nat} (hJ : J c m) (hp : p < kN c) (ho : okDp c p = true) (hK : KWf (kTouch (kAddA c p kd A) (kN c))) : J (kTouch (kAddA c p kd A) (kN c)) (mMark (mAddA m p kd B) (kN m)) := by
  obtain ⟨S, hB, -⟩ := hJ
  have hB' := hB
  obtain ⟨⟨hW, hc, hm⟩, h20, htx, h00, hCA, hCB, hct, hdp, -⟩ := hB
  have hw : kWd m = kWd c := hm.wd.trans hc.wd.symm
  have n1 : kN m = kN c := hm.n.trans hc.n.symm
  have n2 : kPar m = kPar c := hm.par.trans hc.par.symm
  have n3 : kCh m = kCh c := hm.ch.trans hc.ch.symm
  have n4 : kF m p 3 = kF c p 3 := (hm.f p 3 rfl).trans (hc.f p 3 rfl).symm
  rw [n1]
  unfold okDp at ho
  rw [Bool.and_eq_true] at ho
  have hp3 := ti_lt.mp (of_decide_eq_true ho.2)
  have hp2 : kF c p 2 ≠ 116 := fun e => by
    have h1 := ho.1
    unfold kText at h1
    rw [e] at h1
    cases h1
  have c7 : (7 : Int32).toInt = 7 := rfl
  have d3 : (kF c p 3 + 1).toInt = (kF c p 3).toInt + 1 := by
    have := hdp p
    rw [ti_add (by rw [ti_1]; omega) (by rw [ti_1]; omega), ti_1]
  -- the new tree
  have aF : ∀ y k, kF (kAddA c p kd A) y k = if y = kN c then newF kd (kF c p 3 + 1) k else kF c y k := fun _ _ => rfl
  have aP : ∀ y, kPar (kAddA c p kd A) y = if y = kN c then some p else kPar c y := fun _ => rfl
  have aC : ∀ y, kCh (kAddA c p kd A) y = if y = kN c then [] else if y = p then kCh c p ++ [kN c] else kCh c y := fun _ => rfl
  have hN0 := hW.2.2.1
  have hcN := hc.n
  have hst : stt (mAddA m p kd B) = stt (kAddA c p kd A) := by
    have e0 : stt m = stt c := hm.trans hc.symm
    have nF : ∀ y b, (if b = 22 then (97 : Int32) else if b = 20 ∨ b = 25 then 0 else kF m y b) = (if b = 22 then (97 : Int32) else if b = 20 ∨ b = 25 then 0 else kF c y b) := fun y b => show kF (stt m) y b = kF (stt c) y b by rw [e0]
    have e : (fun y b => if b = 22 then (97 : Int32) else if b = 20 ∨ b = 25 then 0 else (if y = kN m then newM kd (kF m p 3 + 1) b else kF m y b)) = fun y b => if b = 22 then (97 : Int32) else if b = 20 ∨ b = 25 then 0 else (if y = kN c then newF kd (kF c p 3 + 1) b else kF c y b) := by
      funext y b
      rw [n1, n4]
      by_cases hy : y = kN c
      · rw [if_pos hy, if_pos hy]
        by_cases h1 : b = 22
        · rw [if_pos h1, if_pos h1]
        · rw [if_neg h1, if_neg h1]
          by_cases h2 : b = 20 ∨ b = 25
          · rw [if_pos h2, if_pos h2]
          · rw [if_neg h2, if_neg h2]
            exact if_neg (fun e => h2 (Or.inr e))
      · rw [if_neg hy, if_neg hy]; exact nF y b
    show (kN m + 1, (fun _ => 0), (fun _ => 0), (fun y b => if b = 22 then (97 : Int32) else if b = 20 ∨ b = 25 then 0 else (if y = kN m then newM kd (kF m p 3 + 1) b else kF m y b)), (fun i => if i = kN m then some p else kPar m i), (fun i => if i = kN m then [] else if i = p then kCh m p ++ [kN m] else kCh m i), (fun i => if i = kN m then [] else kWd m i), _, _, _, _) = (kN c + 1, (fun _ => 0), (fun _ => 0), (fun y b => if b = 22 then (97 : Int32) else if b = 20 ∨ b = 25 then 0 else (if y = kN c then newF kd (kF c p 3 + 1) b else kF c y b)), (fun i => if i = kN c then some p else kPar c i), (fun i => if i = kN c then [] else if i = p then kCh c p ++ [kN c] else kCh c i), (fun i => if i = kN c then [] else kWd c i), _, _, _, _)
    rw [e, n1, n2, n3, hw]
  have hW1 : WS (stt (kAddA c p kd A)) := by
    refine ⟨touch_stt (kAddA c p kd A) (kN c) ▸ hK.st, fun x q h => ?_, Nat.succ_pos _, fun j hj => ?_⟩
    · have h' : (if x = kN c then some p else kPar c x) = some q := h
      show x < kN c + 1 ∧ x ∈ (if q = kN c then [] else if q = p then kCh c p ++ [kN c] else kCh c q) ∧ (if q = kN c then newF kd (kF c p 3 + 1) 2 else kF c q 2) ≠ 116
      by_cases hx : x = kN c
      · rw [if_pos hx] at h'
        cases h'
        rw [if_neg (show p ≠ kN c by omega), if_pos rfl, if_neg (show p ≠ kN c by omega), hx]
        exact ⟨by omega, List.mem_append_right _ List.mem_cons_self, hp2⟩
      · rw [if_neg hx] at h'
        rw [hc.par] at h'
        obtain ⟨q1, q2, q3⟩ := hW.2.1 x q h'
        have hqx := hW.1.par q1 h'
        rw [if_neg (show q ≠ kN c by omega), if_neg (show q ≠ kN c by omega)]
        refine ⟨by omega, ?_, by rw [hc.f q 2 rfl]; exact q3⟩
        by_cases hqp : q = p
        · rw [if_pos hqp, ← hqp, hc.ch]; exact List.mem_append_left _ q2
        · rw [if_neg hqp, hc.ch]; exact q2
    · show (if j = kN c then some p else kPar c j) = none ↔ j = 0
      by_cases hjN : j = kN c
      · rw [if_pos hjN]
        exact ⟨fun h => (by cases h), fun h => by omega⟩
      · rw [if_neg hjN, hc.par]
        have hj' : j < kN c + 1 := hj
        exact hW.2.2.2 j (by omega)
  have hAp : An (stt (kAddA c p kd A)) p (kN c) := An.up (show (if kN c = kN c then some p else kPar c (kN c)) = some p from if_pos rfl) (An.rf _ p)
  refine J.chg hB' hst hW1 (by show kN S ≤ kN c + 1; omega) (show kN c < kN c + 1 by omega) (fun y hy hny => ?_) (fun y q h => ?_) (fun y q h => ?_) (fun y hy => ?_) (fun y hy => ?_) (fun y hy => ?_) (fun y h1 h2 => ?_) (fun y => ?_) (fun x hx => ?_) hct (fun y => ?_)
  · have hyN : y ≠ kN c := by omega
    have hyp : y ≠ p := fun e => hny (e ▸ hAp)
    exact ⟨fun k _ => (aF y k).trans (if_neg hyN), (aP y).trans (if_neg hyN), ((aC y).trans (if_neg hyN)).trans (if_neg hyp), if_neg hyN⟩
  · have h9 : kPar S y = some q := by rw [← hc.par]; exact h
    have := (hW.2.1 y q h9).1
    rw [aP, if_neg (show y ≠ kN c by omega)]
    exact h
  · rw [aP] at h
    by_cases hyN : y = kN c
    · rw [if_pos hyN] at h
      cases h
      exact Or.inr hAp
    · rw [if_neg hyN] at h
      exact Or.inl h
  · rw [aF, if_neg (show y ≠ kN c by omega)]
  · have hyN : y ≠ kN c := by omega
    exact ⟨fun k => if_neg hyN, (aF y 25).trans (if_neg hyN), if_neg hyN⟩
  · have hyN : y ≠ kN m := by omega
    exact ⟨fun k => if_neg hyN, if_neg hyN⟩
  · have h2' : y < kN c + 1 := h2
    rw [show y = kN c by omega]
    exact An.rf _ _
  · show (if y = kN c then newF kd (kF c p 3 + 1) 20 else kF c y 20) = (if y = kN m then newM kd (kF m p 3 + 1) 20 else kF m y 20) ∧ (if y = kN c then newF kd (kF c p 3 + 1) 22 else kF c y 22) = (if y = kN m then newM kd (kF m p 3 + 1) 22 else kF m y 22)
    rw [n1]
    by_cases hyN : y = kN c
    · rw [if_pos hyN, if_pos hyN, if_pos hyN, if_pos hyN]; exact ⟨rfl, rfl⟩
    · rw [if_neg hyN, if_neg hyN, if_neg hyN, if_neg hyN]; exact h20 y
  · show (if x = kN c then [] else kWd c x) = [] ∧ (if x = kN c then [] else kLn c x) = [] ∧ (if x = kN m then [] else kLn m x) = []
    rw [n1]
    by_cases hxN : x = kN c
    · rw [if_pos hxN, if_pos hxN, if_pos hxN]; exact ⟨rfl, rfl, rfl⟩
    · rw [if_neg hxN, if_neg hxN, if_neg hxN]
      have hx' : kText S x = false := by
        have h9 : kText (kAddA c p kd A) x = false := hx
        unfold kText at h9
        rw [aF, if_neg hxN] at h9
        rw [← hc.text]
        exact h9
      have h9 := htx x hx'
      exact ⟨by rw [hc.wd]; exact h9.1, h9.2⟩
  · rw [aF]
    by_cases hyN : y = kN c
    · rw [if_pos hyN]
      show 0 ≤ (kF c p 3 + 1).toInt ∧ (kF c p 3 + 1).toInt ≤ 7
      have := hdp p
      omega
    · rw [if_neg hyN]; exact hdp y
