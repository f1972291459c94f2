/-! ===== the plain law: a child in the flow ===== -/
theorem i32_e (x a : Int32) : x + a - x = a := by rw [Int32.add_comm, Int32.add_sub_cancel]
theorem i32_f (x a b : Int32) : x + a - (x + b) = a - b := by rw [i32_a, i32_e]
theorem i32_g (e t p : Int32) : e - t - p + 2 * p = e - t + p := i32_c (e - t) p
/-- what a box in a flow holds was laid; no bound -/
def CQF (S : zCS) (chk : Bool) (c C M : zCS) (i : Nat) (v : Int32) : Prop := LPp S C M i ∧ kP C i 3 = (if kF S i 7 = -1 then v else kF S i 7) ∧ (chk = false → ∀ j, j ∈ kItemsOf S i → KQ S c C j ∧ CInv S C j) ∧ KEq c C ∧ Fr (Dm S i) c C ∧ ((∀ k, k ≠ 3 → kP C i k = kP c i k) ∧ kF C i 25 = kF c i 25) ∧ (kText S i = true → LE S (kLn C i) (kLn M i) i)
theorem CQ.mk {S : zCS} {chk : Bool} {c C M : zCS} {i : Nat} {v : Int32} (h : CQF S chk c C M i v) (hb : 0 ≤ v.toInt ∧ v.toInt ≤ HB S i) : CQ S chk c C M i v := ⟨h.1, h.2.1, hb, h.2.2.1, h.2.2.2.1, h.2.2.2.2.1, h.2.2.2.2.2.1, h.2.2.2.2.2.2⟩
/-- a text holds no box -/
theorem text_alone {S : zCS} (hW : WS S) {i x : Nat} (ht : kF S i 2 = 116) (h : Dm S i x) : x = i := by
  rcases Nat.decEq x i with hne | e
  · obtain ⟨q, p1, -, -⟩ := h.child hne
    exact absurd ht (hW.2.1 q i p1).2.2
  · exact e
theorem text_items {S : zCS} (hW : WS S) {i : Nat} (hi : i < kN S) (ht : kF S i 2 = 116) {j : Nat} : ¬ j ∈ kItemsOf S i := fun hj => (hW.2.1 j i (items_mem hW hi hj).1).2.2 ht
theorem lsum_app (l : List (Int32 × Int32 × Int32)) (z : Int32 × Int32 × Int32) (s : Int32) : lsum (l ++ [z]) s = lsum l s + z.2.2 := by
  unfold lsum
  rw [List.foldl_append]
  rfl
theorem mTx_sum (ps : List P5) (h24 : ps.length ≤ 24) (al x y lf rt : Int32) : ∀ (f : Nat) (ws : List Int32) (top e : Int32) (acc : List (Int32 × Int32 × Int32)), nAp ps top + 25 * ws.length < f → lsum (mTx ps al x y lf rt f ws top e acc).1 0 = lsum acc 0 + nI ws.length := by
  intro f
  induction f with
  | zero => intro ws top e acc h; omega
  | succ f ih =>
    intro ws top e acc h
    cases ws with
    | nil => exact (Int32.add_zero _).symm
    | cons w0 r =>
      rw [List.length_cons] at h
      unfold mTx
      by_cases hc : mRight ps rt top 10 - mLeft ps lf top 10 < w0 ∧ top < mBelow ps top 10
      · rw [if_pos hc]
        have hl := bel_less hc.2
        exact ih (w0 :: r) _ e acc (by rw [List.length_cons]; omega)
      · rw [if_neg hc]
        have hm := lnGo_m (mRight ps rt top 10 - mLeft ps lf top 10) r w0 1
        have hnp := nAp_le ps (top + 10)
        have hdl : ((w0 :: r).drop (lnGo (mRight ps rt top 10 - mLeft ps lf top 10) r w0 1).2).length = r.length + 1 - (lnGo (mRight ps rt top 10 - mLeft ps lf top 10) r w0 1).2 := by rw [List.length_drop, List.length_cons]
        rw [ih _ (top + 10) (top + 10) _ (by rw [hdl]; omega), lsum_app, hdl, Int32.add_assoc]
        show lsum acc 0 + (nI (lnGo (mRight ps rt top 10 - mLeft ps lf top 10) r w0 1).2 + nI (r.length + 1 - (lnGo (mRight ps rt top 10 - mLeft ps lf top 10) r w0 1).2)) = lsum acc 0 + nI (w0 :: r).length
        rw [← nI_sub (show (lnGo (mRight ps rt top 10 - mLeft ps lf top 10) r w0 1).2 ≤ r.length + 1 by omega), Int32.add_comm (nI _) (_ - _), Int32.sub_add_cancel, List.length_cons]
theorem text_ok {S : zCS} {chk : Bool} {i : Nat} (hW : WS S) (hi : i < kN S) (ht : kF S i 2 = 116) {c m : zCS} (hc : SS S c) (hm : SS S m) (hw2 : kP c i 2 = kP m i 2) {fs : List F5} (x y : Int32) {U : Int} (hU0 : 0 ≤ U) (hU : U ≤ 900000) (hfs : ∀ z, z ∈ fs → FOk U z) (hy : -U ≤ y.toInt ∧ y.toInt ≤ U) (hlen : fs.length ≤ 24) :
    CQF S chk c (cLines c fs i x y) (mSL m i (mTxt m (fs.map toP) i x y).1) i ((mTxt m (fs.map toP) i x y).2 - y + kF S i 12) ∧ 0 ≤ ((mTxt m (fs.map toP) i x y).2 - y + kF S i 12).toInt ∧ y.toInt + ((mTxt m (fs.map toP) i x y).2 - y + kF S i 12).toInt ≤ U + 500 := by
  have hp := (fld hW.1 hi).2.2.2.2.2.2.1
  have hwl := (hW.1.2 i hi).2.2.2.1.1
  have hn := nAp_le (fs.map toP) (y + kF S i 12)
  rw [List.length_map] at hn
  have ety : (y + kF S i 12).toInt = y.toInt + (kF S i 12).toInt := ti_add (by omega) (by omega)
  obtain ⟨e1, e2, e3⟩ := ly_eq (U := U) (by omega) hfs (kF S i 23) x y (x + kF S i 12) (kInner m i) (25 * (kWd S i).length + 25) (kWd S i) (y + kF S i 12) (y + kF S i 12) [] (by omega) hlen (fun _ => rfl) (by omega) (by omega) (by omega)
  have hin := inner_eq hc hm hw2
  have e4 := mTx_sum (fs.map toP) (by rw [List.length_map]; exact hlen) (kF S i 23) x y (x + kF S i 12) (x + kF S i 12 + kInner m i) (25 * (kWd S i).length + 25) (kWd S i) (y + kF S i 12) (y + kF S i 12) [] (by omega)
  have eT : mTxt m (fs.map toP) i x y = mTx (fs.map toP) (kF S i 23) x y (x + kF S i 12) (x + kF S i 12 + kInner m i) (25 * (kWd S i).length + 25) (kWd S i) (y + kF S i 12) (y + kF S i 12) [] := by
    unfold mTxt
    rw [hm.f i 12 rfl, hm.f i 23 rfl, hm.wd]
  have eC : cLines c fs i x y = cSH (kULn c (fun a => if a = i then (mTxt m (fs.map toP) i x y).1 else kLn c a)) i ((mTxt m (fs.map toP) i x y).2 - y - kF S i 12) := by
    unfold cLines
    rw [hc.f i 12 rfl, hc.f i 23 rfl, hc.wd, hin, e1, eT]
  rw [← eT] at e2 e3 e4
  generalize mTxt m (fs.map toP) i x y = T at eC e2 e3 e4 ⊢
  have h2 : (T.2 - y).toInt = T.2.toInt - y.toInt := ti_sub (by omega) (by omega)
  have h3 : (T.2 - y + kF S i 12).toInt = T.2.toInt - y.toInt + (kF S i 12).toInt := by rw [ti_add (by omega) (by omega), h2]
  have hKL : KEq c (kULn c (fun a => if a = i then T.1 else kLn c a)) := (NQ.uln true c _).1
  have hsL := hc.K hKL
  rw [eC]
  refine ⟨⟨fun z hz hne => absurd (text_alone hW ht hz) hne, ?_, fun _ j hj => absurd hj (text_items hW hi ht), hKL.trans (KEq.SH _ _ _), (Fr.L c T.1 (Dm.rf S i)).trans (Fr.P _ 3 _ (Dm.rf S i)), ⟨fun k hk => kP_n _ _ _ hk, rfl⟩, fun _ => ?_⟩, by omega, by omega⟩
  · show kP (kSetP _ i 3 _) i 3 = _
    rw [kP_s, hsL.f i 7 rfl, hsL.f i 12 rfl, i32_g]
  · show LE S (if i = i then T.1 else kLn c i) (if i = i then T.1 else kLn m i) i
    rw [if_pos rfl, if_pos rfl]
    exact ⟨rfl, e4.trans (Int32.zero_add _)⟩
/-- what is kept, of a box and of what it holds -/
theorem kept_of {S c C : zCS} (hW : WS S) {j : Nat} (hcx : mCtx S j = false) (hci : CInv S c j) (h25 : kF C j 25 = kF c j 25) (hq : ∀ q, q ∈ kItemsOf S j → KQ S c C q ∧ CInv S C q) : KQ S c C j ∧ CInv S C j := by
  constructor
  · intro x hx
    by_cases e : x = j
    · subst e; exact ⟨fun h => absurd h (by rw [hcx]; decide), fun _ => h25⟩
    · obtain ⟨q, p1, p2, p3⟩ := hx.child e
      exact (hq q (mem_items hW p1 p2)).1 x p3
  · intro x hx hk
    by_cases e : x = j
    · subst e
      rw [h25] at hk
      have := (hci x hx hk).1
      rw [hcx] at this; cases this
    · obtain ⟨q, p1, p2, p3⟩ := hx.child e
      exact (hq q (mem_items hW p1 p2)).2 x p3 hk
/-- the two flows of a block go together -/
def FLK (S : zCS) (chk : Bool) (f1 f2 : Nat) (Fl : FlT) (C' : CM) : Prop := ∀ (c : zCS) (n : Int32) (m : zCS) (ct : Int32) (fs : List F5) (i : Nat) (x y : Int32) (b : Bool) (U : Int), SS S c → SS S m → i < kN S → kN S ≤ f1 + i → kN S ≤ f2 + i → kF S i 2 = 98 → kP c i 2 = kP m i 2 → WB i (kP c i 2) → ((mCtx S i = true ∧ x = 0 ∧ y = 0) ∨ (mCtx S i = false ∧ kP m i 0 = x ∧ kP m i 1 = y)) → 0 ≤ U → U + HB S i ≤ 900000 → (∀ z, z ∈ fs → FOk U z) → (-U ≤ y.toInt ∧ y.toInt ≤ U) → fs.length + sz S i ≤ 24 → (chk = false → ∀ j, j ∈ kItemsOf S i → CInv S c j) →
  CQF S chk c (Fl (c, n) fs i x y).1.1 (C' (m, ct) (fs.map toP) i x y b).1.1.1 i (C' (m, ct) (fs.map toP) i x y b).2 ∧ ((Fl (c, n) fs i x y).2.map toP = (C' (m, ct) (fs.map toP) i x y b).1.2 ∧ (Fl (c, n) fs i x y).2.length ≤ fs.length + sz S i ∧ ∀ z, z ∈ (Fl (c, n) fs i x y).2 → FOk (U + 1000 * (sz S i : Nat)) z) ∧ (0 ≤ (C' (m, ct) (fs.map toP) i x y b).2.toInt ∧ y.toInt + (C' (m, ct) (fs.map toP) i x y b).2.toInt ≤ U + HB S i) ∧ (chk = false → b = true → (∀ j, j ∈ kItemsOf S i → C1 S c m j) → CTd n (Fl (c, n) fs i x y).1.2 ct (C' (m, ct) (fs.map toP) i x y b).1.1.2)
/-- the contents of a text are its lines -/
def TXP (S : zCS) (f : Nat) (C' : CM) : Prop := ∀ (s : MT) (ps : List P5) (i : Nat) (x y : Int32) (b : Bool), SS S s.1 → i < kN S → kN S ≤ f + i → kF S i 2 = 116 → C' s ps i x y b = (((mSL s.1 i (mTxt s.1 ps i x y).1, s.2), ps), (mTxt s.1 ps i x y).2 - y + kF S i 12)
theorem block_kinds {S : zCS} (hW : WS S) {i j : Nat} (hi : i < kN S) (hk : kF S i 2 = 98) (hp : kPar S j = some i) (hl : kLifted S j = false) : kItem S j = false ∧ kFloat S j = mFloat S j ∧ kFlow S j = !mFloat S j ∧ kRoot S j = false ∧ (mFloat S j = false → mCtx S j = kItems S j) := by
  have h1 : kItems S i = false := by unfold kItems; rw [hk]; decide
  have h2 : kItem S j = false := by unfold kItem; rw [hp]; show (kItems S i && _) = false; rw [h1]; rfl
  have h3 : kRoot S j = false := by unfold kRoot; rw [hp]; rfl
  have h4 : kFloat S j = mFloat S j := by
    unfold kFloat mFloat
    rw [h2, h3, hl, hp]
    show (!false && !decide (kF S j 16 = 110) && !false && !false) = (!false && (!false && (decide (kF S i 2 = 98) && !decide (kF S j 16 = 110))))
    rw [hk]
    simp
  refine ⟨h2, h4, ?_, h3, fun h5 => ?_⟩
  · unfold kFlow
    rw [h2, h3, hl, h4]
    simp
  · unfold mCtx
    rw [h2, h3, hl, h5]
    rfl
