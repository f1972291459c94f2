/-! ===== the plain law: grids ===== -/
theorem two_i (p : Int32) : 2 * p = p + p := by rw [show (2 : Int32) = 1 + 1 from rfl, Int32.add_mul, Int32.one_mul]
theorem i32_c (a p : Int32) : a - p + 2 * p = a + p := by rw [two_i, ← Int32.add_assoc, Int32.sub_add_cancel]
theorem gcol_eq {S c : zCS} (h : SS S c) : gcol c = gcol S := by
  funext i
  unfold gcol
  rw [congrFun h.items i, h.f i 15 rfl]
  have e : colf c (fun j => cW c j true) (kF S i 15) = colf S (fun j => cW S j true) (kF S i 15) := by
    funext f q
    unfold colf
    rw [h.cw, h.sides]
  rw [e]
theorem gWs_eq {S c m : zCS} (hc : SS S c) (hm : SS S m) {i : Nat} (hi : kInner c i = kInner m i) (k : Nat) : gWs c i k = gWs m i k := by
  unfold gWs gFree
  rw [gcol_eq hc, gcol_eq hm, hi]
theorem subA_i {f : Nat → Int32} (hf : ∀ k, 0 ≤ (f k).toInt) : ∀ (n k : Nat) (a : Int32), -1000000000 ≤ a.toInt - (SA f (k + n) - SA f k) → a.toInt ≤ 1000000000 → (subA f n k a).toInt = a.toInt - (SA f (k + n) - SA f k) := by
  intro n
  induction n with
  | zero => intro k a _ _; show a.toInt = a.toInt - (SA f k - SA f k); omega
  | succ n ih =>
    intro k a h1 h2
    have hmono : ∀ d, SA f (k + 1) ≤ SA f (k + 1 + d) := by
      intro d
      induction d with
      | zero => exact Int.le_refl _
      | succ d ihd =>
        have h8 := hf (k + 1 + d)
        have h9 : SA f (k + 1 + (d + 1)) = SA f (k + 1 + d) + (f (k + 1 + d)).toInt := rfl
        omega
    have hm := hmono n
    rw [show k + 1 + n = k + (n + 1) by omega] at hm
    have h3 : SA f (k + 1) = SA f k + (f k).toInt := rfl
    have h5 := hf k
    have e : (a - f k).toInt = a.toInt - (f k).toInt := ti_sub (by omega) (by omega)
    have h9 := ih (k + 1) (a - f k) (by rw [show k + 1 + n = k + (n + 1) by omega]; omega) (by omega)
    rw [show k + 1 + n = k + (n + 1) by omega] at h9
    show (subA f n (k + 1) (a - f k)).toInt = _
    rw [h9]
    omega
theorem gdA_at (free : Int32) (m : Nat) : ∀ (n k : Nat) (g : Nat → Int32) (j : Nat), gdA free m n k g j = if k ≤ j ∧ j < k + n then g j + gdP free m j else g j := by
  intro n
  induction n with
  | zero => intro k g j; rw [if_neg (by omega)]; rfl
  | succ n ih =>
    intro k g j
    show gdA free m n (k + 1) (upd g k (g k + gdP free m k)) j = _
    rw [ih]
    by_cases hj : j = k
    · subst hj; rw [if_neg (by omega), if_pos (by omega), upd_s]
    · rw [upd_n _ _ hj]
      by_cases h : k + 1 ≤ j ∧ j < k + 1 + n
      · rw [if_pos h, if_pos (by omega)]
      · rw [if_neg h, if_neg (by omega)]
theorem gdP_b {free : Int32} {m : Nat} (h0 : 0 ≤ free.toInt) (h1 : free.toInt ≤ 100000000) (hm : 1 ≤ m) (hm4 : m ≤ 4) (k : Nat) : 0 ≤ (gdP free m k).toInt ∧ (gdP free m k).toInt ≤ free.toInt + 1 := by
  have hmi : (nI m).toInt = m := nI_toInt (by omega)
  have hd : 0 ≤ (free / nI m).toInt ∧ (free / nI m).toInt ≤ free.toInt := by
    rw [Int32.toInt_div, hmi]
    have a1 : 0 ≤ free.toInt.tdiv (m : Int) := Int.tdiv_nonneg h0 (by omega)
    have a2 : free.toInt.tdiv (m : Int) ≤ free.toInt := Int.tdiv_le_self _ h0
    rw [Int.bmod_eq_of_le (by omega) (by omega)]
    exact ⟨a1, a2⟩
  unfold gdP
  split
  · rw [ti_add (by rw [ti_1]; omega) (by rw [ti_1]; omega), ti_1]; omega
  · rw [ti_add (by rw [ti_0]; omega) (by rw [ti_0]; omega), ti_0]; omega
/-- the columns of a grid -/
theorem gWs_b {S c : zCS} (hW : WS S) (hc : SS S c) {i : Nat} (hi : i < kN S) (hwb : WB i (kP c i 2)) (k : Nat) : 0 ≤ (gWs c i (kF S i 15).toNatClampNeg k).toInt ∧ (gWs c i (kF S i 15).toNatClampNeg k).toInt ≤ 2000000 * (i + 1 : Nat) + 40000 := by
  have hK := hW.1
  have hn := hK.1
  obtain ⟨m1, m4, -⟩ := cols_of hW hi
  have hin := inner_b hc hK hi hwb
  have hsi := sz_items hK hi
  have hs := sz_le hK hi
  have hv : ∀ j, j ∈ kItemsOf S i → 0 ≤ (cW S j true + kSides S j).toInt ∧ (cW S j true + kSides S j).toInt ≤ (1400 * (1 + sz S j) : Nat) := fun j hj => by
    have hj4 := (items_mem hW hi hj).2.2.2
    have h1 := cW_b hK hj4 true
    have h2 := sides_b hK hj4
    have h3 := sz_le hK hj4
    rw [ti_add (by omega) (by omega)]
    omega
  have hcb := cols_b (S := S) (w := fun j => cW S j true) (cols := kF S i 15) (fun j => 1400 * (1 + sz S j)) (kF S i 15).toNatClampNeg (kItemsOf S i) 0 (fun _ => 0) hv (fun _ => by decide)
  have hg0 : (nums (kItemsOf S i) 0).foldl (colf S (fun j => cW S j true) (kF S i 15)) (fun _ => 0) = gcol S i := rfl
  rw [hg0] at hcb
  have h0 : SA (fun _ => (0 : Int32)) (kF S i 15).toNatClampNeg = 0 := by
    generalize (kF S i 15).toNatClampNeg = m
    induction m with
    | zero => rfl
    | succ m ih => show SA _ m + 0 = 0; omega
  have hsum : ((kItemsOf S i).map (fun j => 1400 * (1 + sz S j))).sum ≤ 1400 * sz S i := by
    have h2 : ∀ l : List Nat, (l.map (fun j => 1400 * (1 + sz S j))).sum = 1400 * (l.map (fun j => 1 + sz S j)).sum := by
      intro l
      induction l with
      | nil => rfl
      | cons x r ih => simp only [List.map_cons, List.sum_cons, ih]; omega
    rw [h2]
    exact Nat.mul_le_mul_left _ hsi
  have hSA := hcb.2
  rw [h0] at hSA
  have hnn := SA_nn hcb.1 (kF S i 15).toNatClampNeg
  have hfi := subA_i hcb.1 (kF S i 15).toNatClampNeg 0 (kInner c i) (by rw [Nat.zero_add]; show _ ≤ _ - (_ - 0); omega) (by omega)
  rw [Nat.zero_add] at hfi
  have hfi' : (gFree c i (kF S i 15).toNatClampNeg).toInt = (kInner c i).toInt - (SA (gcol S i) (kF S i 15).toNatClampNeg - 0) := by
    unfold gFree
    rw [gcol_eq hc]
    exact hfi
  -- a column is at most the sum of its own
  have hcolk : (gcol S i k).toInt ≤ 33600 := by
    have hcb2 := (cols_b (S := S) (w := fun j => cW S j true) (cols := kF S i 15) (fun j => 1400 * (1 + sz S j)) (k + 1) (kItemsOf S i) 0 (fun _ => 0) hv (fun _ => by decide)).2
    rw [hg0] at hcb2
    have h00 : SA (fun _ => (0 : Int32)) (k + 1) = 0 := by
      generalize k + 1 = m
      induction m with
      | zero => rfl
      | succ m ih => show SA _ m + 0 = 0; omega
    rw [h00] at hcb2
    have h1 := SA_le hcb.1 (k + 1) k (by omega)
    omega
  have hcol0 := hcb.1 k
  unfold gWs
  rw [gcol_eq hc]
  split
  · omega
  · rename_i hp
    have hp' := ti_lt.mp (Int32.not_le.mp hp)
    rw [ti_0] at hp'
    rw [gdA_at]
    split
    · have hg := gdP_b (free := gFree c i (kF S i 15).toNatClampNeg) (by omega) (by omega) m1 m4 k
      rw [ti_add (by omega) (by omega)]
      omega
    · omega
theorem mGw_at (S : zCS) (k : Nat) (g : Nat → Int32) : ∀ (es : List Nat) (r : Nat) (f : Nat → Int32), (∀ q, q ∈ nums es r → ((nums es r).foldl (mGw S k g) f) q.1 = if 0 ≤ kF S q.2 6 then kF S q.2 6 else imax (g (q.1 % k) - kSides S q.2) (2 * kF S q.2 12)) ∧ ∀ j, j < r → ((nums es r).foldl (mGw S k g) f) j = f j := by
  intro es
  induction es with
  | nil => intro r f; exact ⟨fun q h => absurd h List.not_mem_nil, fun _ _ => rfl⟩
  | cons e es ih =>
    intro r f
    obtain ⟨i1, i2⟩ := ih (r + 1) (mGw S k g f (r, e))
    refine ⟨fun q hq => ?_, fun j hj => (i2 j (by omega)).trans (upd_n _ _ (by omega))⟩
    rcases List.mem_cons.mp hq with e9 | hq
    · rw [e9]; exact (i2 r (by omega)).trans (upd_s _ _ _)
    · exact i1 q hq
theorem grid_ok {S : zCS} {chk : Bool} {f1 f2 i : Nat} {L : LayT} {L' : LM} (hW : WS S) (hi : i < kN S) (hk : kItems S i = true) (hL : LOK S chk f1 f2 L L') (hKL : ∀ s j w, KEq s.1 (L s j w).1) (hR : RLP S f2 L') (hN1 : kN S ≤ f1 + 1 + i) (hN2 : kN S ≤ f2 + 1 + i) (c : zCS) (n : Int32) (m : zCS) (ct : Int32) (b : Bool) (hc : SS S c) (hm : SS S m) (hw2 : kP c i 2 = kP m i 2) (hwb : WB i (kP c i 2)) (hci : chk = false → ∀ j, j ∈ kItemsOf S i → CInv S c j) :
    CQ S chk c (cGrid L (c, n) i).1 (mGrid L' (m, ct) i b).1.1 i (mGrid L' (m, ct) i b).2 ∧ (chk = false → b = true → (∀ j, j ∈ kItemsOf S i → C1 S c m j) → CTd n (cGrid L (c, n) i).2 ct (mGrid L' (m, ct) i b).1.2) := by
  have hK := hW.1
  obtain ⟨m1, m4, -⟩ := cols_of hW hi
  have hgb := gWs_b hW hc hi hwb
  have hge := gWs_eq hc hm (inner_eq hc hm hw2) (kF S i 15).toNatClampNeg
  have hgwE : mGWs m i (kF S i 15).toNatClampNeg = (nums (kItemsOf S i) 0).foldl (mGw S (kF S i 15).toNatClampNeg (gWs c i (kF S i 15).toNatClampNeg)) (fun _ => 0) := by
    unfold mGWs
    rw [congrFun hm.items i, ← hge]
    have e : mGw m (kF S i 15).toNatClampNeg (gWs c i (kF S i 15).toNatClampNeg) = mGw S (kF S i 15).toNatClampNeg (gWs c i (kF S i 15).toNatClampNeg) := by
      funext f q
      unfold mGw
      rw [hm.f q.2 6 rfl, hm.f q.2 12 rfl, hm.sides]
    rw [e]
  have hgwA := (mGw_at S (kF S i 15).toNatClampNeg (gWs c i (kF S i 15).toNatClampNeg) (kItemsOf S i) 0 (fun _ => 0)).1
  rw [← hgwE] at hgwA
  have eC : cGrid L (c, n) i = (cSH (gLoop L (gWs c i (kF S i 15).toNatClampNeg) i (kF S i 15).toNatClampNeg 25 (kItemsOf S i) (c, n) (kF S i 12)).1.1 i ((gLoop L (gWs c i (kF S i 15).toNatClampNeg) i (kF S i 15).toNatClampNeg 25 (kItemsOf S i) (c, n) (kF S i 12)).2 - kF S i 12), (gLoop L (gWs c i (kF S i 15).toNatClampNeg) i (kF S i 15).toNatClampNeg 25 (kItemsOf S i) (c, n) (kF S i 12)).1.2) := by
    unfold cGrid gridE
    rw [congrFun hc.items i, hc.f i 12 rfl, hc.f i 15 rfl]
  have eM : mGrid L' (m, ct) i b = ((mGLoop L' b (gWs c i (kF S i 15).toNatClampNeg) (mGWs m i (kF S i 15).toNatClampNeg) (kItemsOf S i) (kF S i 15).toNatClampNeg (kF S i 12) 25 0 (m, ct) (kF S i 12)).1, (mGLoop L' b (gWs c i (kF S i 15).toNatClampNeg) (mGWs m i (kF S i 15).toNatClampNeg) (kItemsOf S i) (kF S i 15).toNatClampNeg (kF S i 12) 25 0 (m, ct) (kF S i 12)).2 + kF S i 12) := by
    unfold mGrid
    rw [congrFun hm.items i, hm.f i 12 rfl, hm.f i 15 rfl, ← hge]
  rw [eC, eM]
  clear eC eM
  generalize hg9 : gWs c i (kF S i 15).toNatClampNeg = g at hgb hgwA ⊢
  generalize hgw9 : mGWs m i (kF S i 15).toNatClampNeg = gw at hgwA ⊢
  generalize hk9 : (kF S i 15).toNatClampNeg = k at m1 m4 hgwA ⊢
  clear hgwE hge hg9 hgw9 hw2 hwb
  have hes := items_nd hW hi
  have hlen := items_len hW hi
  have hil : ∀ j, j ∈ kItemsOf S i → kPar S j = some i ∧ kLifted S j = false ∧ i < j ∧ j < kN S := fun j hj => items_mem hW hi hj
  -- the widths of a chunk
  have hwid : ∀ fr t j, fr % k = 0 → t < k → (kItemsOf S i)[fr + t]? = some j → gw (fr + t) = gcW S g (t, j) ∧ WB j (gcW S g (t, j)) := fun fr t j h1 h2 h3 => by
    have hq := nums_in (k := 0) h3
    rw [Nat.zero_add] at hq
    have h4 := hgwA _ hq
    obtain ⟨p1, p2, p3, p4⟩ := hil j (List.mem_of_getElem? h3)
    have hmod : (fr + t) % k = t := by
      rw [Nat.add_mod, h1, Nat.zero_add, Nat.mod_mod, Nat.mod_eq_of_lt h2]
    have hr : kRoot S j = false := by unfold kRoot; rw [p1]; rfl
    have ht : kTold S j = kF S j 6 := by unfold kTold; rw [if_neg (by rw [hr]; decide)]
    have htn := told_neg hK p4
    have htb := told_b hK p4
    rw [ht] at htn htb
    have hgt := hgb t
    have hsd := sides_b hK p4
    have hp2 := pad2_b hK p4
    have hNn := hK.1
    have h4' : gw (fr + t) = if 0 ≤ kF S j 6 then kF S j 6 else imax (g ((fr + t) % k) - kSides S j) (2 * kF S j 12) := h4
    rw [hmod] at h4'
    have hgc : gcW S g (t, j) = if kTold S j = -1 then imax (2 * kF S j 12) (g t - kSides S j) else kTold S j := rfl
    rw [hgc, h4', ht]
    by_cases h9 : kF S j 6 = -1
    · rw [if_pos h9, if_neg (htn.mp h9)]
      refine ⟨imax_comm _ _, ?_⟩
      unfold WB
      rw [ti_max, ti_sub (by omega) (by omega)]
      omega
    · rw [if_neg h9, if_pos (Decidable.byContradiction (fun q => h9 (htn.mpr q)))]
      refine ⟨rfl, ?_⟩
      have := ne_m1.mp h9
      unfold WB
      omega
  have key : ∀ (fu fr : Nat) (d : zCS) (n : Int32) (M : zCS) (ct y : Int32), SS S d → SS S M → fr % k = 0 → (kItemsOf S i).length ≤ fr + fu → (chk = false → ∀ j, j ∈ (kItemsOf S i).drop fr → CInv S d j) → 0 ≤ y.toInt → y.toInt + 1000 * ((((kItemsOf S i).drop fr).map (fun j => 1 + sz S j)).sum : Nat) ≤ 100000 →
      (gLoop L g i k fu ((kItemsOf S i).drop fr) (d, n) y).2 = (mGLoop L' b g gw (kItemsOf S i) k (kF S i 12) fu fr (M, ct) y).2 ∧ KEq d (gLoop L g i k fu ((kItemsOf S i).drop fr) (d, n) y).1.1 ∧
      (Fr (fun z => ∃ j, j ∈ (kItemsOf S i).drop fr ∧ Dm S j z) d (gLoop L g i k fu ((kItemsOf S i).drop fr) (d, n) y).1.1 ∧ Fr (fun z => ∃ j, j ∈ (kItemsOf S i).drop fr ∧ Dm S j z) M (mGLoop L' b g gw (kItemsOf S i) k (kF S i 12) fu fr (M, ct) y).1.1) ∧
      (∀ j, j ∈ (kItemsOf S i).drop fr → ChOK S chk d (gLoop L g i k fu ((kItemsOf S i).drop fr) (d, n) y).1.1 (mGLoop L' b g gw (kItemsOf S i) k (kF S i 12) fu fr (M, ct) y).1.1 j) ∧
      (y.toInt ≤ (gLoop L g i k fu ((kItemsOf S i).drop fr) (d, n) y).2.toInt ∧ (gLoop L g i k fu ((kItemsOf S i).drop fr) (d, n) y).2.toInt ≤ y.toInt + 1000 * ((((kItemsOf S i).drop fr).map (fun j => 1 + sz S j)).sum : Nat)) ∧
      (chk = false → b = true → (∀ j, j ∈ (kItemsOf S i).drop fr → C1 S d M j) → CTd n (gLoop L g i k fu ((kItemsOf S i).drop fr) (d, n) y).1.2 ct (mGLoop L' b g gw (kItemsOf S i) k (kF S i 12) fu fr (M, ct) y).1.2) := by
    intro fu
    induction fu with
    | zero =>
      intro fr d n M ct y hd hM _ hle _ hy0 hy1
      have e : (kItemsOf S i).drop fr = [] := List.drop_eq_nil_of_le hle
      rw [e]
      exact ⟨rfl, KEq.rf d, ⟨Fr.rf _ _, Fr.rf _ _⟩, fun j hj => absurd hj List.not_mem_nil, ⟨Int.le_refl _, by show y.toInt ≤ y.toInt + 1000 * ((0 : Nat) : Int); omega⟩, fun _ _ _ => CTd.rf n ct⟩
    | succ fu ih =>
      intro fr d n M ct y hd hM hmod hle hci2 hy0 hy1
      by_cases hlt : fr < (kItemsOf S i).length
      · have e := take_drop_app (m := k) hlt
        have etk : ((kItemsOf S i).drop fr).take (min (kItemsOf S i).length (fr + k) - fr) = ((kItemsOf S i).drop fr).take k := by
          rcases Nat.le_total (kItemsOf S i).length (fr + k) with h1 | h1
          · rw [Nat.min_eq_left h1, List.take_of_length_le (by rw [List.length_drop]; omega), List.take_of_length_le (by rw [List.length_drop]; omega)]
          · rw [Nat.min_eq_right h1, Nat.add_sub_cancel_left]
        have hnd : ((kItemsOf S i).drop fr).Nodup := hes.sublist (List.drop_sublist _ _)
        obtain ⟨x0, xr, hx⟩ : ∃ a r, (kItemsOf S i).drop fr = a :: r := by
          cases hd9 : (kItemsOf S i).drop fr with
          | nil => rw [List.drop_eq_nil_iff] at hd9; omega
          | cons a r => exact ⟨a, r, rfl⟩
        have hC : gLoop L g i k (fu + 1) ((kItemsOf S i).drop fr) (d, n) y = gLoop L g i k fu ((kItemsOf S i).drop (fr + k)) (cCells L (d, n) (((kItemsOf S i).drop fr).take k) g (kF d i 12) y).1 (y + (cCells L (d, n) (((kItemsOf S i).drop fr).take k) g (kF d i 12) y).2) := by
          rw [← List.drop_drop, hx]
          rfl
        have hMl : mGLoop L' b g gw (kItemsOf S i) k (kF S i 12) (fu + 1) fr (M, ct) y = mGLoop L' b g gw (kItemsOf S i) k (kF S i 12) fu (fr + k) (((nums (((kItemsOf S i).drop fr).take k) fr).foldl (mGx g fr y) ((mRn L' b gw (M, ct) (((kItemsOf S i).drop fr).take k) fr).1.1, kF S i 12)).1, (mRn L' b gw (M, ct) (((kItemsOf S i).drop fr).take k) fr).1.2) (y + (mRn L' b gw (M, ct) (((kItemsOf S i).drop fr).take k) fr).2) := by
          show (if fr < (kItemsOf S i).length then _ else _) = _
          rw [if_pos hlt, etk]
        rw [etk] at e
        rw [hC, hMl, hd.f i 12 rfl]
        clear hC hMl etk hx
        have htk : ∀ t j, (((kItemsOf S i).drop fr).take k)[t]? = some j → t < k ∧ (kItemsOf S i)[fr + t]? = some j := fun t j h => by
          rw [List.getElem?_take] at h
          split at h
          · rename_i h9; rw [List.getElem?_drop] at h; exact ⟨h9, h⟩
          · cases h
        generalize hrs : ((kItemsOf S i).drop fr).take k = rs at e htk ⊢
        rw [e] at hnd hci2 hy1
        obtain ⟨n1, n2, n3⟩ := List.nodup_append.mp hnd
        have hsub : ∀ j, j ∈ rs → j ∈ kItemsOf S i := fun j hj => List.mem_of_mem_drop (i := fr) (by rw [e]; exact List.mem_append_left _ hj)
        have hsub2 : ∀ j, j ∈ (kItemsOf S i).drop (fr + k) → j ∈ kItemsOf S i := fun j hj => List.mem_of_mem_drop hj
        rw [List.map_append, List.sum_append] at hy1
        have hfA : ∀ s q, SS S s.1.1 → gcB L g y s q = ((cPut (L s.1 q.2 (gcW S g q)).1 q.2 s.2.1 y, (L s.1 q.2 (gcW S g q)).2), s.2.1 + g q.1, imax s.2.2 (kP (L s.1 q.2 (gcW S g q)).1 q.2 3 + kEnds S q.2)) := fun s q hs => by
          have e1 : gcW s.1.1 g q = gcW S g q := by unfold gcW; rw [hs.told, hs.f q.2 12 rfl, hs.sides]
          unfold gcB gcB2
          rw [e1]
          have h2 := (hs.K (hKL s.1 q.2 (gcW S g q))).K (KEq.Put (L s.1 q.2 (gcW S g q)).1 q.2 s.2.1 y)
          have h3 : kP (cPut (L s.1 q.2 (gcW S g q)).1 q.2 s.2.1 y) q.2 3 = kP (L s.1 q.2 (gcW S g q)).1 q.2 3 := (kP_n _ _ _ (by decide)).trans (kP_n _ _ _ (by decide))
          rw [h2.ends, h3]
        obtain ⟨a1, a2, ⟨a3, a3m⟩, a4, a5, a6⟩ := chunk_ok hW hi hk hL hR hN1 hN2 (fun q => gcW S g q) (fun q => g q.1) (fun q => g (q.1 - fr)) y (gcB L g y) gw b (mGx g fr y) hfA rs fr d n M ct (kF S i 12) hd hM n1 hsub
          (fun t j h => (hwid fr t j hmod (htk t j h).1 (htk t j h).2).1) (fun t j _ => by show g t = g (fr + t - fr); rw [Nat.add_sub_cancel_left])
          (fun p q hp _ _ => by unfold mGx; rw [hp.f q.2 10 rfl, hp.over])
          (fun q hq => by
            obtain ⟨g1, g2, g3⟩ := nums_gx hq
            rw [Nat.sub_zero] at g3
            exact (hwid fr q.1 q.2 hmod (htk _ _ g3).1 (htk _ _ g3).2).2) (fun hk9 j hj => hci2 hk9 j (List.mem_append_left _ hj))
        have eCc : cCells L (d, n) rs g (kF S i 12) y = ((cStrs ((nums rs 0).foldl (gcB L g y) ((d, n), kF S i 12, 0)).1.1 rs ((nums rs 0).foldl (gcB L g y) ((d, n), kF S i 12, 0)).2.2, ((nums rs 0).foldl (gcB L g y) ((d, n), kF S i 12, 0)).1.2), ((nums rs 0).foldl (gcB L g y) ((d, n), kF S i 12, 0)).2.2) := rfl
        have eRn : (mRn L' b gw (M, ct) rs fr).2 = ((nums rs fr).foldl (mR1 L' b gw) ((M, ct), 0)).2 := rfl
        rw [eCc]
        have hyh : ((nums rs 0).foldl (gcB L g y) ((d, n), kF S i 12, 0)).2.2 = (mRn L' b gw (M, ct) rs fr).2 := a1
        rw [hyh] at a2 a3 a4 ⊢
        rw [← eRn] at a5
        generalize hA9 : (nums rs 0).foldl (gcB L g y) ((d, n), kF S i 12, 0) = A at a2 a3 a4 a6 ⊢
        generalize hh9 : (mRn L' b gw (M, ct) rs fr).2 = hgt at a2 a3 a4 a5 ⊢
        generalize hM3 : ((nums rs fr).foldl (mGx g fr y) ((mRn L' b gw (M, ct) rs fr).1.1, kF S i 12)).1 = M3 at a3m a4 ⊢
        generalize hct : (mRn L' b gw (M, ct) rs fr).1.2 = ct2 at a6 ⊢
        generalize hC3 : cStrs A.1.1 rs hgt = C3 at a2 a3 a4 ⊢
        have hsM3 : SS S M3 := by
          have r1 := (RK.Rn hW hi hk hR hN2 b gw (M, ct) rs fr hM n1 hsub).1
          have r2 : MQe (mRn L' b gw (M, ct) rs fr).1.1 M3 := by
            rw [← hM3]
            exact MQe.fold (fun p : zCS × Int32 => p.1) (mGx g fr y) (fun p q => MQe.Gx g fr y p q) (nums rs fr) ((mRn L' b gw (M, ct) rs fr).1.1, kF S i 12)
          exact hM.K (r1.trans r2).1
        have hdis : ∀ a, a ∈ rs → ∀ q, q ∈ (kItemsOf S i).drop (fr + k) → ∀ x, x < kN S → Dm S q x → ¬ Dm S a x := fun a ha q hq x hx h1 h2 => by
          have := Dm.same hK hx h2 h1 (hil a (hsub a ha)).1 (hil q (hsub2 q hq)).1
          exact n3 a ha q hq this
        have eyh : (y + hgt).toInt = y.toInt + hgt.toInt := ti_add (by omega) (by omega)
        have hoth : ∀ j, j ∈ (kItemsOf S i).drop (fr + k) → ∀ z, Dm S j z → sm d C3 z ∧ sm M M3 z := fun j hj z hz => by
          have hzN := Dm.lt hW (hil j (hsub2 j hj)).2.2.2 hz
          exact ⟨a3 z (fun ⟨q, q1, q2⟩ => hdis q q1 j hj z hzN hz q2), a3m z (fun ⟨q, q1, q2⟩ => hdis q q1 j hj z hzN hz q2)⟩
        obtain ⟨b1, b2, ⟨b3, b3m⟩, b4, b5, b6⟩ := ih (fr + k) C3 A.1.2 M3 ct2 (y + hgt) (hd.K a2) hsM3 (by rw [Nat.add_mod_right]; exact hmod) (by omega) (fun hk9 j hj => (hci2 hk9 j (List.mem_append_right _ hj)).st hW (hil j (hsub2 j hj)).2.2.2 (fun z hz _ => (hoth j hj z hz).1) (hoth j hj j (Dm.rf S j)).1.sl) (by omega) (by omega)
        rw [e]
        refine ⟨b1, a2.trans b2, ⟨(a3.mono (fun z ⟨j, j1, j2⟩ => ⟨j, List.mem_append_left _ j1, j2⟩)).trans (b3.mono (fun z ⟨j, j1, j2⟩ => ⟨j, List.mem_append_right _ j1, j2⟩)), (a3m.mono (fun z ⟨j, j1, j2⟩ => ⟨j, List.mem_append_left _ j1, j2⟩)).trans (b3m.mono (fun z ⟨j, j1, j2⟩ => ⟨j, List.mem_append_right _ j1, j2⟩))⟩, fun j hj => ?_, ?_, fun hk9 hb9 hC1 => ?_⟩
        · rcases List.mem_append.mp hj with hj | hj
          · obtain ⟨p1, p2, p3, p4⟩ := hil j (hsub j hj)
            have hnz : ∀ z, Dm S j z → ¬ ∃ q, q ∈ (kItemsOf S i).drop (fr + k) ∧ Dm S q z := fun z hz ⟨q, q1, q2⟩ => hdis j hj q q1 z (Dm.lt hW p4 hz) q2 hz
            exact (a4 j hj).st hW p4 p1 (fun z _ => sl.rf d z) (fun z hz => b3 z (hnz z hz)) (fun z hz => b3m z (hnz z hz)) (Or.inl (ctx_items hk))
          · obtain ⟨p1, p2, p3, p4⟩ := hil j (hsub2 j hj)
            exact (b4 j hj).st hW p4 p1 (fun z hz => (hoth j hj z hz).1.sl) (fun z _ => sm.rf _ z) (fun z _ => sm.rf _ z) (Or.inl (ctx_items hk))
        · show y.toInt ≤ (gLoop L g i k fu ((kItemsOf S i).drop (fr + k)) (C3, A.1.2) (y + hgt)).2.toInt ∧ (gLoop L g i k fu ((kItemsOf S i).drop (fr + k)) (C3, A.1.2) (y + hgt)).2.toInt ≤ _
          rw [List.map_append, List.sum_append]
          omega
        · refine (a6 hk9 hb9 (fun j hj => hC1 j (List.mem_append_left _ hj))).trans (b6 hk9 hb9 (fun j hj z hz => ?_))
          exact (hC1 j (List.mem_append_right _ hj) z hz).st (hoth j hj z hz).1.sl (hoth j hj z hz).2.sl
      · have e : (kItemsOf S i).drop fr = [] := List.drop_eq_nil_of_le (Nat.le_of_not_lt hlt)
        have hMl : mGLoop L' b g gw (kItemsOf S i) k (kF S i 12) (fu + 1) fr (M, ct) y = ((M, ct), y) := if_neg hlt
        rw [e, hMl]
        exact ⟨rfl, KEq.rf d, ⟨Fr.rf _ _, Fr.rf _ _⟩, fun j hj => absurd hj List.not_mem_nil, ⟨Int.le_refl _, by show y.toInt ≤ y.toInt + 1000 * ((0 : Nat) : Int); omega⟩, fun _ _ _ => CTd.rf n ct⟩
  have hsi := sz_items hK hi
  have hs := sz_le hK hi
  have hp := (fld hK hi).2.2.2.2.2.2.1
  have hk0 := key 25 0 c n m ct (kF S i 12) hc hm (Nat.zero_mod _) (by omega) (fun hk9 j hj => hci hk9 j (by rw [List.drop_zero] at hj; exact hj)) hp.1 (by rw [List.drop_zero]; omega)
  rw [List.drop_zero] at hk0
  obtain ⟨b1, b2, ⟨b3, -⟩, b4, b5, b6⟩ := hk0
  refine ⟨?_, b6⟩
  have ev : (mGLoop L' b g gw (kItemsOf S i) k (kF S i 12) 25 0 (m, ct) (kF S i 12)).2 + kF S i 12 = ((gLoop L g i k 25 (kItemsOf S i) (c, n) (kF S i 12)).2 - kF S i 12) + 2 * kF S i 12 := by rw [i32_c, b1]
  refine CQ.of hW hi hk hc b2 b3 b4 ev ?_
  rw [ti_sub (by omega) (by omega)]
  omega
