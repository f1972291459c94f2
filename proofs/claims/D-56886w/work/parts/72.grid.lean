/-! ===== the layout: layGrid (rows printed by tools/p72.py) ===== -/
/-- a cell's tag told anew -/
def sTa (σ : zT) (a t : Nat) : zT := (σ.1, fun x => if x = a then t else sT σ x, σ.2.2)
theorem sT_ta (σ : zT) (a t x : Nat) : sT (sTa σ a t) x = if x = a then t else sT σ x := rfl
theorem zX.ta {G : zG} {S : Nat → Prop} {σ0 σ : zT} {n a t : Nat} (h : zX G S σ0 σ n) (ha : sZ σ0 ≤ a) (ht : t < 10002 + 2 * a) (haz : a < sZ σ) : zX G S σ0 (sTa σ a t) n := by
  obtain ⟨⟨f1, f2⟩, ⟨g1, g2, g3, g4⟩, ek, m⟩ := h
  refine ⟨⟨f1, fun x hx => ?_⟩, ⟨g1, g2, g3, fun x hx => ?_⟩, fun y hy => ek y hy, m⟩
  · obtain ⟨q1, q2⟩ := f2 x hx
    exact ⟨by rw [sT_ta, if_neg (by omega)]; exact q1, q2⟩
  · have := g4 x hx
    rw [sT_ta]
    split
    · show t < 10000 + 2 * sZ σ; omega
    · exact this
def subA (f : Nat → Int32) : Nat → Nat → Int32 → Int32
  | 0, _, a => a
  | n + 1, k, a => subA f n (k + 1) (a - f k)
def gdP (free : Int32) (m k : Nat) : Int32 := free / nI m + (if nI k < free - free / nI m * nI m then 1 else 0)
def gdA (free : Int32) (m : Nat) : Nat → Nat → (Nat → Int32) → (Nat → Int32)
  | 0, _, g => g
  | n + 1, k, g => gdA free m n (k + 1) (upd g k (g k + gdP free m k))
def gcol (c : zCS) (i : Nat) : Nat → Int32 := (nums (kItemsOf c i) 0).foldl (colf c (fun j => cW c j true) (kF c i 15)) (fun _ => 0)
def gFree (c : zCS) (i m : Nat) : Int32 := subA (gcol c i) m 0 (kInner c i)
def gWs (c : zCS) (i m : Nat) : Nat → Int32 := if gFree c i m ≤ 0 then gcol c i else gdA (gFree c i m) m m 0 (gcol c i)
def gLoop (L : LayT) (g : Nat → Int32) (i m : Nat) : Nat → List Nat → zCS × Int32 → Int32 → (zCS × Int32) × Int32
  | 0, _, s, y => (s, y)
  | f + 1, es, s, y => match es with
    | [] => (s, y)
    | e :: r => gLoop L g i m f ((e :: r).drop m) (cCells L s ((e :: r).take m) g (kF s.1 i 12) y).1 (y + (cCells L s ((e :: r).take m) g (kF s.1 i 12) y).2)
def gridE (L : LayT) (s : zCS × Int32) (i : Nat) : (zCS × Int32) × Int32 := gLoop L (gWs s.1 i (kF s.1 i 15).toNatClampNeg) i (kF s.1 i 15).toNatClampNeg 25 (kItemsOf s.1 i) s (kF s.1 i 12)
def cGrid (L : LayT) (s : zCS × Int32) (i : Nat) : zCS × Int32 := (cSH (gridE L s i).1.1 i ((gridE L s i).2 - kF s.1 i 12), (gridE L s i).1.2)
theorem gcol_Z (c : zCS) : gcol (kZ c) = gcol c := by funext i; unfold gcol; rw [cW_Z]; rfl
theorem gFree_Z (c : zCS) : gFree (kZ c) = gFree c := by funext i m; unfold gFree; rw [gcol_Z]; rfl
theorem gWs_Z (c : zCS) : gWs (kZ c) = gWs c := by funext i m; unfold gWs; rw [gcol_Z, gFree_Z]
theorem sum_take_drop {l : List Nat} {g : Nat → Nat} (m : Nat) : ((l.take m).map g).sum + ((l.drop m).map g).sum = (l.map g).sum := by
  rw [← List.sum_append, ← List.map_append, List.take_append_drop]
set_option maxHeartbeats 4000000 in
theorem l_X6_gridA {G : zG} {σ : zT} {d m : Nat} {g : Nat → Int32} {c0 : zCS} {i l wa ly : Nat} {Q : zO → zT → Prop} (hm : m ≤ 4) (hA : sF σ wa = some (aI G m g)) : ∀ (n k : Nat) (a : Int32), k + n = m → (∀ a2 x, a2 = subA g n k a → zR G yX6_layGrid cX6_layGrid 9 (Option.none : Option Jvm.ClassFile.FieldType) [] d 55 [(0, .ref ly), (1, .ref (kA c0 (rB i))), (2, .ref l), (3, .ref wa), (4, .int a2), (5, .ref wa), (6, .int (nI m)), (7, .int x)] [] σ Q) → zR G yX6_layGrid cX6_layGrid 9 (Option.none : Option Jvm.ClassFile.FieldType) [] d 28 [(0, .ref ly), (1, .ref (kA c0 (rB i))), (2, .ref l), (3, .ref wa), (4, .int a), (5, .ref wa), (6, .int (nI m)), (7, .int (nI k))] [] σ Q := by
  intro n
  induction n with
  | zero =>
    intro k a hk kQ
    refine zr_iload dX6_layGrid_28 rfl ?_
    refine zr_iload dX6_layGrid_30 rfl ?_
    refine zr_icmp_ge (tgt := 55) dX6_layGrid_32 (by decide) (fun _ => ?_) (fun h9 => absurd (by rw [show k = m by omega]; exact Int32.le_refl _) h9)
    exact kQ _ _ rfl
  | succ n ih =>
    intro k a hk kQ
    refine zr_iload dX6_layGrid_28 rfl ?_
    refine zr_iload dX6_layGrid_30 rfl ?_
    refine zr_icmp_ge (tgt := 55) dX6_layGrid_32 (by decide) (fun h9 => absurd h9 (nI_ge (by omega) (by omega))) (fun _ => ?_)
    refine zr_aload dX6_layGrid_35 rfl ?_
    refine zr_iload dX6_layGrid_37 rfl ?_
    refine zr_iald (v := .int (g k)) (.new hA) (vp_in_nI (by omega) (by omega)) (by rw [nI_clamp (by omega)]) dX6_layGrid_39 ?_
    refine zr_istore (ls2 := [(0, .ref ly), (1, .ref (kA c0 (rB i))), (2, .ref l), (3, .ref wa), (4, .int a), (5, .ref wa), (6, .int (nI m)), (7, .int (nI k)), (8, .int (g k))]) dX6_layGrid_40 (Nat.le_of_ble_eq_true rfl) rfl ?_
    refine zr_iload dX6_layGrid_42 rfl ?_
    refine zr_iload dX6_layGrid_44 rfl ?_
    refine zr_isub dX6_layGrid_46 ?_
    refine zr_istore (ls2 := [(0, .ref ly), (1, .ref (kA c0 (rB i))), (2, .ref l), (3, .ref wa), (4, .int (a - (g k))), (5, .ref wa), (6, .int (nI m)), (7, .int (nI k)), (8, .int (g k))]) dX6_layGrid_47 (Nat.le_of_ble_eq_true rfl) rfl ?_
    refine zr_iinc (v := ((nI k) + 1)) (ls2 := [(0, .ref ly), (1, .ref (kA c0 (rB i))), (2, .ref l), (3, .ref wa), (4, .int (a - (g k))), (5, .ref wa), (6, .int (nI m)), (7, .int ((nI k) + 1)), (8, .int (g k))]) dX6_layGrid_49 rfl rfl (Nat.le_of_ble_eq_true rfl) rfl ?_
    rw [show nI k + 1 = nI (k + 1) from nI_1 k]
    refine zr_goto (tgt := 28) dX6_layGrid_52 (by decide) ?_
    refine zr_sub (ls2 := [(0, .ref ly), (1, .ref (kA c0 (rB i))), (2, .ref l), (3, .ref wa), (4, .int (a - (g k))), (5, .ref wa), (6, .int (nI m)), (7, .int (nI (k + 1)))]) [0, 1, 2, 3, 4, 5, 6, 7] rfl ?_
    exact ih (k + 1) _ (by omega) kQ
set_option maxHeartbeats 4000000 in
theorem l_X6_gridB {G : zG} {σ : zT} {d m N : Nat} {free : Int32} {c0 : zCS} {i l wa ly : Nat} {Q : zO → zT → Prop} (hm1 : 1 ≤ m) (hm : m ≤ 4) (hfr : 0 < free) (hwa : sZ σ ≤ wa) : ∀ (n k : Nat) (g : Nat → Int32) (σ1 : zT), k + n = m → zX G S0 σ σ1 N → sF σ1 wa = some (aI G m g) → sT σ1 wa = dT wa → (∀ σ2 x, zX G S0 σ σ2 N → sF σ2 wa = some (aI G m (gdA free m n k g)) → sT σ2 wa = dT wa → zR G yX6_layGrid cX6_layGrid 9 (Option.none : Option Jvm.ClassFile.FieldType) [] d 104 [(0, .ref ly), (1, .ref (kA c0 (rB i))), (2, .ref l), (3, .ref wa), (4, .int free), (5, .int x)] [] σ2 Q) → zR G yX6_layGrid cX6_layGrid 9 (Option.none : Option Jvm.ClassFile.FieldType) [] d 58 [(0, .ref ly), (1, .ref (kA c0 (rB i))), (2, .ref l), (3, .ref wa), (4, .int free), (5, .int (nI k))] [] σ1 Q := by
  intro n
  induction n with
  | zero =>
    intro k g σ1 hk hX hA hT kQ
    refine zr_iload dX6_layGrid_58 rfl ?_
    refine zr_aload_n dX6_layGrid_60 rfl rfl ?_
    refine zr_alenI (v := nI m) (.new hA) rfl dX6_layGrid_61 ?_
    refine zr_icmp_ge (tgt := 104) dX6_layGrid_62 (by decide) (fun _ => ?_) (fun h9 => absurd (by rw [show k = m by omega]; exact Int32.le_refl _) h9)
    exact kQ σ1 _ hX hA hT
  | succ n ih =>
    intro k g σ1 hk hX hA hT kQ
    refine zr_iload dX6_layGrid_58 rfl ?_
    refine zr_aload_n dX6_layGrid_60 rfl rfl ?_
    refine zr_alenI (v := nI m) (.new hA) rfl dX6_layGrid_61 ?_
    refine zr_icmp_ge (tgt := 104) dX6_layGrid_62 (by decide) (fun h9 => absurd h9 (nI_ge (by omega) (by omega))) (fun _ => ?_)
    refine zr_iload dX6_layGrid_65 rfl ?_
    refine zr_if_le (tgt := 104) dX6_layGrid_67 (by decide) (fun h9 => absurd h9 (Int32.not_le.mpr hfr)) (fun _ => ?_)
    refine zr_aload_n dX6_layGrid_70 rfl rfl ?_
    refine zr_iload dX6_layGrid_71 rfl ?_
    refine zr_dup2 dX6_layGrid_73 rfl rfl ?_
    refine zr_iald (v := .int (g k)) (.new hA) (vp_in_nI (by omega) (by omega)) (by rw [nI_clamp (by omega)]) dX6_layGrid_74 ?_
    refine zr_iload dX6_layGrid_75 rfl ?_
    refine zr_aload_n dX6_layGrid_77 rfl rfl ?_
    refine zr_alenI (v := nI m) (.new hA) rfl dX6_layGrid_78 ?_
    refine zr_idiv dX6_layGrid_79 (nI_ne0 (by omega) (by omega)) ?_
    refine zr_iload dX6_layGrid_80 rfl ?_
    refine zr_iload dX6_layGrid_82 rfl ?_
    refine zr_aload_n dX6_layGrid_84 rfl rfl ?_
    refine zr_alenI (v := nI m) (.new hA) rfl dX6_layGrid_85 ?_
    refine zr_irem dX6_layGrid_86 (nI_ne0 (by omega) (by omega)) ?_
    have key : ∀ b, b = (if nI k < free - free / nI m * nI m then (1 : Int32) else 0) → zR G yX6_layGrid cX6_layGrid 9 (Option.none : Option Jvm.ClassFile.FieldType) [] d 95 [(0, .ref ly), (1, .ref (kA c0 (rB i))), (2, .ref l), (3, .ref wa), (4, .int free), (5, .int (nI k))] [.int b, .int (free / nI m), .int (g k), .int (nI k), .ref wa] σ1 Q := by
      intro b hb
      refine zr_iadd dX6_layGrid_95 ?_
      refine zr_iadd dX6_layGrid_96 ?_
      refine zr_iast (f2 := upd g k (g k + gdP free m k)) hA (vp_in_nI (by omega) (by omega)) (by rw [nI_clamp (by omega), hb]; rfl) dX6_layGrid_97 ?_
      refine zr_iinc (v := ((nI k) + 1)) (ls2 := [(0, .ref ly), (1, .ref (kA c0 (rB i))), (2, .ref l), (3, .ref wa), (4, .int free), (5, .int ((nI k) + 1))]) dX6_layGrid_98 rfl rfl (Nat.le_of_ble_eq_true rfl) rfl ?_
      rw [show nI k + 1 = nI (k + 1) from nI_1 k]
      refine zr_goto (tgt := 58) dX6_layGrid_101 (by decide) ?_
      exact ih (k + 1) _ _ (by omega) (hX.upNA hA hwa) (sF_upS _ _ _) hT kQ
    refine zr_icmp_ge (tgt := 94) dX6_layGrid_87 (by decide) (fun h1 => ?_) (fun h1 => ?_)
    · refine zr_iconst (v := 0) dX6_layGrid_94 (by decide) ?_
      exact key _ (if_neg (Int32.not_lt.mpr h1)).symm
    · refine zr_iconst (v := 1) dX6_layGrid_90 (by decide) ?_
      refine zr_goto (tgt := 95) dX6_layGrid_91 (by decide) ?_
      exact key _ (if_pos (Int32.not_le.mp h1)).symm
set_option maxHeartbeats 4000000 in
theorem l_X6_gridC {G : zG} {σ : zT} {d f i m : Nat} {c0 : zCS} {l wa ly : Nat} {mod free : Int32} {es : List Nat} {g : Nat → Int32} {L : LayT} {chk : Bool} {Q : zO → zT → Prop} (hd : 90 ≤ d) (hG : zOk G) (hw : zGd G σ) (hi : i < kN c0) (hL : zL G σ (dT l) l mod (es.map (fun j => kA c0 (rB j)))) (hes : ∀ j, j ∈ es → j < kN c0 ∧ kN c0 ≤ f + j) (hel : es.length ≤ 24) (hm1 : 1 ≤ m) (hm : m ≤ 4) (hA0 : sF σ wa = some (aI G m g)) (hT0 : sT σ wa = dT wa) (hLay : ∀ (σ : zT) (c : zCS) (n : Int32) (j : Nat) (wd : Int32), zGd G σ → LY G σ c ly chk n → j < kN c → kN c ≤ f + j → zCall G I_X6_lay (d - 1 - 1) [.ref ly, .ref (kA c (rB j)), .int wd] σ (fun o σ' => ∃ c', o = .inl none ∧ KEq c c' ∧ kZ c' = (L (kZ c, n) j wd).1 ∧ LY G σ' c' ly chk (L (kZ c, n) j wd).2 ∧ zX G SC σ σ' (LB f c j))) {N : Nat} : ∀ (fu : Nat) (ys : List Nat) (k q : Nat) (c : zCS) (n y : Int32) (σ1 : zT), ys.length < fu → es.drop k = ys → (ys = [] → es.length ≤ k) → k ≤ 100 → KEq c0 c → zX G SC σ σ1 q → q + (ys.map (fun j => LB f c0 j)).sum + 40 * ys.length ≤ N → LY G σ1 c ly chk n → (∀ σ2 c2 x2, KEq c0 c2 → zX G SC σ σ2 N → kZ c2 = (gLoop L g i m fu ys (kZ c, n) y).1.1 → LY G σ2 c2 ly chk (gLoop L g i m fu ys (kZ c, n) y).1.2 → zR G yX6_layGrid cX6_layGrid 9 (Option.none : Option Jvm.ClassFile.FieldType) [] d 176 [(0, .ref ly), (1, .ref (kA c0 (rB i))), (2, .ref l), (3, .ref wa), (4, .int free), (5, .int (gLoop L g i m fu ys (kZ c, n) y).2), (6, .int x2)] [] σ2 Q) → zR G yX6_layGrid cX6_layGrid 9 (Option.none : Option Jvm.ClassFile.FieldType) [] d 113 [(0, .ref ly), (1, .ref (kA c0 (rB i))), (2, .ref l), (3, .ref wa), (4, .int free), (5, .int y), (6, .int (nI k))] [] σ1 Q := by
  intro fu
  induction fu with
  | zero => intro ys k q c n y σ1 hf; omega
  | succ fu ih =>
    intro ys k q c n y σ1 hf hy hye hk1 hE hX hN hY kQ
    have hL1 := hX.L hw hL (SC_big (by unfold dT; omega)) (SC_big (by unfold dT; omega))
    obtain ⟨fl, hfl⟩ := hL1.A
    cases ys with
    | nil =>
      have hkl := hye rfl
      refine zr_iload dX6_layGrid_113 rfl ?_
      refine zr_aload_n dX6_layGrid_115 rfl rfl ?_
      refine zr_call51 (rest := [.int (nI k)]) (zs_F (As := []) (by omega) okF_J2_size (by decide +kernel) q1133 q162 q164 q56 q166 hfl rfl rfl rfl (Nat.le_of_ble_eq_true rfl) dX6_layGrid_116) (c_size (by omega) hL1 (List.length_map _)) ?_
      refine zr_icmp_ge (tgt := 176) dX6_layGrid_121 (by decide) (fun _ => ?_) (fun h9 => absurd (nI_le hkl (by omega)) h9)
      exact kQ σ1 c _ hE (hX.le (by simpa using hN)) rfl hY
    | cons e r =>
      obtain ⟨-, -, hkl, -⟩ := drop_cons hy
      have hle : (es.map (fun j => kA c0 (rB j))).length = es.length := List.length_map _
      have hrl : (e :: r).length = es.length - k := by rw [← hy, List.length_drop]
      have hS1 := hY.1
      have hbi : zAt G σ1 (kA c0 (rB i)) (.inr (2, kBx c i)) := hE.b i ▸ hS1.bx (hE.nn hi)
      have hXs := zX.new S0 hX.gd 0 (by omega) (.inr (22, [.int mod, .ref l, .null, .int (nI k), .int (nI (min es.length (k + m) - k))])) 5
      have hYs := hY.keep0 hX.gd hXs
      have hLs := hXs.L hX.gd hL1 (fun h => h) (fun h => h)
      have hss : zSub G (sNew σ1 0 (.inr (22, [.int mod, .ref l, .null, .int (nI k), .int (nI (min es.length (k + m) - k))])) 5) (sZ σ1) l k (min es.length (k + m) - k) mod := sF_newS _ _ _ _
      have hst : sT (sNew σ1 0 (.inr (22, [.int mod, .ref l, .null, .int (nI k), .int (nI (min es.length (k + m) - k))])) 5) (sZ σ1) = 0 := sT_newS _ _ _ _
      have hAs := hXs.f hX.gd (hX.f hw hA0 (by rw [hT0]; exact SC_big (by unfold dT; omega))) (fun h => h)
      have hTs := (hXs.t hX.gd (hX.f hw hA0 (by rw [hT0]; exact SC_big (by unfold dT; omega)))).trans ((hX.t hw hA0).trans hT0)
      generalize hσs : sNew σ1 0 (.inr (22, [.int mod, .ref l, .null, .int (nI k), .int (nI (min es.length (k + m) - k))])) 5 = σs at hXs hYs hLs hss hst hAs hTs
      have hSs := hYs.1
      have hbis : zAt G σs (kA c0 (rB i)) (.inr (2, kBx c i)) := hE.b i ▸ hSs.bx (hE.nn hi)
      have htl : ((e :: r).take m).length = min es.length (k + m) - k := by rw [List.length_take, hrl]; omega
      have hmem : ∀ j, j ∈ (e :: r).take m → j ∈ es := fun j hj => List.mem_of_mem_drop (i := k) (by rw [hy]; exact List.mem_of_mem_take hj)
      have hLs' : zL G σs (dT l) l mod (es.map (fun j => kA c (rB j))) := by simp only [hE.b]; exact hLs
      obtain ⟨_, σ3, ⟨c3, rfl, hE3, hz3, hY3, hX3⟩, hC⟩ := c_X6_layCells (left := kF c i 12) (top := y) (d := d - 1) (f := f) (rs := (e :: r).take m) (es := es) (by omega) hG hXs.gd hLs' hss hst (by rw [List.length_map]; omega) htl (fun a b h => by
        have h1 := (List.getElem?_take_of_lt (l := e :: r) (i := a) (j := m) (by have := (List.getElem?_eq_some_iff.mp h).1; rw [List.length_take] at this; omega)).symm.trans h
        rw [← hy, List.getElem?_drop] at h1
        exact h1) (fun j hj => by rw [hE.n]; exact hes j (hmem j hj)) hel (by rw [htl]; omega) hAs hm hTs hYs hLay
      have hE03 := hE.trans hE3
      have hX4 := (hX.trans (hXs.mono (S2 := SC) (fun _ h => absurd h (fun h => h)))).trans hX3
      have hA3 := hX4.f hw hA0 (by rw [hT0]; exact SC_big (by unfold dT; omega))
      have e9 : gLoop L g i m (fu + 1) (e :: r) (kZ c, n) y = gLoop L g i m fu ((e :: r).drop m) (kZ c3, (cCells L (kZ c, n) ((e :: r).take m) g (kF c i 12) y).1.2) (y + (cCells L (kZ c, n) ((e :: r).take m) g (kF c i 12) y).2) := by
        rw [hz3]
        rfl
      rw [e9] at kQ
      have hsum := sum_take_drop (l := e :: r) (g := fun j => LB f c0 j) m
      have hdl : ((e :: r).drop m).length + 1 ≤ (e :: r).length := by rw [List.length_drop]; rw [List.length_cons]; omega
      have hLBs : (((e :: r).take m).map (fun j => LB f c j)).sum = (((e :: r).take m).map (fun j => LB f c0 j)).sum := by simp only [LB_eq hE]
      refine zr_iload dX6_layGrid_113 rfl ?_
      refine zr_aload_n dX6_layGrid_115 rfl rfl ?_
      refine zr_call51 (rest := [.int (nI k)]) (zs_F (As := []) (by omega) okF_J2_size (by decide +kernel) q1133 q162 q164 q56 q166 hfl rfl rfl rfl (Nat.le_of_ble_eq_true rfl) dX6_layGrid_116) (c_size (by omega) hL1 (List.length_map _)) ?_
      refine zr_icmp_ge (tgt := 176) dX6_layGrid_121 (by decide) (fun h9 => absurd h9 (nI_ge (by omega) (by omega))) (fun _ => ?_)
      refine zr_aload_n dX6_layGrid_124 rfl rfl ?_
      refine zr_iload dX6_layGrid_125 rfl ?_
      refine zr_aload_n dX6_layGrid_127 rfl rfl ?_
      refine zr_call51 (rest := [.int (nI k), .ref l]) (zs_F (As := []) (by omega) okF_J2_size (by decide +kernel) q1133 q162 q164 q56 q166 hfl rfl rfl rfl (Nat.le_of_ble_eq_true rfl) dX6_layGrid_128) (c_size (by omega) hL1 (List.length_map _)) ?_
      have hA := hX.f hw hA0 (by rw [hT0]; exact SC_big (by unfold dT; omega))
      refine zr_iload dX6_layGrid_133 rfl ?_
      refine zr_aload_n dX6_layGrid_135 rfl rfl ?_
      refine zr_alenI (v := nI m) (.new hA) rfl dX6_layGrid_136 ?_
      refine zr_iadd dX6_layGrid_137 ?_
      refine zr_eqi (z := (nI (k + m))) (nI_add k m) ?_
      refine zr_min (by omega) q1196 q431 q60 q432 (Nat.le_of_ble_eq_true rfl) dX6_layGrid_138 ?_
      refine zr_eqi (z := (nI (min es.length (k + m)))) (imin_nI (by omega) (by omega)) ?_
      refine zr_call51 (rest := []) (zs_F (As := [.int (nI k), .int (nI (min es.length (k + m)))]) (by omega) okF_J2_subList (by decide +kernel) q1254 q1257 q1259 q56 q1261 hfl rfl rfl rfl (Nat.le_of_ble_eq_true rfl) dX6_layGrid_141) (c_J2_subList (by omega) hX.gd.1 (by omega) (by rw [List.length_map]; omega) hL1) ?_
      rw [hσs]
      refine zr_astore (ls2 := [(0, .ref ly), (1, .ref (kA c0 (rB i))), (2, .ref l), (3, .ref wa), (4, .int free), (5, .int y), (6, .int (nI k)), (7, .ref (sZ σ1))]) dX6_layGrid_146 (Nat.le_of_ble_eq_true rfl) rfl ?_
      refine zr_iload dX6_layGrid_148 rfl ?_
      refine zr_aload_n dX6_layGrid_150 rfl rfl ?_
      refine zr_aload dX6_layGrid_151 rfl ?_
      refine zr_aload_n dX6_layGrid_153 rfl rfl ?_
      refine zr_aload_n dX6_layGrid_154 rfl rfl ?_
      refine zr_getN (k := 12) (v := .int (kF c i 12)) in_X2 hbis rfl (Nat.le_of_ble_eq_true rfl) q259 (.inl rfl) rfl dX6_layGrid_155 ?_
      refine zr_iload dX6_layGrid_158 rfl ?_
      refine zr_call1 (rest := [.int y]) (zs_V (As := [.ref (sZ σ1), .ref wa, .int (kF c i 12), .int y]) (by omega) ok_X6_layCells q1315 q1317 qs20 q83 q1318 rfl hYs.lf rfl rfl rfl (Nat.le_of_ble_eq_true rfl) dX6_layGrid_160) hC ?_
      refine zr_iadd dX6_layGrid_163 ?_
      refine zr_istore (ls2 := [(0, .ref ly), (1, .ref (kA c0 (rB i))), (2, .ref l), (3, .ref wa), (4, .int free), (5, .int (y + (cCells L (kZ c, n) ((e :: r).take m) g (kF c i 12) y).2)), (6, .int (nI k)), (7, .ref (sZ σ1))]) dX6_layGrid_164 (Nat.le_of_ble_eq_true rfl) rfl ?_
      refine zr_iload dX6_layGrid_166 rfl ?_
      refine zr_aload_n dX6_layGrid_168 rfl rfl ?_
      have hA := hA3
      refine zr_alenI (v := nI m) (.new hA) rfl dX6_layGrid_169 ?_
      refine zr_iadd dX6_layGrid_170 ?_
      refine zr_eqi (z := (nI (k + m))) (nI_add k m) ?_
      refine zr_istore (ls2 := [(0, .ref ly), (1, .ref (kA c0 (rB i))), (2, .ref l), (3, .ref wa), (4, .int free), (5, .int (y + (cCells L (kZ c, n) ((e :: r).take m) g (kF c i 12) y).2)), (6, .int (nI (k + m))), (7, .ref (sZ σ1))]) dX6_layGrid_171 (Nat.le_of_ble_eq_true rfl) rfl ?_
      refine zr_goto (tgt := 113) dX6_layGrid_173 (by decide) ?_
      refine zr_sub (ls2 := [(0, .ref ly), (1, .ref (kA c0 (rB i))), (2, .ref l), (3, .ref wa), (4, .int free), (5, .int (y + (cCells L (kZ c, n) ((e :: r).take m) g (kF c i 12) y).2)), (6, .int (nI (k + m)))]) [0, 1, 2, 3, 4, 5, 6] rfl ?_
      refine ih _ (k + m) _ c3 _ _ σ3 (by omega) ?_ ?_ (by omega) hE03 hX4 (by omega) hY3 kQ
      · rw [← hy, List.drop_drop]
      · intro h9
        have h8 : ((e :: r).drop m).length = 0 := by rw [h9]; rfl
        rw [List.length_drop, hrl] at h8
        omega
set_option maxHeartbeats 4000000 in
theorem c_X6_layGrid {G : zG} {σ : zT} {d f i : Nat} {c : zCS} {ly : Nat} {n : Int32} {L : LayT} {chk : Bool} (hd : 92 ≤ d) (hG : zOk G) (hw : zGd G σ) (hi : i < kN c) (hf : kN c ≤ f + 1 + i) (hY : LY G σ c ly chk n) (hLay : ∀ (σ : zT) (c : zCS) (n : Int32) (j : Nat) (wd : Int32), zGd G σ → LY G σ c ly chk n → j < kN c → kN c ≤ f + j → zCall G I_X6_lay (d - 1 - 1) [.ref ly, .ref (kA c (rB j)), .int wd] σ (fun o σ' => ∃ c', o = .inl none ∧ KEq c c' ∧ kZ c' = (L (kZ c, n) j wd).1 ∧ LY G σ' c' ly chk (L (kZ c, n) j wd).2 ∧ zX G SC σ σ' (LB f c j))) : zCall G I_X6_layGrid d [.ref ly, .ref (kA c (rB i))] σ ((fun o σ' => ∃ c', o = .inl none ∧ KEq c c' ∧ kZ c' = (cGrid L (kZ c, n) i).1 ∧ LY G σ' c' ly chk (cGrid L (kZ c, n) i).2 ∧ zX G SC σ σ' (5000 + LBS f c i))) := by
  refine zCall_of (ls := [(0, .ref ly), (1, .ref (kA c (rB i)))]) (by decide) (Nat.le_of_ble_eq_true rfl) rfl ?_
  have hS := hY.1
  obtain ⟨m, hm1, hm4, hcol⟩ := hS.col hi
  obtain ⟨_, σ1, ⟨l, mod, rfl, hl, hL1, hX1⟩, hC⟩ := c_X1_items (d := d - 1) (by omega) hG hw hS hi
  have hS1 := hS.keep0 hw hX1
  have hY1 := hY.keep0 hw hX1
  have hchl := hS.chl hi
  have hfl2 := List.length_filter_le (fun j => !kLifted c j) (kCh c i)
  have hel : (kItemsOf c i).length ≤ 24 := Nat.le_trans hfl2 hchl
  have hes : ∀ j, j ∈ kItemsOf c i → j < kN c ∧ kN c ≤ f + j := fun j hj => by
    have h9 := hS.ch hi (List.mem_filter.mp hj).1
    exact ⟨h9.2, by omega⟩
  have hs1 : ((kItemsOf c i).map (fun j => KW 24 c j)).sum ≤ ((kCh c i).map (fun j => KW 24 c j)).sum := sum_filter_le
  have hs2 : ((kItemsOf c i).map (fun j => LB f c j)).sum ≤ ((kCh c i).map (fun j => LB f c j)).sum := sum_filter_le
  have hs3 : LBS f c i = ((kItemsOf c i).map (fun j => LB f c j)).sum + 4 * ((kItemsOf c i).map (fun j => KW 24 c j)).sum + 2000 * (kItemsOf c i).length := (LBS_items f c i).trans sum_three
  obtain ⟨_, σ2, ⟨wa, rfl, hwl, hA2, hX2⟩, hC2⟩ := c_X1_columnWidths (d := d - 1) (least := true) (f := 24) (by omega) hG hX1.gd hS1 hi (by have := hS.le; omega) hm1 hm4 hcol (fun σ j h1 h2 h3 _ => c_W (d := d - 1 - 1) true (by omega) hG h1 h2 h3)
  have hwz : wa < sZ σ2 := hX2.gd.1 wa _ hA2
  have hX3 := hX2.ta (t := dT wa) hwl (by unfold dT; omega) hwz
  have hA3 : sF (sTa σ2 wa (dT wa)) wa = some (aI G m (gcol c i)) := hA2
  have hT3 : sT (sTa σ2 wa (dT wa)) wa = dT wa := if_pos rfl
  have hcm : (kF c i 15).toNatClampNeg = m := by rw [hcol, nI_clamp (by omega)]
  refine zr_aload_n dX6_layGrid_0 rfl rfl ?_
  refine zr_call1 (rest := []) (zs_SN (As := [.ref (kA c (rB i))]) (by omega) ok_X1_items q1121 q1122 q53 q1123 rfl rfl (Nat.le_of_ble_eq_true rfl) dX6_layGrid_1) hC ?_
  refine zr_astore_n (ls2 := [(0, .ref ly), (1, .ref (kA c (rB i))), (2, .ref l)]) dX6_layGrid_4 rfl (Nat.le_of_ble_eq_true rfl) rfl ?_
  refine zr_aload_n dX6_layGrid_5 rfl rfl ?_
  refine zr_iconst (v := 1) dX6_layGrid_6 (by decide) ?_
  refine zr_call1 (rest := []) (zs_SN (As := [.ref (kA c (rB i)), .int 1]) (by omega) ok_X1_columnWidths q1252 q1175 q53 q1176 rfl rfl (Nat.le_of_ble_eq_true rfl) dX6_layGrid_7) hC2 ?_
  refine zr_tag (σ2 := sTa σ2 wa (dT wa)) rfl rfl rfl ?_
  generalize hσ3 : sTa σ2 wa (dT wa) = σ3 at hX3 hA3 hT3 ⊢
  have hY3 := hY1.keep0 hX1.gd hX3
  have hS3 := hY3.1
  have hL3 := hX3.L hX1.gd hL1 (fun h => h) (fun h => h)
  refine zr_astore_n (ls2 := [(0, .ref ly), (1, .ref (kA c (rB i))), (2, .ref l), (3, .ref wa)]) dX6_layGrid_10 rfl (Nat.le_of_ble_eq_true rfl) rfl ?_
  refine zr_aload_n dX6_layGrid_11 rfl rfl ?_
  refine zr_call1 (rest := []) (zs_V (As := []) (by omega) ok_X2_inner q1134 q1135 q1136 q57 q1137 rfl (hS3.bx hi) rfl rfl rfl (Nat.le_of_ble_eq_true rfl) dX6_layGrid_12) (c_X2_inner (by omega) hS3 hi) ?_
  refine zr_istore (ls2 := [(0, .ref ly), (1, .ref (kA c (rB i))), (2, .ref l), (3, .ref wa), (4, .int (kInner c i))]) dX6_layGrid_15 (Nat.le_of_ble_eq_true rfl) rfl ?_
  refine zr_aload_n dX6_layGrid_17 rfl rfl ?_
  refine zr_astore (ls2 := [(0, .ref ly), (1, .ref (kA c (rB i))), (2, .ref l), (3, .ref wa), (4, .int (kInner c i)), (5, .ref wa)]) dX6_layGrid_18 (Nat.le_of_ble_eq_true rfl) rfl ?_
  refine zr_aload dX6_layGrid_20 rfl ?_
  refine zr_alenI (v := nI m) (.new hA3) rfl dX6_layGrid_22 ?_
  refine zr_istore (ls2 := [(0, .ref ly), (1, .ref (kA c (rB i))), (2, .ref l), (3, .ref wa), (4, .int (kInner c i)), (5, .ref wa), (6, .int (nI m))]) dX6_layGrid_23 (Nat.le_of_ble_eq_true rfl) rfl ?_
  refine zr_iconst (v := 0) dX6_layGrid_25 (by decide) ?_
  refine zr_istore (ls2 := [(0, .ref ly), (1, .ref (kA c (rB i))), (2, .ref l), (3, .ref wa), (4, .int (kInner c i)), (5, .ref wa), (6, .int (nI m)), (7, .int 0)]) dX6_layGrid_26 (Nat.le_of_ble_eq_true rfl) rfl ?_
  refine l_X6_gridA hm4 hA3 m 0 (kInner c i) (by omega) (fun a2 x ha2 => ?_)
  have ha2 : a2 = gFree c i m := ha2
  refine zr_sub (ls2 := [(0, .ref ly), (1, .ref (kA c (rB i))), (2, .ref l), (3, .ref wa), (4, .int a2)]) [0, 1, 2, 3, 4] rfl ?_
  refine zr_iconst (v := 0) dX6_layGrid_55 (by decide) ?_
  refine zr_istore (ls2 := [(0, .ref ly), (1, .ref (kA c (rB i))), (2, .ref l), (3, .ref wa), (4, .int a2), (5, .int 0)]) dX6_layGrid_56 (Nat.le_of_ble_eq_true rfl) rfl ?_
  have key : ∀ σ4 x4, zX G S0 σ1 σ4 (23 + 62 * (kCh c i).length + ((kItemsOf c i).map (fun j => KW 24 c j)).sum) → sF σ4 wa = some (aI G m (gWs c i m)) → sT σ4 wa = dT wa → zR G yX6_layGrid cX6_layGrid 9 (Option.none : Option Jvm.ClassFile.FieldType) [] d 104 [(0, .ref ly), (1, .ref (kA c (rB i))), (2, .ref l), (3, .ref wa), (4, .int a2), (5, .int x4)] [] σ4 (fun o σ' => ∃ c', o = .inl none ∧ KEq c c' ∧ kZ c' = (cGrid L (kZ c, n) i).1 ∧ LY G σ' c' ly chk (cGrid L (kZ c, n) i).2 ∧ zX G SC σ σ' (5000 + LBS f c i)) := by
    intro σ4 x4 hX4 hA4 hT4
    have hY4 := hY1.keep0 hX1.gd hX4
    have hS4 := hY4.1
    have hL4 := hX4.L hX1.gd hL1 (fun h => h) (fun h => h)
    have hbi4 : zAt G σ4 (kA c (rB i)) (.inr (2, kBx c i)) := hS4.bx hi
    refine zr_aload_n dX6_layGrid_104 rfl rfl ?_
    refine zr_getN (k := 12) (v := .int (kF c i 12)) in_X2 hbi4 rfl (Nat.le_of_ble_eq_true rfl) q259 (.inl rfl) rfl dX6_layGrid_105 ?_
    refine zr_istore (ls2 := [(0, .ref ly), (1, .ref (kA c (rB i))), (2, .ref l), (3, .ref wa), (4, .int a2), (5, .int (kF c i 12))]) dX6_layGrid_108 (Nat.le_of_ble_eq_true rfl) rfl ?_
    refine zr_iconst (v := 0) dX6_layGrid_110 (by decide) ?_
    refine zr_istore (ls2 := [(0, .ref ly), (1, .ref (kA c (rB i))), (2, .ref l), (3, .ref wa), (4, .int a2), (5, .int (kF c i 12)), (6, .int 0)]) dX6_layGrid_111 (Nat.le_of_ble_eq_true rfl) rfl ?_
    refine l_X6_gridC (by omega) hG hX4.gd hi hL4 hes hel hm1 hm4 hA4 hT4 hLay (N := ((kItemsOf c i).map (fun j => LB f c j)).sum + 960) 25 (kItemsOf c i) 0 0 c n (kF c i 12) σ4 (by omega) rfl (fun h => by rw [h]; exact Nat.le_refl _) (by omega) (KEq.rf c) (zX.rf _ hX4.gd _) (by omega) hY4 (fun σ5 c5 x5 hE5 hX5 hz5 hY5 => ?_)
    have hE9 : gLoop L (gWs c i m) i m 25 (kItemsOf c i) (kZ c, n) (kF c i 12) = gridE L (kZ c, n) i := by
      show _ = gLoop L (gWs (kZ c) i (kF c i 15).toNatClampNeg) i (kF c i 15).toNatClampNeg 25 (kItemsOf (kZ c) i) (kZ c, n) (kF c i 12)
      rw [gWs_Z, kItemsOf_Z, hcm]
    rw [hE9] at hz5 hY5 ⊢
    have hS5 := hY5.1
    have hbi5 : zAt G σ5 (kA c (rB i)) (.inr (2, kBx c5 i)) := hE5.b i ▸ hS5.bx (hE5.nn hi)
    have hpd : kF c5 i 12 = kF c i 12 := hE5.f i 12 (by decide)
    obtain ⟨_, σ6, ⟨rfl, hY6, hX6⟩, hC6⟩ := c_X6_setHeight (d := d - 1) (v := (gridE L (kZ c, n) i).2 - kF c i 12) (by omega) hX5.gd hY5 (hE5.nn hi)
    have hC6' := zC.at2 (hE5.b i) hC6
    refine zr_aload_n dX6_layGrid_176 rfl rfl ?_
    refine zr_aload_n dX6_layGrid_177 rfl rfl ?_
    refine zr_iload dX6_layGrid_178 rfl ?_
    refine zr_aload_n dX6_layGrid_180 rfl rfl ?_
    refine zr_getN (k := 12) (v := .int (kF c5 i 12)) in_X2 hbi5 rfl (Nat.le_of_ble_eq_true rfl) q259 (.inl rfl) rfl dX6_layGrid_181 ?_
    rw [hpd]
    refine zr_isub dX6_layGrid_184 ?_
    refine zr_callv (rest := []) (zs_V (As := [.ref (kA c (rB i)), .int ((gridE L (kZ c, n) i).2 - (kF c i 12))]) (by omega) ok_X6_setHeight q1244 q1246 qs18 q83 q1247 rfl hY5.lf rfl rfl rfl (Nat.le_of_ble_eq_true rfl) dX6_layGrid_185) hC6' ?_
    have hXt := ((((hX1.trans hX4).mono (S2 := SC) (fun _ h => absurd h (fun h => h))).trans hX5).trans hX6)
    have hzz : kZ (cSH c5 i ((gridE L (kZ c, n) i).2 - kF c i 12)) = (cGrid L (kZ c, n) i).1 := by
      show cSH (kZ c5) i ((gridE L (kZ c, n) i).2 - kF c i 12) = _
      rw [hz5]
      rfl
    exact zr_vret rfl dX6_layGrid_188 (⟨_, rfl, hE5.trans (KEq.SH _ _ _), hzz, hY6, hXt.le (by omega)⟩)
  by_cases h0 : a2 ≤ 0
  · have hX3' : zX G S0 σ1 σ3 (23 + 62 * (kCh c i).length + ((kItemsOf c i).map (fun j => KW 24 c j)).sum) := hX3
    refine zr_iload dX6_layGrid_58 rfl ?_
    refine zr_aload_n dX6_layGrid_60 rfl rfl ?_
    refine zr_alenI (v := nI m) (.new hA3) rfl dX6_layGrid_61 ?_
    refine zr_icmp_ge (tgt := 104) dX6_layGrid_62 (by decide) (fun h9 => absurd h9 (show ¬ nI m ≤ nI 0 from nI_ge (by omega) (by omega))) (fun _ => ?_)
    refine zr_iload dX6_layGrid_65 rfl ?_
    refine zr_if_le (tgt := 104) dX6_layGrid_67 (by decide) (fun _ => ?_) (fun h9 => absurd (h0) h9)
    exact key σ3 _ hX3' (by unfold gWs; rw [← ha2, if_pos h0]; exact hA3) hT3
  · refine l_X6_gridB (N := (23 + 62 * (kCh c i).length + ((kItemsOf c i).map (fun j => KW 24 c j)).sum)) hm1 hm4 (Int32.not_le.mp h0) hwl m 0 _ σ3 (by omega) hX3 hA3 hT3 (fun σ4 x4 hX4 hA4 hT4 => ?_)
    exact key σ4 x4 hX4 (by unfold gWs; rw [← ha2, if_neg h0]; exact hA4) hT4
