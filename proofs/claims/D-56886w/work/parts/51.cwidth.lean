/-! ===== the component: least and greatest widths (rows printed by tools/p51.py) ===== -/
theorem zX.upN {G : zG} {S : Nat → Prop} {σ σ1 : zT} {n a ci : Nat} {fs gs : List Value} (h : zX G S σ σ1 n) (ha : sF σ1 a = some (.inr (ci, fs))) (hn : sZ σ ≤ a) : zX G S σ (sUp σ1 a (.inr (ci, gs))) n :=
  ⟨⟨h.1.1, fun x hx => ⟨(h.1.2 x hx).1, fun hs => (sF_upN σ1 a _ (Nat.ne_of_lt (Nat.lt_of_lt_of_le hx hn))).trans ((h.1.2 x hx).2 hs)⟩⟩, h.2.1.up _ ha, h.2.2.1.trans (zEk.up ha), h.2.2.2⟩
theorem zX.upNA {G : zG} {S : Nat → Prop} {σ σ1 : zT} {n a : Nat} {A A2 : ClassId × vp_A} (h : zX G S σ σ1 n) (ha : sF σ1 a = some (.inl A)) (hn : sZ σ ≤ a) : zX G S σ (sUp σ1 a (.inl A2)) n :=
  ⟨⟨h.1.1, fun x hx => ⟨(h.1.2 x hx).1, fun hs => (sF_upN σ1 a _ (Nat.ne_of_lt (Nat.lt_of_lt_of_le hx hn))).trans ((h.1.2 x hx).2 hs)⟩⟩, h.2.1.up _ ha, h.2.2.1.trans (zEk.upA ha), h.2.2.2⟩
/-- no cell changes -/
abbrev S0 : Nat → Prop := fun _ => False
theorem zX.sz {G : zG} {S : Nat → Prop} {σ σ1 : zT} {n : Nat} (h : zX G S σ σ1 n) : sZ σ ≤ sZ σ1 := h.1.1
theorem zLn.keep {G : zG} {S : Nat → Prop} {σ σ1 : zT} {n : Nat} (h : zX G S σ σ1 n) (hw : zGd G σ) {t o l : Nat} {ln : List (Int32 × Int32 × Int32)} (hl : zLn G σ t o l ln) (h1 : ¬ S t) (h2 : ¬ S (t + 1)) (h3 : ¬ S o) : zLn G σ1 t o l ln := by
  obtain ⟨mod, xs, a1, a2, a3⟩ := hl
  refine ⟨mod, xs, h.L hw a1 h1 h2, a2, fun j q z hq hz => ?_⟩
  obtain ⟨b1, b2⟩ := a3 j q z hq hz
  exact ⟨h.f hw b1 (by rw [b2]; exact h3), (h.t hw b1).trans b2⟩
theorem CSys.keep {G : zG} {S : Nat → Prop} {σ σ1 : zT} {n : Nat} {c : zCS} (hS : CSys G σ c) (hw : zGd G σ) (h : zX G S σ σ1 n) (hs : ∀ s, 1 ≤ s → s < 1000 → ¬ S s) : CSys G σ1 c := by
  have hN := hS.le
  obtain ⟨⟨a1, a2⟩, a3, a4, a5⟩ := hS
  refine ⟨⟨h.f hw a1 (by rw [a2]; exact hs 1 (by omega) (by omega)), (h.t hw a1).trans a2⟩, h.L hw a3 (hs 2 (by omega) (by omega)) (hs 3 (by omega) (by omega)), fun i hi => ?_, a5⟩
  obtain ⟨⟨b1, b2⟩, b3, b4, ⟨b5, b6⟩, b7⟩ := a4 i hi
  have e : ∀ k, k < 12 → ¬ S (16 * i + 16 + k) := fun k hk => hs _ (by omega) (by omega)
  exact ⟨⟨h.f hw b1 (by rw [b2]; exact e 0 (by omega)), (h.t hw b1).trans b2⟩, h.L hw b3 (e 2 (by omega)) (e 3 (by omega)), h.L hw b4 (e 4 (by omega)) (e 5 (by omega)), ⟨h.f hw b5 (by rw [b6]; exact e 6 (by omega)), (h.t hw b5).trans b6⟩, zLn.keep h hw b7 (e 8 (by omega)) (e 9 (by omega)) (e 10 (by omega))⟩
theorem CSys.keep0 {G : zG} {σ σ1 : zT} {n : Nat} {c : zCS} (hS : CSys G σ c) (hw : zGd G σ) (h : zX G S0 σ σ1 n) : CSys G σ1 c := hS.keep hw h (fun _ _ _ h => h)
theorem CSys.chL {G : zG} {σ : zT} {c : zCS} (h : CSys G σ c) {i : Nat} (hi : i < kN c) : zL G σ (rC i) (kA c (rC i)) (kM c (rC i)) ((kCh c i).map (fun j => kA c (rB j))) := (h.2.2.1 i hi).2.1
theorem CSys.wdL {G : zG} {σ : zT} {c : zCS} (h : CSys G σ c) {i : Nat} (hi : i < kN c) : zL G σ (rW i) (kA c (rW i)) (kM c (rW i)) ((kWd c i).map (zbx G)) := (h.2.2.1 i hi).2.2.1
theorem c_hasNext0 {G : zG} {σ : zT} {d t l : Nat} {mod : Int32} {xs : List Nat} {i k : Nat} {lr : Int32} (hL : zL G σ t l mod xs) (hi : sF σ i = some (.inr (21, [.int (nI k), .int lr, .int mod, .ref l]))) (hk : k = xs.length) : zC G I_J23_hasNext d [.ref i] σ (.inl (some (.int 0))) σ := by
  have h := c_J23_hasNext (d := d) hL hi (by omega)
  rw [decide_eq_false (by omega)] at h
  exact h
theorem c_hasNext1 {G : zG} {σ : zT} {d t l : Nat} {mod : Int32} {xs : List Nat} {i k : Nat} {lr : Int32} (hL : zL G σ t l mod xs) (hi : sF σ i = some (.inr (21, [.int (nI k), .int lr, .int mod, .ref l]))) (hk : k < xs.length) : zC G I_J23_hasNext d [.ref i] σ (.inl (some (.int 1))) σ := by
  have h := c_J23_hasNext (d := d) hL hi (by omega)
  rw [decide_eq_true hk] at h
  exact h
theorem drop_nil {α : Type} {l : List α} {k : Nat} (h : l.drop k = []) (hk : k ≤ l.length) : k = l.length := by
  have := List.length_drop (i := k) (l := l)
  rw [h] at this
  simp at this
  omega
theorem drop_cons {α : Type} {l : List α} {k : Nat} {x : α} {r : List α} (h : l.drop k = x :: r) : l[k]? = some x ∧ l.drop (k + 1) = r ∧ k < l.length ∧ x ∈ l := by
  have h1 : l[k]? = some x := by rw [← List.head?_drop, h]; rfl
  have hk : k < l.length := (List.getElem?_eq_some_iff.mp h1).1
  refine ⟨h1, ?_, hk, List.mem_of_getElem? h1⟩
  rw [← List.drop_drop, h]
  rfl
theorem map_at {α : Type} {l : List α} {k : Nat} {x : α} (g : α → Nat) (h : l[k]? = some x) : (l.map g)[k]? = some (g x) := by rw [List.getElem?_map, h]; rfl
/-- the functional side -/
def cTWf (p : Int32 × Int32) (w : Int32) : Int32 × Int32 := (imax p.1 w, p.2 + (w + (if 0 < p.2 then 2 else 0)))
def cTW (ws : List Int32) (least : Bool) : Int32 := if least then (ws.foldl cTWf (0, 0)).1 else (ws.foldl cTWf (0, 0)).2
def kItemsOf (c : zCS) (i : Nat) : List Nat := (kCh c i).filter (fun j => !kLifted c j)
def colf (c : zCS) (w : Nat → Int32) (cols : Int32) (f : Nat → Int32) (kj : Nat × Nat) : Nat → Int32 := upd f (nI kj.1 - nI kj.1 / cols * cols).toNatClampNeg (imax (f (nI kj.1 - nI kj.1 / cols * cols).toNatClampNeg) (w kj.2 + kSides c kj.2))
def nums (l : List Nat) (k : Nat) : List (Nat × Nat) := match l with
  | [] => []
  | j :: r => (k, j) :: nums r (k + 1)
def sumA (f : Nat → Int32) : Nat → Nat → Int32 → Int32
  | 0, _, a => a
  | n + 1, k, a => sumA f n (k + 1) (a + f k)
def cCW : Nat → zCS → Nat → Bool → Int32
  | 0, _, _, _ => 0
  | f + 1, c, i, least =>
    if kTold c i ≠ -1 then kTold c i else
    if kText c i = true then 2 * kF c i 12 + cTW (kWd c i) least else
    if kF c i 2 = 98 then 2 * kF c i 12 + (kCh c i).foldl (fun w j => if kLifted c j = true then w else imax w (cCW f c j least + kSides c j)) 0 else
    if kF c i 2 = 102 then 2 * kF c i 12 + (kItemsOf c i).foldl (fun w j => w + (cCW f c j least + kSides c j)) 0 else
    2 * kF c i 12 + sumA ((nums (kItemsOf c i) 0).foldl (colf c (fun j => cCW f c j least) (kF c i 15)) (fun _ => 0)) (kF c i 15).toNatClampNeg 0 0
def KW : Nat → zCS → Nat → Nat
  | 0, _, _ => 0
  | f + 1, c, i => 60 + ((kCh c i).map (fun j => KW f c j + 80)).sum

set_option maxHeartbeats 4000000 in
theorem l_X1_textWidth {G : zG} {σ : zT} {d : Nat} {c : zCS} {i it : Nat} {least : Bool} {Q : zO → zT → Prop} (hd : 4 ≤ d) (hG : zOk G) (hw : zGd G σ) (hS : CSys G σ c) (hi : i < kN c) (hit : sZ σ ≤ it) : ∀ (ys : List Int32) (k : Nat) (lr : Int32) (p : Int32 × Int32) (σ1 : zT), (kWd c i).drop k = ys → k ≤ (kWd c i).length → zX G S0 σ σ1 12 → sF σ1 it = some (.inr (21, [.int (nI k), .int lr, .int (kM c (rW i)), .ref (kA c (rW i))])) → (∀ σ2, zX G S0 σ σ2 12 → Q (.inl (some (.int (if least then (ys.foldl cTWf p).1 else (ys.foldl cTWf p).2)))) σ2) → zR G yX1_textWidth cX1_textWidth 6 (Option.some Jvm.ClassFile.FieldType.int) [] d 15 [(0, .ref (kA c (rB i))), (1, .int (bI least)), (2, .int p.1), (3, .int p.2), (4, .ref it)] [] σ1 Q := by
  intro ys
  induction ys with
  | nil =>
    intro k lr p σ1 hy hk hX hI kQ
    have hS1 := hS.keep0 hw hX
    have hkl := drop_nil hy hk
    refine zr_aload dX1_textWidth_15 rfl ?_
    refine zr_call51 (rest := []) (zs_F (As := []) (by omega) okF_J23_hasNext (by decide +kernel) q916 q927 q929 q84 q931 (.new hI) rfl rfl rfl (Nat.le_of_ble_eq_true rfl) dX1_textWidth_17) (c_hasNext0 (hS1.wdL hi) hI (by rw [List.length_map]; exact hkl)) ?_
    refine zr_if_eq (tgt := 65) dX1_textWidth_22 (by decide) (fun _ => ?_) (fun h9 => absurd (rfl) h9)
    refine zr_iload_n dX1_textWidth_65 rfl rfl ?_
    refine zr_ifeqB (tgt := 73) dX1_textWidth_66 (by decide) (fun h => ?_) (fun h => ?_)
    · subst h
      refine zr_iload_n dX1_textWidth_73 rfl rfl ?_
      exact zr_iret rfl rfl dX1_textWidth_74 (kQ σ1 hX)
    · subst h
      refine zr_iload_n dX1_textWidth_69 rfl rfl ?_
      refine zr_goto (tgt := 74) dX1_textWidth_70 (by decide) ?_
      exact zr_iret rfl rfl dX1_textWidth_74 (kQ σ1 hX)
  | cons v ys ih =>
    intro k lr p σ1 hy hk hX hI kQ
    have hS1 := hS.keep0 hw hX
    obtain ⟨hx, hy2, hkl, hm⟩ := drop_cons hy
    obtain ⟨n, hn1, hn2, rfl⟩ := (hS.wd hi).2 v hm
    refine zr_aload dX1_textWidth_15 rfl ?_
    refine zr_call51 (rest := []) (zs_F (As := []) (by omega) okF_J23_hasNext (by decide +kernel) q916 q927 q929 q84 q931 (.new hI) rfl rfl rfl (Nat.le_of_ble_eq_true rfl) dX1_textWidth_17) (c_hasNext1 (hS1.wdL hi) hI (by rw [List.length_map]; exact hkl)) ?_
    refine zr_if_eq (tgt := 65) dX1_textWidth_22 (by decide) (fun h9 => absurd h9 (by decide)) (fun _ => ?_)
    refine zr_aload dX1_textWidth_25 rfl ?_
    refine zr_call51 (rest := []) (zs_F (As := []) (by omega) okF_J23_next (by decide +kernel) q942 q1044 q1046 q84 q1048 (.new hI) rfl rfl rfl (Nat.le_of_ble_eq_true rfl) dX1_textWidth_27) (c_J23_next (by omega) hG (hS1.wdL hi) hI (map_at (zbx G) hx)) ?_
    refine zr_castS (zbx_at hG _ (by omega)) rfl q1153 dX1_textWidth_32 ?_
    refine zr_call1 (rest := []) (zs_V (As := []) (by omega) ok_J18_intValue q1154 q1155 q1156 q75 q1157 rfl (zbx_at hG _ (by omega)) rfl rfl rfl (Nat.le_of_ble_eq_true rfl) dX1_textWidth_35) (c_J18_intValue (zbx_at hG _ (by omega))) ?_
    refine zr_istore (ls2 := [(0, .ref (kA c (rB i))), (1, .int (bI least)), (2, .int p.1), (3, .int p.2), (4, .ref it), (5, .int (nI n))]) dX1_textWidth_38 (Nat.le_of_ble_eq_true rfl) rfl ?_
    refine zr_iload_n dX1_textWidth_40 rfl rfl ?_
    refine zr_iload dX1_textWidth_41 rfl ?_
    refine zr_max (by omega) q1158 q376 q60 q377 (Nat.le_of_ble_eq_true rfl) dX1_textWidth_43 ?_
    refine zr_istore_n (ls2 := [(0, .ref (kA c (rB i))), (1, .int (bI least)), (2, .int (imax p.1 (nI n))), (3, .int p.2), (4, .ref it), (5, .int (nI n))]) dX1_textWidth_46 rfl (Nat.le_of_ble_eq_true rfl) rfl ?_
    refine zr_iload_n dX1_textWidth_47 rfl rfl ?_
    refine zr_iload dX1_textWidth_48 rfl ?_
    refine zr_iload_n dX1_textWidth_50 rfl rfl ?_
    have key : ∀ z, z = (if 0 < p.2 then (2 : Int32) else 0) → zR G yX1_textWidth cX1_textWidth 6 (Option.some Jvm.ClassFile.FieldType.int) [] d 59 [(0, .ref (kA c (rB i))), (1, .int (bI least)), (2, .int (imax p.1 (nI n))), (3, .int p.2), (4, .ref it), (5, .int (nI n))] [.int z, .int (nI n), .int p.2] (sUp σ1 it (.inr (21, [.int (nI (k + 1)), .int (nI k), .int (kM c (rW i)), .ref (kA c (rW i))]))) Q := by
      intro z hz
      refine zr_iadd dX1_textWidth_59 ?_
      refine zr_iadd dX1_textWidth_60 ?_
      refine zr_istore_n (ls2 := [(0, .ref (kA c (rB i))), (1, .int (bI least)), (2, .int (imax p.1 (nI n))), (3, .int (p.2 + ((nI n) + z))), (4, .ref it), (5, .int (nI n))]) dX1_textWidth_61 rfl (Nat.le_of_ble_eq_true rfl) rfl ?_
      refine zr_goto (tgt := 15) dX1_textWidth_62 (by decide) ?_
      refine zr_sub (ls2 := [(0, .ref (kA c (rB i))), (1, .int (bI least)), (2, .int (imax p.1 (nI n))), (3, .int (p.2 + ((nI n) + z))), (4, .ref it)]) [0, 1, 2, 3, 4] rfl ?_
      subst hz
      exact ih (k + 1) _ (cTWf p (nI n)) _ hy2 (by omega) (hX.upN hI hit) (sF_upS _ _ _) kQ
    refine zr_if_le (tgt := 58) dX1_textWidth_51 (by decide) (fun h => ?_) (fun h => ?_)
    · refine zr_iconst (v := 0) dX1_textWidth_58 (by decide) ?_
      exact key _ (by rw [if_neg (Int32.not_lt.mpr h)])
    · refine zr_iconst (v := 2) dX1_textWidth_54 (by decide) ?_
      refine zr_goto (tgt := 59) dX1_textWidth_55 (by decide) ?_
      exact key _ (by rw [if_pos (Int32.not_le.mp h)])
set_option maxHeartbeats 4000000 in
theorem c_X1_textWidth {G : zG} {σ : zT} {d : Nat} {c : zCS} {i : Nat} {least : Bool} (hd : 4 ≤ d) (hG : zOk G) (hw : zGd G σ) (hS : CSys G σ c) (hi : i < kN c) : zCall G I_X1_textWidth d [.ref (kA c (rB i)), .int (bI least)] σ ((fun o σ' => o = .inl (some (.int (cTW (kWd c i) least))) ∧ zX G S0 σ σ' 12)) := by
  refine zCall_of (ls := [(0, .ref (kA c (rB i))), (1, .int (bI least))]) (by decide) (Nat.le_of_ble_eq_true rfl) rfl ?_
  refine zr_iconst (v := 0) dX1_textWidth_0 (by decide) ?_
  refine zr_istore_n (ls2 := [(0, .ref (kA c (rB i))), (1, .int (bI least)), (2, .int 0)]) dX1_textWidth_1 rfl (Nat.le_of_ble_eq_true rfl) rfl ?_
  refine zr_iconst (v := 0) dX1_textWidth_2 (by decide) ?_
  refine zr_istore_n (ls2 := [(0, .ref (kA c (rB i))), (1, .int (bI least)), (2, .int 0), (3, .int 0)]) dX1_textWidth_3 rfl (Nat.le_of_ble_eq_true rfl) rfl ?_
  refine zr_aload_n dX1_textWidth_4 rfl rfl ?_
  refine zr_getN (k := 5) (v := .ref (kA c (rW i))) in_X2 (hS.bx hi) rfl (Nat.le_of_ble_eq_true rfl) q241 (.inl rfl) rfl dX1_textWidth_5 ?_
  refine zr_call51 (rest := []) (zs_F (As := []) (by omega) okF_J2_iterator (by decide +kernel) q829 q832 q834 q56 q836 (.new (hS.wdL hi).choose_spec.choose_spec.choose_spec.1) rfl rfl rfl (Nat.le_of_ble_eq_true rfl) dX1_textWidth_8) (c_J2_iterator (by omega) hw.1 (hS.wdL hi)) ?_
  refine zr_astore (ls2 := [(0, .ref (kA c (rB i))), (1, .int (bI least)), (2, .int 0), (3, .int 0), (4, .ref (sZ σ))]) dX1_textWidth_13 (Nat.le_of_ble_eq_true rfl) rfl ?_
  refine l_X1_textWidth (it := sZ σ) (by omega) hG hw hS hi (Nat.le_refl _) (kWd c i) 0 _ (0, 0) _ rfl (Nat.zero_le _) ((zX.new _ hw _ (by omega) _ _).le (by omega)) (sF_newS _ _ _ _) (fun σ2 h2 => ⟨?_, h2⟩)
  unfold cTW
  rfl
