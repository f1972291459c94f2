/-! ===== the reference: texts (rows printed by tools/p105.py) ===== -/
/-- how many pushes end below a place -/
def nAp : List P5 → Int32 → Nat
  | [], _ => 0
  | z :: r, t => nAp r t + (if t < mLo z.2.2.2.1 z.2.2.2.2 then 1 else 0)
theorem nAp_cons (z : P5) (r : List P5) (t : Int32) : nAp (z :: r) t = nAp r t + (if t < mLo z.2.2.2.1 z.2.2.2.2 then 1 else 0) := rfl
theorem nAp_le (ps : List P5) (t : Int32) : nAp ps t ≤ ps.length := by
  induction ps with
  | nil => exact Nat.le_refl _
  | cons z r ih => rw [nAp_cons, List.length_cons]; split <;> omega
theorem nAp_mono {a b : Int32} (hab : a < b) (ps : List P5) : nAp ps b ≤ nAp ps a := by
  induction ps with
  | nil => exact Nat.le_refl _
  | cons y r ih =>
    rw [nAp_cons, nAp_cons]
    by_cases hy : b < mLo y.2.2.2.1 y.2.2.2.2
    · rw [if_pos hy, if_pos (Int32.lt_trans hab hy)]; omega
    · rw [if_neg hy]; omega
theorem nAp_lt {a b : Int32} (hab : a < b) {z : P5} (e : mLo z.2.2.2.1 z.2.2.2.2 = b) (ps : List P5) (hz : z ∈ ps) : nAp ps b < nAp ps a := by
  have h1 : a < mLo z.2.2.2.1 z.2.2.2.2 := by rw [e]; exact hab
  have h2 : ¬ b < mLo z.2.2.2.1 z.2.2.2.2 := by rw [e]; exact Int32.lt_irrefl
  induction ps with
  | nil => cases hz
  | cons y r ih =>
    rw [nAp_cons, nAp_cons]
    rcases List.mem_cons.mp hz with h | h
    · have := nAp_mono hab r
      rw [← h, if_neg h2, if_pos h1]; omega
    · have := ih h
      by_cases hy : b < mLo y.2.2.2.1 y.2.2.2.2
      · rw [if_pos hy, if_pos (Int32.lt_trans hab hy)]; omega
      · rw [if_neg hy]; omega
theorem mBl_mem (y h : Int32) : ∀ (ps : List P5) (a : Int32), ps.foldl (mBlS y h) a = a ∨ ∃ z, z ∈ ps ∧ mLo z.2.2.2.1 z.2.2.2.2 = ps.foldl (mBlS y h) a := by
  intro ps
  induction ps with
  | nil => intro a; exact Or.inl rfl
  | cons z ps ih =>
    intro a
    rw [List.foldl_cons]
    rcases ih (mBlS y h a z) with e | ⟨x, hx, e⟩
    · by_cases hz : mLies z.2.2.2.1 z.2.2.2.2 y h = true
      · have e1 : mBlS y h a z = imin a (mLo z.2.2.2.1 z.2.2.2.2) := if_pos hz
        by_cases hi : imin a (mLo z.2.2.2.1 z.2.2.2.2) = a
        · left; rw [e, e1, hi]
        · right
          refine ⟨z, List.mem_cons_self .., ?_⟩
          rw [e, e1]
          unfold imin at hi ⊢
          split at hi
          · first | exact absurd rfl hi | (split <;> first | rfl | (exfalso; simp_all))
          · first | (split <;> first | rfl | (exfalso; simp_all)) | exact absurd rfl hi
      · have e1 : mBlS y h a z = a := if_neg hz
        left; rw [e, e1]
    · exact Or.inr ⟨x, List.mem_cons_of_mem _ hx, e⟩
/-- a step down: fewer pushes are left below -/
theorem bel_less {ps : List P5} {t h : Int32} (hb : t < mBelow ps t h) : nAp ps (mBelow ps t h) < nAp ps t := by
  unfold mBelow at hb ⊢
  by_cases e : ps.foldl (mBlS t h) 2147483647 = 2147483647
  · rw [if_pos e] at hb; exact absurd hb Int32.lt_irrefl
  · rw [if_neg e] at hb ⊢
    rcases mBl_mem t h ps 2147483647 with e2 | ⟨z, hz, e2⟩
    · exact absurd e2 e
    · exact nAp_lt hb e2 ps hz
def mTx (ps : List P5) (al x y lf rt : Int32) : Nat → List Int32 → Int32 → Int32 → List (Int32 × Int32 × Int32) → List (Int32 × Int32 × Int32) × Int32
  | 0, _, _, e, acc => (acc, e)
  | _ + 1, [], _, e, acc => (acc, e)
  | f + 1, w0 :: r, top, e, acc =>
    if mRight ps rt top 10 - mLeft ps lf top 10 < w0 ∧ top < mBelow ps top 10 then mTx ps al x y lf rt f (w0 :: r) (mBelow ps top 10) e acc
    else mTx ps al x y lf rt f ((w0 :: r).drop (lnGo (mRight ps rt top 10 - mLeft ps lf top 10) r w0 1).2) (top + 10) (top + 10)
      (acc ++ [(mLeft ps lf top 10 + lnShift al (imax 0 (mRight ps rt top 10 - mLeft ps lf top 10 - (lnGo (mRight ps rt top 10 - mLeft ps lf top 10) r w0 1).1)) - x, top - y, nI (lnGo (mRight ps rt top 10 - mLeft ps lf top 10) r w0 1).2)])
def mTxt (c : zCS) (ps : List P5) (i : Nat) (x y : Int32) : List (Int32 × Int32 × Int32) × Int32 :=
  mTx ps (kF c i 23) x y (x + kF c i 12) (x + kF c i 12 + kInner c i) (25 * (kWd c i).length + 25) (kWd c i) (y + kF c i 12) (y + kF c i 12) []
def mSL (c : zCS) (i : Nat) (ls : List (Int32 × Int32 × Int32)) : zCS := kULn c (fun a => if a = i then ls else kLn c a)
abbrev SLn (i : Nat) : Nat → Prop := fun s => s = 1000 + rL i ∨ s = 1000 + rL i + 1
theorem MSys.setLn {G : zG} {σ σ1 : zT} {c : zCS} {th ct : Int32} {i n : Nat} {ls : List (Int32 × Int32 × Int32)} (hS : MSys G σ c th ct) (hw : zGd G σ) (hX : zX G (SLn i) σ σ1 n) (hl : mLn G σ1 (1000 + rL i) (1000 + rO i) (kA c (rL i)) ls) : MSys G σ1 (mSL c i ls) th ct := by
  obtain ⟨⟨a1, a2⟩, a3, a4, a5⟩ := hS
  refine ⟨⟨hX.f hw a1 (by show ¬ SLn i (sT σ (kA c 1)); rw [a2]; unfold SLn rL; omega), (hX.t hw a1).trans a2⟩, hX.L hw a3 (by unfold SLn rL; omega) (by unfold SLn rL; omega), fun j hj => ?_, a5⟩
  obtain ⟨⟨b1, b2⟩, b3, b4, b7⟩ := a4 j hj
  refine ⟨⟨hX.f hw b1 (by show ¬ SLn i (sT σ (kA c (rB j))); rw [b2]; unfold SLn rL rB; omega), (hX.t hw b1).trans b2⟩, hX.L hw b3 (by unfold SLn rL rC; omega) (by unfold SLn rL rC; omega), hX.L hw b4 (by unfold SLn rL rW; omega) (by unfold SLn rL rW; omega), ?_⟩
  show mLn G σ1 (1000 + rL j) (1000 + rO j) (kA c (rL j)) (if j = i then ls else kLn c j)
  by_cases e : j = i
  · subst e; rw [if_pos rfl]; exact hl
  · rw [if_neg e]
    exact mLn.keep hX hw b7 (by unfold SLn rL; omega) (by unfold SLn rL; omega) (by unfold SLn rL rO; omega)
theorem SLn_M {N i s : Nat} (h : N ≤ 24) (hi : i < N) (hs : SLn i s) : SM s := by
  unfold SLn rL at hs
  exact ⟨by omega, by omega⟩
theorem mLn.add {G : zG} {σ σ2 : zT} {t o l n q : Nat} {mod : Int32} {xs : List Nat} {ls : List (Int32 × Int32 × Int32)} {z : Int32 × Int32 × Int32} (hw : zGd G σ) (hX : zX G (fun s => s = t ∨ s = t + 1) σ σ2 n) (ho : o ≠ t ∧ o ≠ t + 1) (hlen : xs.length = ls.length) (hls : ∀ (j q : Nat) (z : Int32 × Int32 × Int32), xs[j]? = some q → ls[j]? = some z → sF σ q = some (.inr (14, [.int z.2.2, .int z.1, .int z.2.1])) ∧ sT σ q = o)
    (hq : sF σ q = some (.inr (14, [.int z.2.2, .int z.1, .int z.2.1])) ∧ sT σ q = o) (hL : zL G σ2 t l mod (xs ++ [q])) : mLn G σ2 t o l (ls ++ [z]) := by
  refine ⟨_, _, hL, by rw [List.length_append, List.length_append, hlen]; rfl, fun j p u hp hu => ?_⟩
  have ht : ∀ p, sF σ p = some (.inr (14, [.int u.2.2, .int u.1, .int u.2.1])) ∧ sT σ p = o → sF σ2 p = some (.inr (14, [.int u.2.2, .int u.1, .int u.2.1])) ∧ sT σ2 p = o := fun p ⟨m1, m2⟩ => ⟨hX.f hw m1 (by rw [m2]; exact fun h => h.elim ho.1 ho.2), (hX.t hw m1).trans m2⟩
  by_cases hj : j < xs.length
  · rw [List.getElem?_append_left hj] at hp
    rw [List.getElem?_append_left (by omega)] at hu
    exact ht p (hls j p u hp hu)
  · have hj1 : j = xs.length := by
      have := (List.getElem?_eq_some_iff.mp hp).1
      rw [List.length_append, List.length_singleton] at this
      omega
    subst hj1
    rw [List.getElem?_append_right (Nat.le_refl _), Nat.sub_self] at hp
    rw [hlen, List.getElem?_append_right (Nat.le_refl _), Nat.sub_self] at hu
    cases hp
    cases hu
    exact ht q hq
set_option maxHeartbeats 4000000 in
theorem c_X4_innerB {G : zG} {σ : zT} {d : Nat} {c : zCS} {i : Nat} (hd : 1 ≤ d) (hb : zAt G σ (kA c (rB i)) (.inr (5, mBx c i))) : zC G I_X4_inner d [.ref (kA c (rB i))] σ (.inl (some (.int (kInner c i)))) σ := by
  refine zCall.exact (zCall_of (ls := [(0, .ref (kA c (rB i)))]) (by decide) (Nat.le_of_ble_eq_true rfl) rfl ?_)
  refine zr_iconst (v := 0) dX4_inner_0 (by decide) ?_
  refine zr_aload_n dX4_inner_1 rfl rfl ?_
  refine zr_get (k := 29) (v := .int (kP c i 2)) in_X5 hb rfl (Nat.le_of_ble_eq_true rfl) q2151 (.inl rfl) rfl dX4_inner_2 ?_
  refine zr_iconst (v := 2) dX4_inner_5 (by decide) ?_
  refine zr_aload_n dX4_inner_6 rfl rfl ?_
  refine zr_get (k := 13) (v := .int (kF c i 12)) in_X5 hb rfl (Nat.le_of_ble_eq_true rfl) q2119 (.inl rfl) rfl dX4_inner_7 ?_
  refine zr_imul dX4_inner_10 ?_
  refine zr_isub dX4_inner_11 ?_
  refine zr_max (by omega) q2329 q376 q60 q377 (Nat.le_of_ble_eq_true rfl) dX4_inner_12 ?_
  exact zr_iret rfl rfl dX4_inner_15 (⟨rfl, rfl⟩)
set_option maxHeartbeats 4000000 in
theorem l_X4_word {G : zG} {σ1 : zT} {d : Nat} {c : zCS} {i fa k : Nat} {x y lf rt top e fr bt : Int32} {Q : zO → zT → Prop} (hd : 8 ≤ d) (hG : zOk G) (hwd : (kWd c i).length ≤ 20 ∧ ∀ v, v ∈ kWd c i → ∃ n, 1 ≤ n ∧ n ≤ 60 ∧ v = nI n) (hb1 : zAt G σ1 (kA c (rB i)) (.inr (5, mBx c i))) (hW1 : zL G σ1 (1000 + rW i) (kA c (rW i)) (kM c (rW i)) ((kWd c i).map (zbx G))) : ∀ (ys : List Int32) (m : Nat) (us : Int32), (kWd c i).drop (k + m) = ys → k + m ≤ (kWd c i).length → zR G yX4_text cX4_text 15 (Option.some Jvm.ClassFile.FieldType.int) [] d 218 [(0, .ref (kA c (rB i))), (1, .int x), (2, .int y), (3, .ref fa), (4, .int lf), (5, .int rt), (6, .int top), (7, .int e), (8, .int (nI k)), (9, .int fr), (10, .int bt), (11, .int (lnGo bt ys us m).1), (12, .int (nI (lnGo bt ys us m).2))] [] σ1 Q → zR G yX4_text cX4_text 15 (Option.some Jvm.ClassFile.FieldType.int) [] d 144 [(0, .ref (kA c (rB i))), (1, .int x), (2, .int y), (3, .ref fa), (4, .int lf), (5, .int rt), (6, .int top), (7, .int e), (8, .int (nI k)), (9, .int fr), (10, .int bt), (11, .int us), (12, .int (nI m))] [] σ1 Q := by
  obtain ⟨flw, hflw⟩ := hW1.A
  intro ys
  induction ys with
  | nil =>
    intro m us hy hk kQ
    have hkl := drop_nil hy hk
    refine zr_iload dX4_text_144 rfl ?_
    refine zr_iload dX4_text_146 rfl ?_
    refine zr_iadd dX4_text_148 ?_
    refine zr_eqi (z := (nI (k + m))) (nI_add _ _) ?_
    refine zr_aload_n dX4_text_149 rfl rfl ?_
    refine zr_get (k := 5) (v := .ref (kA c (rW i))) in_X5 hb1 rfl (Nat.le_of_ble_eq_true rfl) q2103 (.inl rfl) rfl dX4_text_150 ?_
    refine zr_call1 (rest := [.int (nI (k + m))]) (zs_V (As := []) (by omega) ok_J2_size q2246 q164 q2839 q56 q166 rfl hflw rfl rfl rfl (Nat.le_of_ble_eq_true rfl) dX4_text_153) (c_size (m := (kWd c i).length) (by omega) hW1 (List.length_map _)) ?_
    refine zr_icmp_ge (tgt := 218) dX4_text_156 (by decide) (fun _ => ?_) (fun h9 => absurd (by rw [hkl]; exact Int32.le_refl _) h9)
    exact kQ
  | cons v ys ih =>
    intro m us hy hk kQ
    obtain ⟨hx, hy2, hkl, hm⟩ := drop_cons hy
    obtain ⟨n, hn1, hn2, rfl⟩ := hwd.2 v hm
    refine zr_iload dX4_text_144 rfl ?_
    refine zr_iload dX4_text_146 rfl ?_
    refine zr_iadd dX4_text_148 ?_
    refine zr_eqi (z := (nI (k + m))) (nI_add _ _) ?_
    refine zr_aload_n dX4_text_149 rfl rfl ?_
    refine zr_get (k := 5) (v := .ref (kA c (rW i))) in_X5 hb1 rfl (Nat.le_of_ble_eq_true rfl) q2103 (.inl rfl) rfl dX4_text_150 ?_
    refine zr_call1 (rest := [.int (nI (k + m))]) (zs_V (As := []) (by omega) ok_J2_size q2246 q164 q2839 q56 q166 rfl hflw rfl rfl rfl (Nat.le_of_ble_eq_true rfl) dX4_text_153) (c_size (m := (kWd c i).length) (by omega) hW1 (List.length_map _)) ?_
    refine zr_icmp_ge (tgt := 218) dX4_text_156 (by decide) (fun h9 => absurd h9 (Int32.not_le.mpr ((nI_ltI (by omega) (by omega)).mpr hkl))) (fun _ => ?_)
    refine zr_iload dX4_text_159 rfl ?_
    refine zr_iconst (v := 2) dX4_text_161 (by decide) ?_
    refine zr_iadd dX4_text_162 ?_
    refine zr_aload_n dX4_text_163 rfl rfl ?_
    refine zr_get (k := 5) (v := .ref (kA c (rW i))) in_X5 hb1 rfl (Nat.le_of_ble_eq_true rfl) q2103 (.inl rfl) rfl dX4_text_164 ?_
    refine zr_iload dX4_text_167 rfl ?_
    refine zr_iload dX4_text_169 rfl ?_
    refine zr_iadd dX4_text_171 ?_
    refine zr_eqi (z := (nI (k + m))) (nI_add _ _) ?_
    refine zr_call1 (rest := [.int (us + 2)]) (zs_V (As := [.int (nI (k + m))]) (by omega) ok_J2_get q2250 q959 q2840 q56 q960 rfl hflw rfl rfl rfl (Nat.le_of_ble_eq_true rfl) dX4_text_172) (c_J2_get (by omega) hG hW1 (map_at (zbx G) hx)) ?_
    refine zr_castS (zbx_at hG _ (by omega)) rfl q2327 dX4_text_175 ?_
    refine zr_call1 (rest := [.int (us + 2)]) (zs_V (As := []) (by omega) ok_J18_intValue q2328 q1155 q1156 q75 q1157 rfl (zbx_at hG _ (by omega)) rfl rfl rfl (Nat.le_of_ble_eq_true rfl) dX4_text_178) (c_J18_intValue (zbx_at hG _ (by omega))) ?_
    refine zr_iadd dX4_text_181 ?_
    refine zr_iload dX4_text_182 rfl ?_
    refine zr_icmp_gt (tgt := 218) dX4_text_184 (by decide) (fun h1 => ?_) (fun h1 => ?_)
    · rw [show lnGo bt (nI n :: ys) us m = (us, m) from if_neg (Int32.not_le.mpr h1)] at kQ
      exact kQ
    · rw [show lnGo bt (nI n :: ys) us m = lnGo bt ys (us + (2 + nI n)) (m + 1) from if_pos (Int32.not_lt.mp h1)] at kQ
      refine zr_iload dX4_text_187 rfl ?_
      refine zr_iconst (v := 2) dX4_text_189 (by decide) ?_
      refine zr_aload_n dX4_text_190 rfl rfl ?_
      refine zr_get (k := 5) (v := .ref (kA c (rW i))) in_X5 hb1 rfl (Nat.le_of_ble_eq_true rfl) q2103 (.inl rfl) rfl dX4_text_191 ?_
      refine zr_iload dX4_text_194 rfl ?_
      refine zr_iload dX4_text_196 rfl ?_
      refine zr_iadd dX4_text_198 ?_
      refine zr_eqi (z := (nI (k + m))) (nI_add _ _) ?_
      refine zr_call1 (rest := [.int 2, .int us]) (zs_V (As := [.int (nI (k + m))]) (by omega) ok_J2_get q2250 q959 q2840 q56 q960 rfl hflw rfl rfl rfl (Nat.le_of_ble_eq_true rfl) dX4_text_199) (c_J2_get (by omega) hG hW1 (map_at (zbx G) hx)) ?_
      refine zr_castS (zbx_at hG _ (by omega)) rfl q2327 dX4_text_202 ?_
      refine zr_call1 (rest := [.int 2, .int us]) (zs_V (As := []) (by omega) ok_J18_intValue q2328 q1155 q1156 q75 q1157 rfl (zbx_at hG _ (by omega)) rfl rfl rfl (Nat.le_of_ble_eq_true rfl) dX4_text_205) (c_J18_intValue (zbx_at hG _ (by omega))) ?_
      refine zr_iadd dX4_text_208 ?_
      refine zr_iadd dX4_text_209 ?_
      refine zr_istore (ls2 := [(0, .ref (kA c (rB i))), (1, .int x), (2, .int y), (3, .ref fa), (4, .int lf), (5, .int rt), (6, .int top), (7, .int e), (8, .int (nI k)), (9, .int fr), (10, .int bt), (11, .int (us + (2 + (nI n)))), (12, .int (nI m))]) dX4_text_210 (Nat.le_of_ble_eq_true rfl) rfl ?_
      refine zr_iinc (v := nI m + 1) (ls2 := [(0, .ref (kA c (rB i))), (1, .int x), (2, .int y), (3, .ref fa), (4, .int lf), (5, .int rt), (6, .int top), (7, .int e), (8, .int (nI k)), (9, .int fr), (10, .int bt), (11, .int (us + (2 + (nI n)))), (12, .int (nI m + 1))]) dX4_text_212 rfl rfl (Nat.le_of_ble_eq_true rfl) rfl ?_
      rw [show nI m + 1 = nI (m + 1) from nI_1 m]
      refine zr_goto (tgt := 144) dX4_text_215 (by decide) ?_
      exact ih (m + 1) _ (by rw [← Nat.add_assoc]; exact hy2) (by omega) kQ
set_option maxHeartbeats 4000000 in
theorem l_X4_text {G : zG} {σ : zT} {d : Nat} {c : zCS} {th ct : Int32} {i fa N : Nat} {x y lf rt : Int32} {ps : List P5} {Q : zO → zT → Prop} (hd : 12 ≤ d) (hG : zOk G) (hw : zGd G σ) (hS : MSys G σ c th ct) (hi : i < kN c) (hPs : PsS G σ fa ps) : ∀ (f k n : Nat) (top e : Int32) (acc : List (Int32 × Int32 × Int32)) (σ1 : zT), k ≤ (kWd c i).length → 25 * ((kWd c i).length - k) + nAp ps top < f → acc.length ≤ k → zX G (SLn i) σ σ1 n → n + 100 * f ≤ N → mLn G σ1 (1000 + rL i) (1000 + rO i) (kA c (rL i)) acc → (∀ σ2 e2 k2 top2, zX G (SLn i) σ σ2 N → mLn G σ2 (1000 + rL i) (1000 + rO i) (kA c (rL i)) (mTx ps (kF c i 23) x y lf rt f ((kWd c i).drop k) top e acc).1 → e2 = (mTx ps (kF c i 23) x y lf rt f ((kWd c i).drop k) top e acc).2 → zR G yX4_text cX4_text 15 (Option.some Jvm.ClassFile.FieldType.int) [] d 307 [(0, .ref (kA c (rB i))), (1, .int x), (2, .int y), (3, .ref fa), (4, .int lf), (5, .int rt), (6, .int top2), (7, .int e2), (8, .int k2)] [] σ2 Q) → zR G yX4_text cX4_text 15 (Option.some Jvm.ClassFile.FieldType.int) [] d 39 [(0, .ref (kA c (rB i))), (1, .int x), (2, .int y), (3, .ref fa), (4, .int lf), (5, .int rt), (6, .int top), (7, .int e), (8, .int (nI k))] [] σ1 Q := by
  have hwd := hS.wd hi
  have hle := hS.le
  have hps24 : ps.length ≤ 24 := by obtain ⟨_, _, _, _, h, _⟩ := hPs; exact h
  intro f
  induction f with
  | zero => intro k n top e acc σ1 hk h; omega
  | succ f ih =>
    intro k n top e acc σ1 hk hf ha hX hN hLn kQ
    have hb1 : zAt G σ1 (kA c (rB i)) (.inr (5, mBx c i)) := hX.at hw (hS.bx hi) (by rw [(hS.2.2.1 i hi).1.2]; unfold SLn rL rB; omega)
    have hW1 := hX.L hw (hS.wdL hi) (by unfold SLn rL rW; omega) (by unfold SLn rL rW; omega)
    have hPs1 := hPs.keep hw hX (by unfold SLn rL dT; omega) (by unfold SLn rL dT; omega) (by unfold SLn rL; omega)
    obtain ⟨flw, hflw⟩ := hW1.A
    cases hd0 : (kWd c i).drop k with
    | nil =>
      have hkl := drop_nil hd0 hk
      rw [hd0] at kQ
      refine zr_iload dX4_text_39 rfl ?_
      refine zr_aload_n dX4_text_41 rfl rfl ?_
      refine zr_get (k := 5) (v := .ref (kA c (rW i))) in_X5 hb1 rfl (Nat.le_of_ble_eq_true rfl) q2103 (.inl rfl) rfl dX4_text_42 ?_
      refine zr_call1 (rest := [.int (nI k)]) (zs_V (As := []) (by omega) ok_J2_size q2246 q164 q2839 q56 q166 rfl hflw rfl rfl rfl (Nat.le_of_ble_eq_true rfl) dX4_text_45) (c_size (m := (kWd c i).length) (by omega) hW1 (List.length_map _)) ?_
      refine zr_icmp_ge (tgt := 307) dX4_text_48 (by decide) (fun _ => ?_) (fun h9 => absurd (by rw [hkl]; exact Int32.le_refl _) h9)
      exact kQ σ1 _ _ _ (hX.le (by omega)) hLn rfl
    | cons w0 r =>
      obtain ⟨hx, hy2, hkl, hm⟩ := drop_cons hd0
      rw [hd0] at kQ
      obtain ⟨n0, hn1, hn2, rfl⟩ := hwd.2 w0 hm
      obtain ⟨_, σa, ⟨rfl, hXa⟩, hCa⟩ := c_X4_leftEdge (e := lf) (y := top) (h := 10) (d := d - 1) (by omega) hG hX.gd hPs1
      obtain ⟨_, σb, ⟨rfl, hXb⟩, hCb⟩ := c_X4_rightEdge (e := rt) (y := top) (h := 10) (d := d - 1) (by omega) hG hXa.gd (hPs1.keep0 hX.gd hXa)
      have hXab := hXa.trans hXb
      have hb2 := hXab.at hX.gd hb1 (fun h => h)
      have hW2 := hXab.L hX.gd hW1 (fun h => h) (fun h => h)
      have hPs2 := hPs1.keep0 hX.gd hXab
      obtain ⟨flw2, hflw2⟩ := hW2.A
      obtain ⟨fr, hfr⟩ : ∃ z, z = mLeft ps lf top 10 := ⟨_, rfl⟩
      obtain ⟨bt, hbt⟩ : ∃ z, z = mRight ps rt top 10 - fr := ⟨_, rfl⟩
      refine zr_iload dX4_text_39 rfl ?_
      refine zr_aload_n dX4_text_41 rfl rfl ?_
      refine zr_get (k := 5) (v := .ref (kA c (rW i))) in_X5 hb1 rfl (Nat.le_of_ble_eq_true rfl) q2103 (.inl rfl) rfl dX4_text_42 ?_
      refine zr_call1 (rest := [.int (nI k)]) (zs_V (As := []) (by omega) ok_J2_size q2246 q164 q2839 q56 q166 rfl hflw rfl rfl rfl (Nat.le_of_ble_eq_true rfl) dX4_text_45) (c_size (m := (kWd c i).length) (by omega) hW1 (List.length_map _)) ?_
      refine zr_icmp_ge (tgt := 307) dX4_text_48 (by decide) (fun h9 => absurd h9 (Int32.not_le.mpr ((nI_ltI (by omega) (by omega)).mpr hkl))) (fun _ => ?_)
      refine zr_aload_n dX4_text_51 rfl rfl ?_
      refine zr_iload dX4_text_52 rfl ?_
      refine zr_iload dX4_text_54 rfl ?_
      refine zr_bipush (v := 10) dX4_text_56 (by decide) ?_
      refine zr_call1 (rest := []) (zs_S (As := [.ref fa, .int lf, .int top, .int 10]) (by omega) ok_X4_leftEdge q2418 q2419 q77 q2420 rfl rfl (Nat.le_of_ble_eq_true rfl) dX4_text_58) hCa ?_
      rw [← hfr]
      refine zr_istore (ls2 := [(0, .ref (kA c (rB i))), (1, .int x), (2, .int y), (3, .ref fa), (4, .int lf), (5, .int rt), (6, .int top), (7, .int e), (8, .int (nI k)), (9, .int fr)]) dX4_text_61 (Nat.le_of_ble_eq_true rfl) rfl ?_
      refine zr_aload_n dX4_text_63 rfl rfl ?_
      refine zr_iload dX4_text_64 rfl ?_
      refine zr_iload dX4_text_66 rfl ?_
      refine zr_bipush (v := 10) dX4_text_68 (by decide) ?_
      refine zr_call1 (rest := []) (zs_S (As := [.ref fa, .int rt, .int top, .int 10]) (by omega) ok_X4_rightEdge q2396 q2397 q77 q2398 rfl rfl (Nat.le_of_ble_eq_true rfl) dX4_text_70) hCb ?_
      refine zr_iload dX4_text_73 rfl ?_
      refine zr_isub dX4_text_75 ?_
      rw [← hbt]
      have hW1 := hW2
      refine zr_istore (ls2 := [(0, .ref (kA c (rB i))), (1, .int x), (2, .int y), (3, .ref fa), (4, .int lf), (5, .int rt), (6, .int top), (7, .int e), (8, .int (nI k)), (9, .int fr), (10, .int bt)]) dX4_text_76 (Nat.le_of_ble_eq_true rfl) rfl ?_
      refine zr_aload_n dX4_text_78 rfl rfl ?_
      refine zr_get (k := 5) (v := .ref (kA c (rW i))) in_X5 hb2 rfl (Nat.le_of_ble_eq_true rfl) q2103 (.inl rfl) rfl dX4_text_79 ?_
      refine zr_iload dX4_text_82 rfl ?_
      refine zr_call1 (rest := []) (zs_V (As := [.int (nI k)]) (by omega) ok_J2_get q2250 q959 q2840 q56 q960 rfl hflw2 rfl rfl rfl (Nat.le_of_ble_eq_true rfl) dX4_text_84) (c_J2_get (by omega) hG hW1 (map_at (zbx G) hx)) ?_
      refine zr_castS (zbx_at hG _ (by omega)) rfl q2327 dX4_text_87 ?_
      refine zr_call1 (rest := []) (zs_V (As := []) (by omega) ok_J18_intValue q2328 q1155 q1156 q75 q1157 rfl (zbx_at hG _ (by omega)) rfl rfl rfl (Nat.le_of_ble_eq_true rfl) dX4_text_90) (c_J18_intValue (zbx_at hG _ (by omega))) ?_
      refine zr_iload dX4_text_93 rfl ?_
      have hmt : mTx ps (kF c i 23) x y lf rt (f + 1) (nI n0 :: r) top e acc = if bt < nI n0 ∧ top < mBelow ps top 10 then mTx ps (kF c i 23) x y lf rt f (nI n0 :: r) (mBelow ps top 10) e acc
        else mTx ps (kF c i 23) x y lf rt f ((nI n0 :: r).drop (lnGo bt r (nI n0) 1).2) (top + 10) (top + 10) (acc ++ [(fr + lnShift (kF c i 23) (imax 0 (bt - (lnGo bt r (nI n0) 1).1)) - x, top - y, nI (lnGo bt r (nI n0) 1).2)]) := by rw [hbt, hfr]; rfl
      have key124 : ∀ (σc : zT) (nc : Nat), zX G S0 σb σc nc → nc ≤ 16 → ¬ (bt < nI n0 ∧ top < mBelow ps top 10) → zR G yX4_text cX4_text 15 (Option.some Jvm.ClassFile.FieldType.int) [] d 124 [(0, .ref (kA c (rB i))), (1, .int x), (2, .int y), (3, .ref fa), (4, .int lf), (5, .int rt), (6, .int top), (7, .int e), (8, .int (nI k)), (9, .int fr), (10, .int bt)] [] σc Q := by
        intro σc nc hXc hnc hno
        rw [hmt, if_neg hno] at kQ
        have hXbc := hXab.trans hXc
        have hb3 := hXbc.at hX.gd hb1 (fun h => h)
        have hW1 := hXbc.L hX.gd (hX.L hw (hS.wdL hi) (by unfold SLn rL rW; omega) (by unfold SLn rL rW; omega)) (fun h => h) (fun h => h)
        have hLn3 := mLn.keep hXbc hX.gd hLn (fun h => h) (fun h => h) (fun h => h)
        obtain ⟨flw3, hflw3⟩ := hW1.A
        obtain ⟨mod, xs, l1, l2, l3⟩ := hLn3
        obtain ⟨fll3, hfll3⟩ := l1.A
        obtain ⟨us, hus⟩ : ∃ z, z = (lnGo bt r (nI n0) 1).1 := ⟨_, rfl⟩
        obtain ⟨mm, hmm⟩ : ∃ z, z = (lnGo bt r (nI n0) 1).2 := ⟨_, rfl⟩
        have hlm := lnGo_m bt r (nI n0) 1
        have hrl : r.length + k + 1 = (kWd c i).length := by
          have := congrArg List.length hd0
          rw [List.length_drop, List.length_cons] at this
          omega
        rw [← hmm] at hlm
        rw [← hus, ← hmm] at kQ
        refine zr_aload_n dX4_text_124 rfl rfl ?_
        refine zr_get (k := 5) (v := .ref (kA c (rW i))) in_X5 hb3 rfl (Nat.le_of_ble_eq_true rfl) q2103 (.inl rfl) rfl dX4_text_125 ?_
        refine zr_iload dX4_text_128 rfl ?_
        refine zr_call1 (rest := []) (zs_V (As := [.int (nI k)]) (by omega) ok_J2_get q2250 q959 q2840 q56 q960 rfl hflw3 rfl rfl rfl (Nat.le_of_ble_eq_true rfl) dX4_text_130) (c_J2_get (by omega) hG hW1 (map_at (zbx G) hx)) ?_
        refine zr_castS (zbx_at hG _ (by omega)) rfl q2327 dX4_text_133 ?_
        refine zr_call1 (rest := []) (zs_V (As := []) (by omega) ok_J18_intValue q2328 q1155 q1156 q75 q1157 rfl (zbx_at hG _ (by omega)) rfl rfl rfl (Nat.le_of_ble_eq_true rfl) dX4_text_136) (c_J18_intValue (zbx_at hG _ (by omega))) ?_
        refine zr_istore (ls2 := [(0, .ref (kA c (rB i))), (1, .int x), (2, .int y), (3, .ref fa), (4, .int lf), (5, .int rt), (6, .int top), (7, .int e), (8, .int (nI k)), (9, .int fr), (10, .int bt), (11, .int (nI n0))]) dX4_text_139 (Nat.le_of_ble_eq_true rfl) rfl ?_
        refine zr_iconst (v := 1) dX4_text_141 (by decide) ?_
        refine zr_istore (ls2 := [(0, .ref (kA c (rB i))), (1, .int x), (2, .int y), (3, .ref fa), (4, .int lf), (5, .int rt), (6, .int top), (7, .int e), (8, .int (nI k)), (9, .int fr), (10, .int bt), (11, .int (nI n0)), (12, .int 1)]) dX4_text_142 (Nat.le_of_ble_eq_true rfl) rfl ?_
        refine l_X4_word (by omega) hG hwd hb3 hW1 r 1 (nI n0) hy2 (by omega) ?_
        rw [← hus, ← hmm]
        show zR G yX4_text cX4_text 15 (Option.some Jvm.ClassFile.FieldType.int) [] d 218 [(0, .ref (kA c (rB i))), (1, .int x), (2, .int y), (3, .ref fa), (4, .int lf), (5, .int rt), (6, .int top), (7, .int e), (8, .int (nI k)), (9, .int fr), (10, .int bt), (11, .int us), (12, .int (nI mm))] [] σc Q
        refine zr_iconst (v := 0) dX4_text_218 (by decide) ?_
        refine zr_iload dX4_text_219 rfl ?_
        refine zr_iload dX4_text_221 rfl ?_
        refine zr_isub dX4_text_223 ?_
        refine zr_max (by omega) q2329 q376 q60 q377 (Nat.le_of_ble_eq_true rfl) dX4_text_224 ?_
        refine zr_istore (ls2 := [(0, .ref (kA c (rB i))), (1, .int x), (2, .int y), (3, .ref fa), (4, .int lf), (5, .int rt), (6, .int top), (7, .int e), (8, .int (nI k)), (9, .int fr), (10, .int bt), (11, .int us), (12, .int (nI mm)), (13, .int (imax 0 (bt - us)))]) dX4_text_227 (Nat.le_of_ble_eq_true rfl) rfl ?_
        have key260 : ∀ z : Int32, z = lnShift (kF c i 23) (imax 0 (bt - us)) → zR G yX4_text cX4_text 15 (Option.some Jvm.ClassFile.FieldType.int) [] d 260 [(0, .ref (kA c (rB i))), (1, .int x), (2, .int y), (3, .ref fa), (4, .int lf), (5, .int rt), (6, .int top), (7, .int e), (8, .int (nI k)), (9, .int fr), (10, .int bt), (11, .int us), (12, .int (nI mm)), (13, .int (imax 0 (bt - us)))] [.int z] σc Q := by
          intro z hz
          rw [← hz] at kQ
          refine zr_istore (ls2 := [(0, .ref (kA c (rB i))), (1, .int x), (2, .int y), (3, .ref fa), (4, .int lf), (5, .int rt), (6, .int top), (7, .int e), (8, .int (nI k)), (9, .int fr), (10, .int bt), (11, .int us), (12, .int (nI mm)), (13, .int (imax 0 (bt - us))), (14, .int z)]) dX4_text_260 (Nat.le_of_ble_eq_true rfl) rfl ?_
          refine zr_aload_n dX4_text_262 rfl rfl ?_
          refine zr_get (k := 6) (v := .ref (kA c (rL i))) in_X5 hb3 rfl (Nat.le_of_ble_eq_true rfl) q2105 (.inl rfl) rfl dX4_text_263 ?_
          refine zr_new (ci := 14) (1000 + rO i) zt_X14 q2481 q2482 q99 rfl df_X14 dX4_text_266 ?_
          refine zr_dup dX4_text_269 rfl ?_
          refine zr_iload dX4_text_270 rfl ?_
          refine zr_iload dX4_text_272 rfl ?_
          refine zr_iload dX4_text_274 rfl ?_
          refine zr_iadd dX4_text_276 ?_
          refine zr_iload_n dX4_text_277 rfl rfl ?_
          refine zr_isub dX4_text_278 ?_
          refine zr_iload dX4_text_279 rfl ?_
          refine zr_iload_n dX4_text_281 rfl rfl ?_
          refine zr_isub dX4_text_282 ?_
          refine zr_callv (rest := [.ref (sZ σc), .ref (kA c (rL i))]) (zs_IN (As := [.int (nI mm), .int ((fr + z) - x), .int (top - y)]) (by omega) ok_X14_init q2483 q2484 q99 q2485 rfl rfl rfl (Nat.le_of_ble_eq_true rfl) dX4_text_283) (c_X14_init (by omega) (sF_newS _ _ _ _)) ?_
          have hXn := zX.new S0 (hXbc.gd) (1000 + rO i) (by unfold rO; omega) (.inr (14, d0_X14)) 3
          have hXu : zX G S0 σc (sUp (sNew σc (1000 + rO i) (.inr (14, d0_X14)) 3) (sZ σc) (.inr (14, [.int (nI mm), .int (fr + z - x), .int (top - y)]))) 7 := hXn.upN (sF_newS _ _ _ _) (Nat.le_refl _)
          have hqf : sF (sUp (sNew σc (1000 + rO i) (.inr (14, d0_X14)) 3) (sZ σc) (.inr (14, [.int (nI mm), .int (fr + z - x), .int (top - y)]))) (sZ σc) = some (.inr (14, [.int (nI mm), .int (fr + z - x), .int (top - y)])) := sF_upS _ _ _
          have hqt : sT (sUp (sNew σc (1000 + rO i) (.inr (14, d0_X14)) 3) (sZ σc) (.inr (14, [.int (nI mm), .int (fr + z - x), .int (top - y)]))) (sZ σc) = 1000 + rO i := (show sT (sNew σc (1000 + rO i) (.inr (14, d0_X14)) 3) (sZ σc) = 1000 + rO i from sT_newS _ _ _ _)
          generalize hσd : sUp (sNew σc (1000 + rO i) (.inr (14, d0_X14)) 3) (sZ σc) (.inr (14, [.int (nI mm), .int (fr + z - x), .int (top - y)])) = σd at hXu hqf hqt ⊢
          generalize hq : sZ σc = q at hqf hqt ⊢
          have lD := hXu.L hXbc.gd l1 (fun h => h) (fun h => h)
          obtain ⟨fll4, hfll4⟩ := lD.A
          have hls4 : ∀ (j q : Nat) (z : Int32 × Int32 × Int32), xs[j]? = some q → acc[j]? = some z → sF σd q = some (.inr (14, [.int z.2.2, .int z.1, .int z.2.1])) ∧ sT σd q = 1000 + rO i := fun j q z hq hz => by
            obtain ⟨m1, m2⟩ := l3 j q z hq hz
            exact ⟨hXu.f hXbc.gd m1 (fun h => h), (hXu.t hXbc.gd m1).trans m2⟩
          have hel : ∀ y9 : Nat, (∃ fs, zAt G σd y9 (.inr (14, fs))) → zEl G σd y9 := fun y9 ⟨fs, h⟩ => ⟨_, _, _, _, _, h, rfl, q2873⟩
          obtain ⟨_, σe, ⟨rfl, hLe, hXe⟩, hCe⟩ := c_add (d := d - 1) (x := q) (by omega) hG hXu.gd lD (by omega) (hel _ ⟨_, .new hqf⟩) (fun y9 hy9 => by
            obtain ⟨j9, hj9⟩ := List.mem_iff_getElem?.mp hy9
            have hlt : j9 < acc.length := by rw [← l2]; exact (List.getElem?_eq_some_iff.mp hj9).1
            exact hel _ ⟨_, .new (hls4 j9 y9 _ hj9 (List.getElem?_eq_getElem hlt)).1⟩)
          refine zr_call1 (rest := []) (zs_V (As := [.ref q]) (by omega) ok_J2_add q2217 q357 q2838 q56 q359 rfl hfll4 rfl rfl rfl (Nat.le_of_ble_eq_true rfl) dX4_text_286) hCe ?_
          refine zr_pop dX4_text_289 rfl ?_
          refine zr_iload dX4_text_290 rfl ?_
          refine zr_iload dX4_text_292 rfl ?_
          refine zr_iadd dX4_text_294 ?_
          refine zr_eqi (z := (nI (k + mm))) (nI_add _ _) ?_
          refine zr_istore (ls2 := [(0, .ref (kA c (rB i))), (1, .int x), (2, .int y), (3, .ref fa), (4, .int lf), (5, .int rt), (6, .int top), (7, .int e), (8, .int (nI (k + mm))), (9, .int fr), (10, .int bt), (11, .int us), (12, .int (nI mm)), (13, .int (imax 0 (bt - us))), (14, .int z)]) dX4_text_295 (Nat.le_of_ble_eq_true rfl) rfl ?_
          refine zr_iinc (v := top + 10) (ls2 := [(0, .ref (kA c (rB i))), (1, .int x), (2, .int y), (3, .ref fa), (4, .int lf), (5, .int rt), (6, .int (top + 10)), (7, .int e), (8, .int (nI (k + mm))), (9, .int fr), (10, .int bt), (11, .int us), (12, .int (nI mm)), (13, .int (imax 0 (bt - us))), (14, .int z)]) dX4_text_297 rfl rfl (Nat.le_of_ble_eq_true rfl) rfl ?_
          refine zr_iload dX4_text_300 rfl ?_
          refine zr_istore (ls2 := [(0, .ref (kA c (rB i))), (1, .int x), (2, .int y), (3, .ref fa), (4, .int lf), (5, .int rt), (6, .int (top + 10)), (7, .int (top + 10)), (8, .int (nI (k + mm))), (9, .int fr), (10, .int bt), (11, .int us), (12, .int (nI mm)), (13, .int (imax 0 (bt - us))), (14, .int z)]) dX4_text_302 (Nat.le_of_ble_eq_true rfl) rfl ?_
          refine zr_goto (tgt := 39) dX4_text_304 (by decide) ?_
          refine zr_sub (ls2 := [(0, .ref (kA c (rB i))), (1, .int x), (2, .int y), (3, .ref fa), (4, .int lf), (5, .int rt), (6, .int (top + 10)), (7, .int (top + 10)), (8, .int (nI (k + mm)))]) [0, 1, 2, 3, 4, 5, 6, 7, 8] rfl ?_
          have hXfin : zX G (SLn i) σ σe _ := (hX.trans (hXbc.in)).trans (hXu.in.trans hXe)
          have hLn5 := mLn.add (z := (fr + z - x, top - y, nI mm)) hXu.gd hXe (by unfold rO rL; omega) l2 hls4 ⟨hqf, hqt⟩ hLe
          have hdr : (nI n0 :: r).drop mm = (kWd c i).drop (k + mm) := by rw [← hd0, List.drop_drop]
          rw [hdr] at kQ
          have h24 := nAp_le ps (top + 10)
          exact ih (k + mm) _ _ _ _ σe (by omega) (by omega) (by rw [List.length_append, List.length_singleton]; omega) hXfin (by omega) hLn5 kQ
        refine zr_aload_n dX4_text_229 rfl rfl ?_
        refine zr_get (k := 23) (v := .int (kF c i 23)) in_X5 hb3 rfl (Nat.le_of_ble_eq_true rfl) q2139 (.inl rfl) rfl dX4_text_230 ?_
        refine zr_bipush (v := 108) dX4_text_233 (by decide) ?_
        refine zr_icmp_ne (tgt := 242) dX4_text_235 (by decide) (fun h1 => ?_) (fun h1 => ?_)
        · refine zr_aload_n dX4_text_242 rfl rfl ?_
          refine zr_get (k := 23) (v := .int (kF c i 23)) in_X5 hb3 rfl (Nat.le_of_ble_eq_true rfl) q2139 (.inl rfl) rfl dX4_text_243 ?_
          refine zr_bipush (v := 99) dX4_text_246 (by decide) ?_
          refine zr_icmp_ne (tgt := 258) dX4_text_248 (by decide) (fun h2 => ?_) (fun h2 => ?_)
          · refine zr_iload dX4_text_258 rfl ?_
            exact key260 _ (by unfold lnShift; rw [if_neg h1, if_neg h2])
          · refine zr_iload dX4_text_251 rfl ?_
            refine zr_iconst (v := 2) dX4_text_253 (by decide) ?_
            refine zr_idiv dX4_text_254 (by decide) ?_
            refine zr_goto (tgt := 260) dX4_text_255 (by decide) ?_
            exact key260 _ (by unfold lnShift; rw [if_neg h1, if_pos (by first | exact h2 | exact Decidable.not_not.mp h2)])
        · refine zr_iconst (v := 0) dX4_text_238 (by decide) ?_
          refine zr_goto (tgt := 260) dX4_text_239 (by decide) ?_
          exact key260 _ (by unfold lnShift; rw [if_pos (by first | exact h1 | exact Decidable.not_not.mp h1)])
      refine zr_icmp_le (tgt := 124) dX4_text_95 (by decide) (fun h1 => ?_) (fun h1 => ?_)
      · exact key124 σb 0 (zX.rf _ hXab.gd 0) (by omega) (fun h => by first | exact absurd h.1 (Int32.not_lt.mpr h1) | exact h1 h.1)
      · obtain ⟨_, σc, ⟨rfl, hXc⟩, hCc⟩ := c_X4_below (y := top) (h := 10) (d := d - 1) (by omega) hG hXab.gd hPs2
        have hPs3 := hPs2.keep0 hXab.gd hXc
        refine zr_aload_n dX4_text_98 rfl rfl ?_
        refine zr_iload dX4_text_99 rfl ?_
        refine zr_bipush (v := 10) dX4_text_101 (by decide) ?_
        refine zr_call1 (rest := []) (zs_S (As := [.ref fa, .int top, .int 10]) (by omega) ok_X4_below q2425 q2426 q77 q2427 rfl rfl (Nat.le_of_ble_eq_true rfl) dX4_text_103) hCc ?_
        refine zr_iload dX4_text_106 rfl ?_
        refine zr_icmp_le (tgt := 124) dX4_text_108 (by decide) (fun h2 => ?_) (fun h2 => ?_)
        · exact key124 σc 8 hXc (by omega) (fun h => by first | exact absurd h.2 (Int32.not_lt.mpr h2) | exact h2 h.2)
        · have hlow : top < mBelow ps top 10 := by first | exact h2 | exact Int32.not_le.mp h2
          have hlt9 := bel_less hlow
          obtain ⟨_, σd, ⟨rfl, hXd⟩, hCd⟩ := c_X4_below (y := top) (h := 10) (d := d - 1) (by omega) hG hXc.gd hPs3
          rw [hmt, if_pos ⟨by first | exact h1 | exact Int32.not_le.mp h1, hlow⟩, ← hd0] at kQ
          refine zr_aload_n dX4_text_111 rfl rfl ?_
          refine zr_iload dX4_text_112 rfl ?_
          refine zr_bipush (v := 10) dX4_text_114 (by decide) ?_
          refine zr_call1 (rest := []) (zs_S (As := [.ref fa, .int top, .int 10]) (by omega) ok_X4_below q2425 q2426 q77 q2427 rfl rfl (Nat.le_of_ble_eq_true rfl) dX4_text_116) hCd ?_
          refine zr_istore (ls2 := [(0, .ref (kA c (rB i))), (1, .int x), (2, .int y), (3, .ref fa), (4, .int lf), (5, .int rt), (6, .int (mBelow ps top 10)), (7, .int e), (8, .int (nI k)), (9, .int fr), (10, .int bt)]) dX4_text_119 (Nat.le_of_ble_eq_true rfl) rfl ?_
          refine zr_goto (tgt := 39) dX4_text_121 (by decide) ?_
          refine zr_sub (ls2 := [(0, .ref (kA c (rB i))), (1, .int x), (2, .int y), (3, .ref fa), (4, .int lf), (5, .int rt), (6, .int (mBelow ps top 10)), (7, .int e), (8, .int (nI k))]) [0, 1, 2, 3, 4, 5, 6, 7, 8] rfl ?_
          have hXall := (hXab.trans hXc).trans hXd
          exact ih k _ _ _ _ σd hk (by omega) ha (hX.trans hXall.in) (by omega) (mLn.keep hXall hX.gd hLn (fun h => h) (fun h => h) (fun h => h)) kQ
set_option maxHeartbeats 4000000 in
theorem c_X4_text {G : zG} {σ : zT} {d : Nat} {c : zCS} {th ct : Int32} {i fa : Nat} {x y : Int32} {ps : List P5} (hd : 14 ≤ d) (hG : zOk G) (hw : zGd G σ) (hS : MSys G σ c th ct) (hi : i < kN c) (hPs : PsS G σ fa ps) : zCall G I_X4_text d [.ref (kA c (rB i)), .int x, .int y, .ref fa] σ ((fun o σ' => o = .inl (some (.int ((mTxt c ps i x y).2 - y + kF c i 12))) ∧ MSys G σ' (mSL c i (mTxt c ps i x y).1) th ct ∧ PsS G σ' fa ps ∧ zX G SM σ σ' (2500 * (kWd c i).length + 2600))) := by
  refine zCall_of (ls := [(0, .ref (kA c (rB i))), (1, .int x), (2, .int y), (3, .ref fa)]) (by decide) (Nat.le_of_ble_eq_true rfl) rfl ?_
  have hle := hS.le
  have hwd := hS.wd hi
  have hps24 : ps.length ≤ 24 := by obtain ⟨_, _, _, _, h, _⟩ := hPs; exact h
  obtain ⟨mo, xs, l1, l2, l3⟩ := (hS.2.2.1 i hi).2.2.2
  obtain ⟨fll, hfll⟩ := l1.A
  obtain ⟨_, σ1, ⟨rfl, hL1, hX1⟩, hC1⟩ := c_J2_clear (d := d - 1) (by omega) hG hw l1
  have hX1' : zX G (SLn i) σ σ1 0 := hX1
  refine zr_aload_n dX4_text_0 rfl rfl ?_
  refine zr_get (k := 6) (v := .ref (kA c (rL i))) in_X5 (hS.bx hi) rfl (Nat.le_of_ble_eq_true rfl) q2105 (.inl rfl) rfl dX4_text_1 ?_
  refine zr_callv (rest := []) (zs_V (As := []) (by omega) ok_J2_clear q2477 q2478 q2479 q56 q2480 rfl hfll rfl rfl rfl (Nat.le_of_ble_eq_true rfl) dX4_text_4) hC1 ?_
  have hb1 : zAt G σ1 (kA c (rB i)) (.inr (5, mBx c i)) := hX1.at hw (hS.bx hi) (by rw [(hS.2.2.1 i hi).1.2]; unfold rL rB; omega)
  have hin1 : zC G I_X4_inner (d - 1) [.ref (kA c (rB i))] σ1 (.inl (some (.int (kInner c i)))) σ1 := c_X4_innerB (by omega) hb1
  refine zr_iload_n dX4_text_7 rfl rfl ?_
  refine zr_aload_n dX4_text_8 rfl rfl ?_
  refine zr_get (k := 13) (v := .int (kF c i 12)) in_X5 hb1 rfl (Nat.le_of_ble_eq_true rfl) q2119 (.inl rfl) rfl dX4_text_9 ?_
  refine zr_iadd dX4_text_12 ?_
  refine zr_istore (ls2 := [(0, .ref (kA c (rB i))), (1, .int x), (2, .int y), (3, .ref fa), (4, .int (x + (kF c i 12)))]) dX4_text_13 (Nat.le_of_ble_eq_true rfl) rfl ?_
  refine zr_iload dX4_text_15 rfl ?_
  refine zr_aload_n dX4_text_17 rfl rfl ?_
  refine zr_call1 (rest := [.int (x + (kF c i 12))]) (zs_S (As := [.ref (kA c (rB i))]) (by omega) ok_X4_inner q2361 q2362 q77 q2363 rfl rfl (Nat.le_of_ble_eq_true rfl) dX4_text_18) hin1 ?_
  refine zr_iadd dX4_text_21 ?_
  refine zr_istore (ls2 := [(0, .ref (kA c (rB i))), (1, .int x), (2, .int y), (3, .ref fa), (4, .int (x + (kF c i 12))), (5, .int ((x + (kF c i 12)) + (kInner c i)))]) dX4_text_22 (Nat.le_of_ble_eq_true rfl) rfl ?_
  refine zr_iload_n dX4_text_24 rfl rfl ?_
  refine zr_aload_n dX4_text_25 rfl rfl ?_
  refine zr_get (k := 13) (v := .int (kF c i 12)) in_X5 hb1 rfl (Nat.le_of_ble_eq_true rfl) q2119 (.inl rfl) rfl dX4_text_26 ?_
  refine zr_iadd dX4_text_29 ?_
  refine zr_istore (ls2 := [(0, .ref (kA c (rB i))), (1, .int x), (2, .int y), (3, .ref fa), (4, .int (x + (kF c i 12))), (5, .int ((x + (kF c i 12)) + (kInner c i))), (6, .int (y + (kF c i 12)))]) dX4_text_30 (Nat.le_of_ble_eq_true rfl) rfl ?_
  refine zr_iload dX4_text_32 rfl ?_
  refine zr_istore (ls2 := [(0, .ref (kA c (rB i))), (1, .int x), (2, .int y), (3, .ref fa), (4, .int (x + (kF c i 12))), (5, .int ((x + (kF c i 12)) + (kInner c i))), (6, .int (y + (kF c i 12))), (7, .int (y + (kF c i 12)))]) dX4_text_34 (Nat.le_of_ble_eq_true rfl) rfl ?_
  refine zr_iconst (v := 0) dX4_text_36 (by decide) ?_
  refine zr_istore (ls2 := [(0, .ref (kA c (rB i))), (1, .int x), (2, .int y), (3, .ref fa), (4, .int (x + (kF c i 12))), (5, .int ((x + (kF c i 12)) + (kInner c i))), (6, .int (y + (kF c i 12))), (7, .int (y + (kF c i 12))), (8, .int 0)]) dX4_text_37 (Nat.le_of_ble_eq_true rfl) rfl ?_
  refine l_X4_text (σ := σ) (N := 2500 * (kWd c i).length + 2600) (by omega) hG hw hS hi hPs (25 * (kWd c i).length + 25) 0 0 _ _ [] σ1 (Nat.zero_le _) (by have := nAp_le ps (y + kF c i 12); omega) (Nat.zero_le _) hX1' (by omega) ⟨_, [], hL1, rfl, fun j q z h => by cases h⟩ (fun σ2 e2 k2 top2 hX2 hLn2 he2 => ?_)
  have hb2 : zAt G σ2 (kA c (rB i)) (.inr (5, mBx c i)) := hX2.at hw (hS.bx hi) (by rw [(hS.2.2.1 i hi).1.2]; unfold SLn rL rB; omega)
  have hS2 := hS.setLn hw hX2 hLn2
  have e9 : e2 = (mTxt c ps i x y).2 := he2
  rw [e9]
  show zR G yX4_text cX4_text 15 (Option.some Jvm.ClassFile.FieldType.int) [] d 307 [(0, .ref (kA c (rB i))), (1, .int x), (2, .int y), (3, .ref fa), (4, .int (x + kF c i 12)), (5, .int (x + kF c i 12 + kInner c i)), (6, .int top2), (7, .int (mTxt c ps i x y).2), (8, .int k2)] [] σ2 _
  refine zr_iload dX4_text_307 rfl ?_
  refine zr_iload_n dX4_text_309 rfl rfl ?_
  refine zr_isub dX4_text_310 ?_
  refine zr_aload_n dX4_text_311 rfl rfl ?_
  refine zr_get (k := 13) (v := .int (kF c i 12)) in_X5 hb2 rfl (Nat.le_of_ble_eq_true rfl) q2119 (.inl rfl) rfl dX4_text_312 ?_
  refine zr_iadd dX4_text_315 ?_
  exact zr_iret rfl rfl dX4_text_316 (⟨rfl, hS2, hPs.keep hw hX2 (by unfold SLn rL dT; omega) (by unfold SLn rL dT; omega) (by unfold SLn rL; omega), hX2.mono (fun s hs => SLn_M hle hi hs)⟩)
