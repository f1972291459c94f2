/-! ===== the context: layLines, its end (rows printed by tools/p64.py) ===== -/
/-- a list's tags told anew -/
def sRe (σ : zT) (la t : Nat) : zT := (σ.1, fun a => if sT σ a = dT la then t else if sT σ a = dT la + 1 then t + 1 else sT σ a, σ.2.2)
theorem sF_re (σ : zT) (la t : Nat) : sF (sRe σ la t) = sF σ := rfl
theorem sZ_re (σ : zT) (la t : Nat) : sZ (sRe σ la t) = sZ σ := rfl
theorem sL_re (σ : zT) (la t : Nat) : sL (sRe σ la t) = sL σ := rfl
theorem sT_re (σ : zT) (la t a : Nat) : sT (sRe σ la t) a = if sT σ a = dT la then t else if sT σ a = dT la + 1 then t + 1 else sT σ a := rfl
theorem sT_reN {σ : zT} {la t a : Nat} (h : sT σ a < 10000) : sT (sRe σ la t) a = sT σ a := by rw [sT_re, if_neg (by unfold dT; omega), if_neg (by unfold dT; omega)]
theorem zAt.re {G : zG} {σ : zT} {la t a : Nat} {e : va_E} (h : zAt G σ a e) : zAt G (sRe σ la t) a e := h
theorem zL.re {G : zG} {σ : zT} {la t0 t l : Nat} {mod : Int32} {xs : List Nat} (h : zL G σ t l mod xs) (ht : t + 1 < 10000) : zL G (sRe σ la t0) t l mod xs := by
  obtain ⟨arr, cap, f, h1, h2, h3, h4, h5, h6⟩ := h
  refine ⟨arr, cap, f, h1, (sT_reN (by omega)).trans h2, h3, h4, h5, ?_⟩
  rcases h6 with h6 | ⟨h6, h7, h8⟩
  · exact Or.inl h6
  · exact Or.inr ⟨h6, h7, (sT_reN (by omega)).trans h8⟩
theorem zL.reS {G : zG} {σ : zT} {la t : Nat} {mod : Int32} {xs : List Nat} (h : zL G σ (dT la) la mod xs) : zL G (sRe σ la t) t la mod xs := by
  obtain ⟨arr, cap, f, h1, h2, h3, h4, h5, h6⟩ := h
  refine ⟨arr, cap, f, h1, by rw [sT_re, if_pos h2], h3, h4, h5, ?_⟩
  rcases h6 with h6 | ⟨h6, h7, h8⟩
  · exact Or.inl h6
  · exact Or.inr ⟨h6, h7, by rw [sT_re, h8, if_neg (by omega), if_pos rfl]⟩
theorem zX.re {G : zG} {S : Nat → Prop} {σ0 σ : zT} {n la t : Nat} (h : zX G S σ0 σ n) (hw : zGd G σ0) (hla : sZ σ0 ≤ la) (ht : t + 1 < 10000) : zX G S σ0 (sRe σ la t) n := by
  obtain ⟨⟨f1, f2⟩, ⟨g1, g2, g3, g4⟩, ek, m⟩ := h
  refine ⟨⟨f1, fun a ha => ?_⟩, ⟨g1, g2, g3, fun a ha => ?_⟩, fun y hy => ek y hy, m⟩
  · obtain ⟨q1, q2⟩ := f2 a ha
    refine ⟨?_, q2⟩
    have := hw.2.2.2 a ha
    rw [sT_re, q1, if_neg (by unfold dT; omega), if_neg (by unfold dT; omega)]
  · have := g4 a ha
    rw [sT_re, sZ_re]
    split
    · omega
    · split <;> omega
def kSetL (c : zCS) (i la : Nat) (ls : List (Int32 × Int32 × Int32)) : zCS := kULn (kUA c (fun t => if t = rL i then la else kA c t)) (fun a => if a = i then ls else kLn c a)
theorem kA_L {c : zCS} {i la : Nat} {ls : List (Int32 × Int32 × Int32)} {t : Nat} (h : t ≠ rL i) : kA (kSetL c i la ls) t = kA c t := if_neg h
theorem kA_LS (c : zCS) (i la : Nat) (ls : List (Int32 × Int32 × Int32)) : kA (kSetL c i la ls) (rL i) = la := if_pos rfl
theorem KEq.setL (c : zCS) (i la : Nat) (ls : List (Int32 × Int32 × Int32)) : KEq c (kSetL c i la ls) := ⟨fun t _ h => kA_L (by unfold rL; omega), rfl, rfl, rfl, rfl, rfl, fun _ _ _ => rfl, rfl, rfl⟩
theorem kPl_set5 (c : zCS) (i la : Nat) (ls : List (Int32 × Int32 × Int32)) : (kPl c i).set 5 (.ref la) = kPl (kSetL c i la ls) i := by
  unfold kPl
  rw [kA_LS]
  rfl
theorem kBx_L (c : zCS) (i la : Nat) (ls : List (Int32 × Int32 × Int32)) (j : Nat) : kBx (kSetL c i la ls) j = kBx c j := by
  have h : ∀ t, t ≠ rL i → kA (kSetL c i la ls) t = kA c t := fun t ht => kA_L ht
  have hp : kPr (kSetL c i la ls) j = kPr c j := by
    unfold kPr
    show (kPar c j).map _ = _
    cases kPar c j with
    | none => rfl
    | some p => exact congrArg some (h (rB p) (by unfold rB rL; omega))
  unfold kBx
  rw [hp, h (rC j) (by unfold rC rL; omega), h (rW j) (by unfold rW rL; omega), h (rP j) (by unfold rP rL; omega), h 1 (by unfold rL; omega)]
  rfl
theorem kPl_L (c : zCS) (i la : Nat) (ls : List (Int32 × Int32 × Int32)) {j : Nat} (hj : j ≠ i) : kPl (kSetL c i la ls) j = kPl c j := by
  unfold kPl
  rw [kA_L (c := c) (i := i) (la := la) (ls := ls) (t := rL j) (by unfold rL; omega)]
  rfl
/-- the lines of a text are set -/
theorem CSys.setL {G : zG} {σ : zT} {c : zCS} {i la : Nat} {ls : List (Int32 × Int32 × Int32)} (hS : CSys G σ c) (hi : i < kN c) (hLn : LnS G σ la (rO i) ls) : CSys G (sUp (sRe σ la (rL i)) (kA c (rP i)) (.inr (3, kPl (kSetL c i la ls) i))) (kSetL c i la ls) := by
  have hle := hS.le
  have hA : ∀ t, t ≠ rL i → kA (kSetL c i la ls) t = kA c t := fun t ht => kA_L ht
  have hp : sF (sRe σ la (rL i)) (kA c (rP i)) = some (.inr (3, kPl c i)) := hS.pF hi
  have hmap : ∀ l : List Nat, l.map (fun j => kA (kSetL c i la ls) (rB j)) = l.map (fun j => kA c (rB j)) := fun l => List.map_congr_left (fun j _ => hA (rB j) (by unfold rB rL; omega))
  refine ⟨⟨?_, ?_⟩, ?_, fun j hj => ?_, hS.2.2.2⟩
  · rw [hA 1 (by unfold rL; omega), hA 2 (by unfold rL; omega), sF_upN _ _ _ (sF_ne (σ := sRe σ la (rL i)) hS.1.1 hp (zE_ne (by decide)))]; exact hS.1.1
  · rw [hA 1 (by unfold rL; omega)]; exact (sT_reN (by rw [hS.1.2]; omega)).trans hS.1.2
  · rw [hA 2 (by unfold rL; omega), hmap]; exact (hS.2.1.re (by omega)).upO hp (by decide)
  · have hjn : j < kN c := hj
    obtain ⟨⟨b1, b2⟩, b3, b4, ⟨b5, b6⟩, mod, xs, l1, l2, l3⟩ := hS.2.2.1 j hjn
    refine ⟨⟨?_, ?_⟩, ?_, ?_, ⟨?_, ?_⟩, ?_⟩
    · rw [hA (rB j) (by unfold rB rL; omega), kBx_L, sF_upN _ _ _ (sF_ne (σ := sRe σ la (rL i)) b1 hp (zE_ne (by decide)))]; exact b1
    · rw [hA (rB j) (by unfold rB rL; omega)]; exact (sT_reN (by rw [b2]; unfold rB; omega)).trans b2
    · rw [hA (rC j) (by unfold rC rL; omega)]; show zL G _ (rC j) _ (kM c (rC j)) ((kCh c j).map _) ; rw [hmap]; exact (b3.re (by unfold rC; omega)).upO hp (by decide)
    · rw [hA (rW j) (by unfold rW rL; omega)]; exact (b4.re (by unfold rW; omega)).upO hp (by decide)
    · rw [hA (rP j) (by unfold rP rL; omega)]
      by_cases e : j = i
      · subst e; exact sF_upS _ _ _
      · rw [kPl_L c i la ls e, sF_upN _ _ _ (rP_ne hS hjn hi e)]; exact b5
    · rw [hA (rP j) (by unfold rP rL; omega)]; exact (sT_reN (by rw [b6]; unfold rP; omega)).trans b6
    · by_cases e : j = i
      · subst e
        obtain ⟨mod', xs', m1, m2, m3⟩ := hLn
        rw [kA_LS]
        refine ⟨mod', xs', m1.reS.upO hp (by decide), by rw [m2]; exact congrArg List.length (if_pos rfl).symm, fun k q z hq hz => ?_⟩
        have hz' : ls[k]? = some z := by rw [← hz]; exact congrArg (fun l => l[k]?) (if_pos rfl).symm
        obtain ⟨n1, n2⟩ := m3 k q z hq hz'
        exact ⟨by rw [sF_upN _ _ _ (sF_ne (σ := sRe σ la (rL j)) n1 hp (zE_ne (by decide)))]; exact n1, (sT_reN (by rw [n2]; unfold rO; omega)).trans n2⟩
      · have hln : kLn (kSetL c i la ls) j = kLn c j := if_neg e
        rw [hA (rL j) (by unfold rL; omega), hln]
        refine ⟨mod, xs, (l1.re (by unfold rL; omega)).upO hp (by decide), l2, fun k q z hq hz => ?_⟩
        obtain ⟨n1, n2⟩ := l3 k q z hq hz
        exact ⟨by rw [sF_upN _ _ _ (sF_ne (σ := sRe σ la (rL i)) n1 hp (zE_ne (by decide)))]; exact n1, (sT_reN (by rw [n2]; unfold rO; omega)).trans n2⟩

def cLines (c : zCS) (fs : List F5) (i : Nat) (x y : Int32) : zCS :=
  cSH (kULn c (fun a => if a = i then (lyGo fs (kF c i 23) x y (x + kF c i 12) (kInner c i) (25 * (kWd c i).length + 25) (kWd c i) (y + kF c i 12) []).1 else kLn c a)) i
    ((lyGo fs (kF c i 23) x y (x + kF c i 12) (kInner c i) (25 * (kWd c i).length + 25) (kWd c i) (y + kF c i 12) []).2 - y - kF c i 12)
theorem CSys.LyL {G : zG} {σ : zT} {c : zCS} {ly i la : Nat} {chk : Bool} {n : Int32} {ls : List (Int32 × Int32 × Int32)} (h : LY G σ c ly chk n) (hi : i < kN c) (hLn : LnS G σ la (rO i) ls) : LY G (sUp (sRe σ la (rL i)) (kA c (rP i)) (.inr (3, kPl (kSetL c i la ls) i))) (kSetL c i la ls) ly chk n := by
  have hp : sF (sRe σ la (rL i)) (kA c (rP i)) = some (.inr (3, kPl c i)) := h.1.pF hi
  refine ⟨h.1.setL hi hLn, ?_, (sT_reN (by rw [h.2.2]; omega)).trans h.2.2⟩
  rw [sF_upN _ _ _ (sF_ne (σ := sRe σ la (rL i)) h.2.1 hp (zE_ne (by decide))), kA_L (by unfold rL; omega)]
  exact h.2.1
set_option maxHeartbeats 4000000 in
theorem c_X7_layLines {G : zG} {σ : zT} {d i cx ly fa p : Nat} {c : zCS} {n x y : Int32} {chk : Bool} {fs : List F5} (hNx : zNext G) (hd : 13 ≤ d) (hG : zOk G) (hw : zGd G σ) (hY : LY G σ c ly chk n) (hi : i < kN c) (hcx0 : sF σ cx = some (.inr (7, [.ref ly, .ref fa, .ref p]))) (hct : sT σ cx = 0) (hF : FlS G σ fa fs) : zCall G I_X7_layLines d [.ref cx, .ref (kA c (rB i)), .int x, .int y] σ ((fun o σ' => ∃ c', o = .inl none ∧ KEq c c' ∧ kZ c' = cLines (kZ c) fs i x y ∧ LY G σ' c' ly chk n ∧ zX G SC σ σ' (5000 * (kWd c i).length + 6000))) := by
  refine zCall_ofH (ls := [(0, .ref cx), (1, .ref (kA c (rB i))), (2, .int x), (3, .int y)]) (by decide) (Nat.le_of_ble_eq_true rfl) rfl ?_
  have hS := hY.1
  have hcx : zAt G σ cx (.inr (7, [.ref ly, .ref fa, .ref p])) := .new hcx0
  have h20 := (hS.wd hi).1
  refine zr_new (ci := 20) (dT (sZ σ)) zt_J2 q1326 q115 q56 rfl df_J2 dX7_layLines_0 ?_
  refine zr_dup dX7_layLines_3 rfl ?_
  refine zr_callv (rest := [.ref (sZ σ)]) (zs_I (As := []) (by omega) ok_J2_init q1327 q117 q56 q118 rfl rfl rfl (Nat.le_of_ble_eq_true rfl) dX7_layLines_4) (c_J2_init (by omega) hG (sF_newS _ _ _ _)) ?_
  have hXn := zX.new S0 hw (dT (sZ σ)) (by unfold dT; omega) (.inr (20, d0_J2)) 3
  have hX1 : zX G S0 σ (sUp (sNew σ (dT (sZ σ)) (.inr (20, d0_J2)) 3) (sZ σ) (.inr (20, [.int 0, .ref (zc G 0), .int 0]))) (3 + 4) := hXn.upN (sF_newS _ _ _ _) (Nat.le_refl _)
  have hl1 : sF (sUp (sNew σ (dT (sZ σ)) (.inr (20, d0_J2)) 3) (sZ σ) (.inr (20, [.int 0, .ref (zc G 0), .int 0]))) (sZ σ) = some (.inr (20, [.int 0, .ref (zc G 0), .int 0])) := sF_upS _ _ _
  have ht1 : sT (sUp (sNew σ (dT (sZ σ)) (.inr (20, d0_J2)) 3) (sZ σ) (.inr (20, [.int 0, .ref (zc G 0), .int 0]))) (sZ σ) = dT (sZ σ) := (show sT (sNew σ (dT (sZ σ)) (.inr (20, d0_J2)) 3) (sZ σ) = dT (sZ σ) from sT_newS _ _ _ _)
  generalize hσ1 : (sUp (sNew σ (dT (sZ σ)) (.inr (20, d0_J2)) 3) (sZ σ) (.inr (20, [.int 0, .ref (zc G 0), .int 0]))) = σ1 at hX1 hl1 ht1 ⊢
  have hY1 := hY.keep0 hw hX1
  have hS1 := hY1.1
  have hLn1 : LnS G σ1 (sZ σ) (rO i) [] := ⟨0, [], ⟨zc G 0, 0, fun _ => none, hl1, ht1, Nat.le_refl _, by omega, (fun j h => absurd h (Nat.not_lt_zero j)), Or.inl ⟨rfl, rfl, rfl⟩⟩, rfl, fun j q z h _ => by simp at h⟩
  refine zr_astore (ls2 := [(0, .ref cx), (1, .ref (kA c (rB i))), (2, .int x), (3, .int y), (4, .ref (sZ σ))]) dX7_layLines_7 (Nat.le_of_ble_eq_true rfl) rfl ?_
  refine zr_iload_n dX7_layLines_9 rfl rfl ?_
  refine zr_aload_n dX7_layLines_10 rfl rfl ?_
  refine zr_getN (k := 12) (v := .int (kF c i 12)) in_X2 (hS1.bx hi) rfl (Nat.le_of_ble_eq_true rfl) q258 (.inl rfl) rfl dX7_layLines_11 ?_
  refine zr_iadd dX7_layLines_14 ?_
  refine zr_istore (ls2 := [(0, .ref cx), (1, .ref (kA c (rB i))), (2, .int x), (3, .int y), (4, .ref (sZ σ)), (5, .int (y + (kF c i 12)))]) dX7_layLines_15 (Nat.le_of_ble_eq_true rfl) rfl ?_
  refine zr_iconst (v := 0) dX7_layLines_17 (by decide) ?_
  refine zr_istore (ls2 := [(0, .ref cx), (1, .ref (kA c (rB i))), (2, .int x), (3, .int y), (4, .ref (sZ σ)), (5, .int (y + (kF c i 12))), (6, .int 0)]) dX7_layLines_18 (Nat.le_of_ble_eq_true rfl) rfl ?_
  refine l_X7_layLines (N := 5000 * (kWd c i).length + 5010) hNx (by omega) hG hw hS hi hcx hF (Nat.le_refl _) (25 * (kWd c i).length + 25) (kWd c i) 0 7 (y + kF c i 12) [] σ1 rfl (Nat.zero_le _) ?_ (by show 0 + _ ≤ 20; omega) hX1 (by omega) hLn1 (fun σ2 x6 hX2 hLn2 hl20 => ?_)
  · have := nAb_le fs (y + kF c i 12)
    obtain ⟨-, -, -, -, h24, -⟩ := hF
    omega
  have hY2 := hY.keep0 hw hX2
  have hS2 := hY2.1
  refine zr_tag (σ2 := sRe σ2 (sZ σ) (rL i)) rfl rfl rfl ?_
  have hle := hS.le
  have hXr := hX2.re (t := rL i) hw (Nat.le_refl _) (by unfold rL; omega)
  have hY3 := CSys.LyL hY2 hi hLn2
  have hXp : zX G SC (sRe σ2 (sZ σ) (rL i)) (sUp (sRe σ2 (sZ σ) (rL i)) (kA c (rP i)) (.inr (3, kPl (kSetL c i (sZ σ) (lyGo fs (kF c i 23) x y (x + kF c i 12) (kInner c i) (25 * (kWd c i).length + 25) (kWd c i) (y + kF c i 12) []).1) i))) 0 := zX.up hXr.gd (hS2.pF hi) (by rw [sT_reN (by rw [(hS2.2.2.1 i hi).2.2.2.1.2]; unfold rP; omega), (hS2.2.2.1 i hi).2.2.2.1.2]; exact SC_P hle hi)
  have hbi : zAt G (sRe σ2 (sZ σ) (rL i)) (kA c (rB i)) (.inr (2, kBx c i)) := hS2.bx hi
  have hcx2 := hX2.at hw hcx (fun h => h)
  refine zr_aload_n dX7_layLines_113 rfl rfl ?_
  refine zr_getN (k := 24) (v := .ref (kA c (rP i))) in_X2 hbi rfl (Nat.le_of_ble_eq_true rfl) q289 (.inl rfl) rfl dX7_layLines_114 ?_
  refine zr_aload dX7_layLines_117 rfl ?_
  refine zr_putN (k := 5) (fs' := (kPl (kSetL c i (sZ σ) (lyGo fs (kF c i 23) x y (x + kF c i 12) (kInner c i) (25 * (kWd c i).length + 25) (kWd c i) (y + kF c i 12) []).1) i)) zt_X3 (hS2.pF hi) rfl (Nat.le_of_ble_eq_true rfl) q210 (.inl rfl) rfl rfl rfl (Nat.le_of_ble_eq_true rfl) (kPl_set5 _ _ _ _) dX7_layLines_119 ?_
  generalize hσ4 : sUp (sRe σ2 (sZ σ) (rL i)) (kA c (rP i)) (.inr (3, kPl (kSetL c i (sZ σ) (lyGo fs (kF c i 23) x y (x + kF c i 12) (kInner c i) (25 * (kWd c i).length + 25) (kWd c i) (y + kF c i 12) []).1) i)) = σ4 at hY3 hXp ⊢
  have hE3 := KEq.setL c i (sZ σ) (lyGo fs (kF c i 23) x y (x + kF c i 12) (kInner c i) (25 * (kWd c i).length + 25) (kWd c i) (y + kF c i 12) []).1
  have hX4 := (hXr.mono (S2 := SC) (fun _ h => absurd h (fun h => h))).trans hXp
  have hct2 : sT σ2 cx = 0 := (hX2.t hw hcx0).trans hct
  have hcx4 := hXp.at hXr.gd (zAt.re hcx2) (by rw [sT_reN (by rw [hct2]; omega), hct2]; exact SC_0)
  have hS4 := hY3.1
  have hbi4 : zAt G σ4 (kA c (rB i)) (.inr (2, kBx (kSetL c i (sZ σ) (lyGo fs (kF c i 23) x y (x + kF c i 12) (kInner c i) (25 * (kWd c i).length + 25) (kWd c i) (y + kF c i 12) []).1) i)) := hE3.b i ▸ hS4.bx (hE3.nn hi)
  refine zr_aload_n dX7_layLines_122 rfl rfl ?_
  refine zr_get (k := 0) (v := .ref ly) in_X7 hcx4 rfl (Nat.le_of_ble_eq_true rfl) q1328 (.inl rfl) rfl dX7_layLines_123 ?_
  refine zr_aload_n dX7_layLines_126 rfl rfl ?_
  refine zr_iload dX7_layLines_127 rfl ?_
  refine zr_iload_n dX7_layLines_129 rfl rfl ?_
  refine zr_isub dX7_layLines_130 ?_
  refine zr_aload_n dX7_layLines_131 rfl rfl ?_
  refine zr_getN (k := 12) (v := .int (kF c i 12)) in_X2 hbi4 rfl (Nat.le_of_ble_eq_true rfl) q258 (.inl rfl) rfl dX7_layLines_132 ?_
  refine zr_isub dX7_layLines_135 ?_
  obtain ⟨_, σ5, ⟨rfl, hY5, hX5⟩, hC5⟩ := c_X6_setHeight (d := d - 1) (v := (lyGo fs (kF c i 23) x y (x + kF c i 12) (kInner c i) (25 * (kWd c i).length + 25) (kWd c i) (y + kF c i 12) []).2 - y - kF c i 12) (by omega) hX4.gd hY3 (hE3.nn hi)
  have hC5' := zC.at2 (hE3.b i) hC5
  refine zr_callv (rest := []) (zs_VN (As := [.ref (kA c (rB i)), .int (((lyGo fs (kF c i 23) x y (x + kF c i 12) (kInner c i) (25 * (kWd c i).length + 25) (kWd c i) (y + kF c i 12) []).2 - y) - (kF c i 12))]) (by omega) ok_X6_setHeight q1501 q1246 qs18 q83 q1247 hY3.lf rfl rfl rfl (Nat.le_of_ble_eq_true rfl) dX7_layLines_136) hC5' ?_
  exact zr_vret rfl dX7_layLines_139 (⟨_, rfl, hE3.trans (KEq.SH _ _ _), rfl, hY5, (hX4.trans hX5).le (by omega)⟩)
