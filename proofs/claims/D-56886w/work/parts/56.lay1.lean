/-! ===== the layout: its state; setHeight, stretch, put; leaves of the records (rows printed by tools/p56.py) ===== -/
/-- the same boxes: all but the addresses of Placed and of the lists of lines, the kept widths, what is placed and the lines -/
def KEq (c c' : zCS) : Prop := (∀ t, t % 16 ≠ 6 → t % 16 ≠ 8 → kA c' t = kA c t) ∧ kN c' = kN c ∧ kM c' = kM c ∧ kPar c' = kPar c ∧ kCh c' = kCh c ∧ kWd c' = kWd c ∧ (∀ i k, k ≠ 25 → kF c' i k = kF c i k) ∧ kLw c' = kLw c ∧ kCt c' = kCt c
theorem KEq.rf (c : zCS) : KEq c c := ⟨fun _ _ _ => rfl, rfl, rfl, rfl, rfl, rfl, fun _ _ _ => rfl, rfl, rfl⟩
theorem KEq.trans {a b c : zCS} (h : KEq a b) (g : KEq b c) : KEq a c := by
  obtain ⟨h1, h2, h3, h4, h5, h6, h7, h8, h9⟩ := h
  obtain ⟨g1, g2, g3, g4, g5, g6, g7, g8, g9⟩ := g
  exact ⟨fun t p q => (g1 t p q).trans (h1 t p q), g2.trans h2, g3.trans h3, g4.trans h4, g5.trans h5, g6.trans h6, fun i k hk => (g7 i k hk).trans (h7 i k hk), g8.trans h8, g9.trans h9⟩
theorem KEq.b {c c' : zCS} (h : KEq c c') (i : Nat) : kA c' (rB i) = kA c (rB i) := h.1 _ (by unfold rB; omega) (by unfold rB; omega)
theorem KEq.rc {c c' : zCS} (h : KEq c c') (i : Nat) : kA c' (rC i) = kA c (rC i) := h.1 _ (by unfold rC; omega) (by unfold rC; omega)
theorem KEq.rw {c c' : zCS} (h : KEq c c') (i : Nat) : kA c' (rW i) = kA c (rW i) := h.1 _ (by unfold rW; omega) (by unfold rW; omega)
theorem KEq.one {c c' : zCS} (h : KEq c c') : kA c' 1 = kA c 1 := h.1 1 (by omega) (by omega)
theorem KEq.two {c c' : zCS} (h : KEq c c') : kA c' 2 = kA c 2 := h.1 2 (by omega) (by omega)
theorem KEq.n {c c' : zCS} (h : KEq c c') : kN c' = kN c := h.2.1
theorem KEq.m {c c' : zCS} (h : KEq c c') (t : Nat) : kM c' t = kM c t := congrFun h.2.2.1 t
theorem KEq.par {c c' : zCS} (h : KEq c c') (i : Nat) : kPar c' i = kPar c i := congrFun h.2.2.2.1 i
theorem KEq.ch {c c' : zCS} (h : KEq c c') (i : Nat) : kCh c' i = kCh c i := congrFun h.2.2.2.2.1 i
theorem KEq.wd {c c' : zCS} (h : KEq c c') (i : Nat) : kWd c' i = kWd c i := congrFun h.2.2.2.2.2.1 i
theorem KEq.f {c c' : zCS} (h : KEq c c') (i k : Nat) (hk : k ≠ 25) : kF c' i k = kF c i k := h.2.2.2.2.2.2.1 i k hk
theorem KEq.setP (c : zCS) (i k : Nat) (v : Int32) : KEq c (kSetP c i k v) := ⟨fun _ _ _ => rfl, rfl, rfl, rfl, rfl, rfl, fun _ _ _ => rfl, rfl, rfl⟩
theorem KEq.setF (c : zCS) (i : Nat) (v : Int32) : KEq c (kSetF c i 25 v) := ⟨fun _ _ _ => rfl, rfl, rfl, rfl, rfl, rfl, fun a k hk => by
  show up2 (kF c) i 25 v a k = kF c a k
  by_cases h : a = i
  · subst h; exact up2_b _ _ _ hk
  · exact up2_a _ _ _ _ h, rfl, rfl⟩
theorem KEq.chN {G : zG} {σ : zT} {c c' : zCS} (h : KEq c c') {i : Nat} (hi : i < kN c) : i < kN c' := by rw [h.n]; exact hi
theorem zC.at1 {G : zG} {I : zI} {d x y : Nat} {as : List Value} {σ σ' : zT} {o : zO} (hx : x = y) (h : zC G I d (.ref x :: as) σ o σ') : zC G I d (.ref y :: as) σ o σ' := hx ▸ h
/-- no addresses -/
def kZ (c : zCS) : zCS := kUA c (fun _ => 0)
/-- the store holds the component and a layout of it under way -/
def LY (G : zG) (σ : zT) (c : zCS) (ly : Nat) (chk : Bool) (n : Int32) : Prop := CSys G σ c ∧ sF σ ly = some (.inr (6, [.int (bI chk), .int n, .ref (kA c 1)])) ∧ sT σ ly = 5
theorem LY.setP {G : zG} {σ : zT} {c : zCS} {ly : Nat} {chk : Bool} {n : Int32} (h : LY G σ c ly chk n) {i : Nat} (hi : i < kN c) (k : Nat) (v : Int32) : LY G (sUp σ (kA c (rP i)) (.inr (3, kPl (kSetP c i k v) i))) (kSetP c i k v) ly chk n :=
  ⟨h.1.setP hi v, by rw [sF_upN _ _ _ (sF_ne h.2.1 (h.1.pF hi) (zE_ne (by decide)))]; exact h.2.1, h.2.2⟩
theorem LY.setF {G : zG} {σ : zT} {c : zCS} {ly : Nat} {chk : Bool} {n : Int32} (h : LY G σ c ly chk n) {i : Nat} (hi : i < kN c) (v : Int32) : LY G (sUp σ (kA c (rB i)) (.inr (2, kBx (kSetF c i 25 v) i))) (kSetF c i 25 v) ly chk n :=
  ⟨h.1.setF hi v (h.1.2.2.2.setF i trivial), by rw [sF_upN _ _ _ (sF_ne h.2.1 (h.1.bF hi) (zE_ne (by decide)))]; exact h.2.1, h.2.2⟩
theorem LY.cnt {G : zG} {σ : zT} {c : zCS} {ly : Nat} {chk : Bool} {n : Int32} (h : LY G σ c ly chk n) (m : Int32) : LY G (sUp σ ly (.inr (6, [.int (bI chk), .int m, .ref (kA c 1)]))) c ly chk m := by
  refine ⟨h.1.upO h.2.1 (by decide) (by decide) rfl rfl rfl rfl rfl rfl h.1.2.2.2 ?_ (fun j hj => ?_) (fun j hj => ?_), sF_upS _ _ _, h.2.2⟩
  · rw [sF_upN _ _ _ (sF_ne h.1.1.1 h.2.1 (zE_ne (by decide)))]; exact h.1.1.1
  · rw [sF_upN _ _ _ (sF_ne (h.1.bF hj) h.2.1 (zE_ne (by decide)))]; exact h.1.bF hj
  · rw [sF_upN _ _ _ (sF_ne (h.1.pF hj) h.2.1 (zE_ne (by decide)))]; exact h.1.pF hj
theorem LY.XC {G : zG} {σ : zT} {c : zCS} {ly : Nat} {chk : Bool} {n : Int32} (h : LY G σ c ly chk n) (hw : zGd G σ) (gs : List Value) : zX G SC σ (sUp σ ly (.inr (6, gs))) 0 := zX.up hw h.2.1 (by rw [h.2.2]; exact ⟨by omega, by omega⟩)
theorem LY.keep {G : zG} {S : Nat → Prop} {σ σ1 : zT} {n : Nat} {c : zCS} {ly : Nat} {chk : Bool} {m : Int32} (h : LY G σ c ly chk m) (hw : zGd G σ) (hX : zX G S σ σ1 n) (hs : ∀ s, 1 ≤ s → s < 1000 → ¬ S s) : LY G σ1 c ly chk m :=
  ⟨h.1.keep hw hX hs, hX.f hw h.2.1 (by rw [h.2.2]; exact hs 5 (by omega) (by omega)), (hX.t hw h.2.1).trans h.2.2⟩
theorem LY.keep0 {G : zG} {σ σ1 : zT} {n : Nat} {c : zCS} {ly : Nat} {chk : Bool} {m : Int32} (h : LY G σ c ly chk m) (hw : zGd G σ) (hX : zX G S0 σ σ1 n) : LY G σ1 c ly chk m := h.keep hw hX (fun _ _ _ h => h)
theorem LY.lf {G : zG} {σ : zT} {c : zCS} {ly : Nat} {chk : Bool} {n : Int32} (h : LY G σ c ly chk n) : zAt G σ ly (.inr (6, [.int (bI chk), .int n, .ref (kA c 1)])) := .new h.2.1
def cSH (c : zCS) (i : Nat) (v : Int32) : zCS := kSetP c i 3 (if kF c i 7 = -1 then v + 2 * kF c i 12 else kF c i 7)
def cStr (c : zCS) (i : Nat) (v : Int32) : zCS := if kF c i 7 = -1 then kSetP c i 3 (imax (kP c i 3) (v - kEnds c i)) else c
def cPut (c : zCS) (i : Nat) (x y : Int32) : zCS := kSetP (kSetP c i 0 (x + kF c i 10)) i 1 (y + kUpper c i)
theorem KEq.SH (c : zCS) (i : Nat) (v : Int32) : KEq c (cSH c i v) := KEq.setP _ _ _ _
theorem KEq.Str (c : zCS) (i : Nat) (v : Int32) : KEq c (cStr c i v) := by
  unfold cStr
  split
  · exact KEq.setP _ _ _ _
  · exact KEq.rf _
theorem KEq.Put (c : zCS) (i : Nat) (x y : Int32) : KEq c (cPut c i x y) := (KEq.setP _ _ _ _).trans (KEq.setP _ _ _ _)

set_option maxHeartbeats 4000000 in
theorem c_X6_setHeight {G : zG} {σ : zT} {d : Nat} {c : zCS} {ly i : Nat} {chk : Bool} {n : Int32} {v : Int32} (hd : 1 ≤ d) (hw : zGd G σ) (hL : LY G σ c ly chk n) (hi : i < kN c) : zCall G I_X6_setHeight d [.ref ly, .ref (kA c (rB i)), .int v] σ ((fun o σ' => o = .inl none ∧ LY G σ' (cSH c i v) ly chk n ∧ zX G SC σ σ' 0)) := by
  refine zCall_of (ls := [(0, .ref ly), (1, .ref (kA c (rB i))), (2, .int v)]) (by decide) (Nat.le_of_ble_eq_true rfl) rfl ?_
  have hS := hL.1
  refine zr_aload_n dX6_setHeight_0 rfl rfl ?_
  refine zr_getN (k := 24) (v := .ref (kA c (rP i))) in_X2 (hS.bx hi) rfl (Nat.le_of_ble_eq_true rfl) q290 (.inl rfl) rfl dX6_setHeight_1 ?_
  refine zr_aload_n dX6_setHeight_4 rfl rfl ?_
  refine zr_getN (k := 7) (v := .int (kF c i 7)) in_X2 (hS.bx hi) rfl (Nat.le_of_ble_eq_true rfl) q246 (.inl rfl) rfl dX6_setHeight_5 ?_
  refine zr_iconst (v := (-1)) dX6_setHeight_8 (by decide) ?_
  refine zr_icmp_ne (tgt := 23) dX6_setHeight_9 (by decide) (fun h1 => ?_) (fun h1 => ?_)
  · refine zr_aload_n dX6_setHeight_23 rfl rfl ?_
    refine zr_getN (k := 7) (v := .int (kF c i 7)) in_X2 (hS.bx hi) rfl (Nat.le_of_ble_eq_true rfl) q246 (.inl rfl) rfl dX6_setHeight_24 ?_
    refine zr_putN (k := 3) (fs' := (kPl (kSetP c i 3 (kF c i 7)) i)) zt_X3 (hS.pF hi) rfl (Nat.le_of_ble_eq_true rfl) q204 (.inl rfl) rfl rfl rfl (Nat.le_of_ble_eq_true rfl) (kPl_set3 _ _ _) dX6_setHeight_27 ?_
    have e1 : cSH c i v = kSetP c i 3 (kF c i 7) := by unfold cSH; rw [if_neg h1]
    exact zr_vret rfl dX6_setHeight_30 (⟨rfl, e1 ▸ hL.setP hi 3 _, hS.XP hw hi _⟩)
  · refine zr_iload_n dX6_setHeight_12 rfl rfl ?_
    refine zr_iconst (v := 2) dX6_setHeight_13 (by decide) ?_
    refine zr_aload_n dX6_setHeight_14 rfl rfl ?_
    refine zr_getN (k := 12) (v := .int (kF c i 12)) in_X2 (hS.bx hi) rfl (Nat.le_of_ble_eq_true rfl) q259 (.inl rfl) rfl dX6_setHeight_15 ?_
    refine zr_imul dX6_setHeight_18 ?_
    refine zr_iadd dX6_setHeight_19 ?_
    refine zr_goto (tgt := 27) dX6_setHeight_20 (by decide) ?_
    refine zr_putN (k := 3) (fs' := (kPl (kSetP c i 3 (v + 2 * kF c i 12)) i)) zt_X3 (hS.pF hi) rfl (Nat.le_of_ble_eq_true rfl) q204 (.inl rfl) rfl rfl rfl (Nat.le_of_ble_eq_true rfl) (kPl_set3 _ _ _) dX6_setHeight_27 ?_
    have e1 : cSH c i v = kSetP c i 3 (v + 2 * kF c i 12) := by unfold cSH; rw [if_pos h1]
    exact zr_vret rfl dX6_setHeight_30 (⟨rfl, e1 ▸ hL.setP hi 3 _, hS.XP hw hi _⟩)
set_option maxHeartbeats 4000000 in
theorem c_X6_stretch {G : zG} {σ : zT} {d : Nat} {c : zCS} {ly i : Nat} {chk : Bool} {n : Int32} {v : Int32} (hd : 10 ≤ d) (hw : zGd G σ) (hL : LY G σ c ly chk n) (hi : i < kN c) : zCall G I_X6_stretch d [.ref ly, .ref (kA c (rB i)), .int v] σ ((fun o σ' => o = .inl none ∧ LY G σ' (cStr c i v) ly chk n ∧ zX G SC σ σ' 0)) := by
  refine zCall_of (ls := [(0, .ref ly), (1, .ref (kA c (rB i))), (2, .int v)]) (by decide) (Nat.le_of_ble_eq_true rfl) rfl ?_
  have hS := hL.1
  refine zr_aload_n dX6_stretch_0 rfl rfl ?_
  refine zr_getN (k := 7) (v := .int (kF c i 7)) in_X2 (hS.bx hi) rfl (Nat.le_of_ble_eq_true rfl) q246 (.inl rfl) rfl dX6_stretch_1 ?_
  refine zr_iconst (v := (-1)) dX6_stretch_4 (by decide) ?_
  refine zr_icmp_ne (tgt := 31) dX6_stretch_5 (by decide) (fun h1 => ?_) (fun h1 => ?_)
  · have e1 : cStr c i v = c := by unfold cStr; rw [if_neg h1]
    exact zr_vret rfl dX6_stretch_31 (⟨rfl, e1.symm ▸ hL, zX.rf _ hw _⟩)
  · refine zr_aload_n dX6_stretch_8 rfl rfl ?_
    refine zr_getN (k := 24) (v := .ref (kA c (rP i))) in_X2 (hS.bx hi) rfl (Nat.le_of_ble_eq_true rfl) q290 (.inl rfl) rfl dX6_stretch_9 ?_
    refine zr_aload_n dX6_stretch_12 rfl rfl ?_
    refine zr_getN (k := 24) (v := .ref (kA c (rP i))) in_X2 (hS.bx hi) rfl (Nat.le_of_ble_eq_true rfl) q290 (.inl rfl) rfl dX6_stretch_13 ?_
    refine zr_getN (k := 3) (v := .int (kP c i 3)) in_X3 (hS.pl hi) rfl (Nat.le_of_ble_eq_true rfl) q204 (.inl rfl) rfl dX6_stretch_16 ?_
    refine zr_iload_n dX6_stretch_19 rfl rfl ?_
    refine zr_aload_n dX6_stretch_20 rfl rfl ?_
    refine zr_call1 (rest := [.int v, .int (kP c i 3), .ref (kA c (rP i))]) (zs_V (As := []) (by omega) ok_X2_ends q1230 q1231 q1232 q57 q1233 rfl (hS.bx hi) rfl rfl rfl (Nat.le_of_ble_eq_true rfl) dX6_stretch_21) (c_X2_ends (by omega) hS hi) ?_
    refine zr_isub dX6_stretch_24 ?_
    refine zr_max (by omega) q1239 q376 q60 q377 (Nat.le_of_ble_eq_true rfl) dX6_stretch_25 ?_
    refine zr_putN (k := 3) (fs' := (kPl (kSetP c i 3 (imax (kP c i 3) (v - kEnds c i))) i)) zt_X3 (hS.pF hi) rfl (Nat.le_of_ble_eq_true rfl) q204 (.inl rfl) rfl rfl rfl (Nat.le_of_ble_eq_true rfl) (kPl_set3 _ _ _) dX6_stretch_28 ?_
    have e1 : cStr c i v = kSetP c i 3 (imax (kP c i 3) (v - kEnds c i)) := by unfold cStr; rw [if_pos h1]
    exact zr_vret rfl dX6_stretch_31 (⟨rfl, e1 ▸ hL.setP hi 3 _, hS.XP hw hi _⟩)
set_option maxHeartbeats 4000000 in
theorem c_X6_put {G : zG} {σ : zT} {d : Nat} {c : zCS} {ly i : Nat} {chk : Bool} {n : Int32} {x y : Int32} (hd : 10 ≤ d) (hw : zGd G σ) (hL : LY G σ c ly chk n) (hi : i < kN c) : zCall G I_X6_put d [.ref ly, .ref (kA c (rB i)), .int x, .int y] σ ((fun o σ' => o = .inl none ∧ LY G σ' (cPut c i x y) ly chk n ∧ zX G SC σ σ' 0)) := by
  refine zCall_of (ls := [(0, .ref ly), (1, .ref (kA c (rB i))), (2, .int x), (3, .int y)]) (by decide) (Nat.le_of_ble_eq_true rfl) rfl ?_
  have hS := hL.1
  refine zr_aload_n dX6_put_0 rfl rfl ?_
  refine zr_getN (k := 24) (v := .ref (kA c (rP i))) in_X2 (hS.bx hi) rfl (Nat.le_of_ble_eq_true rfl) q290 (.inl rfl) rfl dX6_put_1 ?_
  refine zr_iload_n dX6_put_4 rfl rfl ?_
  refine zr_aload_n dX6_put_5 rfl rfl ?_
  refine zr_getN (k := 10) (v := .int (kF c i 10)) in_X2 (hS.bx hi) rfl (Nat.le_of_ble_eq_true rfl) q253 (.inl rfl) rfl dX6_put_6 ?_
  refine zr_iadd dX6_put_9 ?_
  refine zr_putN (k := 0) (fs' := (kPl (kSetP c i 0 (x + kF c i 10)) i)) zt_X3 (hS.pF hi) rfl (Nat.le_of_ble_eq_true rfl) q189 (.inl rfl) rfl rfl rfl (Nat.le_of_ble_eq_true rfl) (kPl_set0 _ _ _) dX6_put_10 ?_
  have hL1 := hL.setP hi 0 (x + kF c i 10)
  have hS1 := hL1.1
  have hX1 := hS.XP hw hi (kPl (kSetP c i 0 (x + kF c i 10)) i)
  refine zr_aload_n dX6_put_13 rfl rfl ?_
  refine zr_getN (k := 24) (v := .ref (kA c (rP i))) in_X2 (CSys.bx (c := (kSetP c i 0 (x + kF c i 10))) hS1 hi) rfl (Nat.le_of_ble_eq_true rfl) q290 (.inl rfl) rfl dX6_put_14 ?_
  refine zr_iload_n dX6_put_17 rfl rfl ?_
  refine zr_aload_n dX6_put_18 rfl rfl ?_
  refine zr_call1 (rest := [.int y, .ref (kA c (rP i))]) (zs_V (As := []) (by omega) ok_X2_upper q1205 q1206 q1207 q57 q1208 rfl (CSys.bx (c := (kSetP c i 0 (x + kF c i 10))) hS1 hi) rfl rfl rfl (Nat.le_of_ble_eq_true rfl) dX6_put_19) (c_X2_upper (c := (kSetP c i 0 (x + kF c i 10))) (by omega) hS1 hi) ?_
  refine zr_iadd dX6_put_22 ?_
  refine zr_putN (k := 1) (fs' := (kPl (cPut c i x y) i)) zt_X3 (CSys.pF (c := (kSetP c i 0 (x + kF c i 10))) hS1 hi) rfl (Nat.le_of_ble_eq_true rfl) q193 (.inl rfl) rfl rfl rfl (Nat.le_of_ble_eq_true rfl) (kPl_set1 (kSetP c i 0 (x + kF c i 10)) _ _) dX6_put_23 ?_
  exact zr_vret rfl dX6_put_26 (⟨rfl, hL1.setP hi 1 _, (hX1.trans (CSys.XP (c := (kSetP c i 0 (x + kF c i 10))) hS1 hX1.gd hi _)).le (by omega)⟩)
set_option maxHeartbeats 4000000 in
theorem c_J29_init {G : zG} {σ : zT} {d : Nat} {l : Nat} (hd : 1 ≤ d) : zC G I_J29_init d [.ref l] σ (.inl none) σ := by
  refine zCall.exact (zCall_of (ls := [(0, .ref l)]) (by decide) (Nat.le_of_ble_eq_true rfl) rfl ?_)
  refine zr_aload_n dJ29_init_0 rfl rfl ?_
  refine zr_objInit (by omega) q1429 q112 q113 (Nat.le_of_ble_eq_true rfl) dJ29_init_1 ?_
  exact zr_vret rfl dJ29_init_4 (⟨rfl, rfl⟩)
set_option maxHeartbeats 4000000 in
theorem c_X9_init {G : zG} {σ : zT} {d : Nat} {x : Nat} {v0 v1 : Int32} (hd : 3 ≤ d) (hx : sF σ x = some (.inr (9, d0_X9))) : zC G I_X9_init d [.ref x, .int v0, .int v1] σ (.inl none) (sUp σ x (.inr (9, [.int v0, .int v1]))) := by
  refine zCall.exact (zCall_of (ls := [(0, .ref x), (1, .int v0), (2, .int v1)]) (by decide) (Nat.le_of_ble_eq_true rfl) rfl ?_)
  refine zr_aload_n dX9_init_0 rfl rfl ?_
  refine zr_callv (rest := []) (zs_I (As := []) (by omega) ok_J29_init q1426 q1427 q93 q1428 rfl rfl rfl (Nat.le_of_ble_eq_true rfl) dX9_init_1) (c_J29_init (by omega)) ?_
  refine zr_aload_n dX9_init_4 rfl rfl ?_
  refine zr_iload_n dX9_init_5 rfl rfl ?_
  refine zr_putF rfl rfl (k := 0) (fs' := [.int v0, .int 0]) zt_X9 hx rfl (Nat.le_of_ble_eq_true rfl) q1430 (.inl rfl) rfl rfl rfl (Nat.le_of_ble_eq_true rfl) rfl dX9_init_6 ?_
  show zR _ _ _ _ _ _ _ _ _ _ _ _
  refine zr_aload_n dX9_init_9 rfl rfl ?_
  refine zr_iload_n dX9_init_10 rfl rfl ?_
  refine zr_putF rfl rfl (k := 1) (fs' := [.int v0, .int v1]) zt_X9 (sF_upS _ _ _) rfl (Nat.le_of_ble_eq_true rfl) q1431 (.inl rfl) rfl rfl rfl (Nat.le_of_ble_eq_true rfl) rfl dX9_init_11 ?_
  rw [sUp_sUp]
  exact zr_vret rfl dX9_init_14 (⟨rfl, rfl⟩)
set_option maxHeartbeats 4000000 in
theorem c_X11_init {G : zG} {σ : zT} {d : Nat} {x : Nat} {v0 v1 v2 : Int32} (hd : 3 ≤ d) (hx : sF σ x = some (.inr (11, d0_X11))) : zC G I_X11_init d [.ref x, .int v0, .int v1, .int v2] σ (.inl none) (sUp σ x (.inr (11, [.int v0, .int v1, .int v2]))) := by
  refine zCall.exact (zCall_of (ls := [(0, .ref x), (1, .int v0), (2, .int v1), (3, .int v2)]) (by decide) (Nat.le_of_ble_eq_true rfl) rfl ?_)
  refine zr_aload_n dX11_init_0 rfl rfl ?_
  refine zr_callv (rest := []) (zs_I (As := []) (by omega) ok_J29_init q1465 q1427 q93 q1428 rfl rfl rfl (Nat.le_of_ble_eq_true rfl) dX11_init_1) (c_J29_init (by omega)) ?_
  refine zr_aload_n dX11_init_4 rfl rfl ?_
  refine zr_iload_n dX11_init_5 rfl rfl ?_
  refine zr_putF rfl rfl (k := 0) (fs' := [.int v0, .int 0, .int 0]) zt_X11 hx rfl (Nat.le_of_ble_eq_true rfl) q1466 (.inl rfl) rfl rfl rfl (Nat.le_of_ble_eq_true rfl) rfl dX11_init_6 ?_
  show zR _ _ _ _ _ _ _ _ _ _ _ _
  refine zr_aload_n dX11_init_9 rfl rfl ?_
  refine zr_iload_n dX11_init_10 rfl rfl ?_
  refine zr_putF rfl rfl (k := 1) (fs' := [.int v0, .int v1, .int 0]) zt_X11 (sF_upS _ _ _) rfl (Nat.le_of_ble_eq_true rfl) q1467 (.inl rfl) rfl rfl rfl (Nat.le_of_ble_eq_true rfl) rfl dX11_init_11 ?_
  rw [sUp_sUp]
  refine zr_aload_n dX11_init_14 rfl rfl ?_
  refine zr_iload_n dX11_init_15 rfl rfl ?_
  refine zr_putF rfl rfl (k := 2) (fs' := [.int v0, .int v1, .int v2]) zt_X11 (sF_upS _ _ _) rfl (Nat.le_of_ble_eq_true rfl) q1468 (.inl rfl) rfl rfl rfl (Nat.le_of_ble_eq_true rfl) rfl dX11_init_16 ?_
  rw [sUp_sUp]
  exact zr_vret rfl dX11_init_19 (⟨rfl, rfl⟩)
set_option maxHeartbeats 4000000 in
theorem c_X12_init {G : zG} {σ : zT} {d : Nat} {x : Nat} {v0 v1 v2 v3 v4 : Int32} (hc4 : narrow .char (.int v4) = .int v4) (hf4 : fits .char (.int v4) = true) (hd : 3 ≤ d) (hx : sF σ x = some (.inr (12, d0_X12))) : zC G I_X12_init d [.ref x, .int v0, .int v1, .int v2, .int v3, .int v4] σ (.inl none) (sUp σ x (.inr (12, [.int v0, .int v1, .int v2, .int v3, .int v4]))) := by
  refine zCall.exact (zCall_of (ls := [(0, .ref x), (1, .int v0), (2, .int v1), (3, .int v2), (4, .int v3), (5, .int v4)]) (by decide) (Nat.le_of_ble_eq_true rfl) rfl ?_)
  refine zr_aload_n dX12_init_0 rfl rfl ?_
  refine zr_callv (rest := []) (zs_I (As := []) (by omega) ok_J29_init q1546 q1427 q93 q1428 rfl rfl rfl (Nat.le_of_ble_eq_true rfl) dX12_init_1) (c_J29_init (by omega)) ?_
  refine zr_aload_n dX12_init_4 rfl rfl ?_
  refine zr_iload_n dX12_init_5 rfl rfl ?_
  refine zr_putF rfl rfl (k := 0) (fs' := [.int v0, .int 0, .int 0, .int 0, .int 0]) zt_X12 hx rfl (Nat.le_of_ble_eq_true rfl) q1547 (.inl rfl) rfl rfl rfl (Nat.le_of_ble_eq_true rfl) rfl dX12_init_6 ?_
  show zR _ _ _ _ _ _ _ _ _ _ _ _
  refine zr_aload_n dX12_init_9 rfl rfl ?_
  refine zr_iload_n dX12_init_10 rfl rfl ?_
  refine zr_putF rfl rfl (k := 1) (fs' := [.int v0, .int v1, .int 0, .int 0, .int 0]) zt_X12 (sF_upS _ _ _) rfl (Nat.le_of_ble_eq_true rfl) q1548 (.inl rfl) rfl rfl rfl (Nat.le_of_ble_eq_true rfl) rfl dX12_init_11 ?_
  rw [sUp_sUp]
  refine zr_aload_n dX12_init_14 rfl rfl ?_
  refine zr_iload_n dX12_init_15 rfl rfl ?_
  refine zr_putF rfl rfl (k := 2) (fs' := [.int v0, .int v1, .int v2, .int 0, .int 0]) zt_X12 (sF_upS _ _ _) rfl (Nat.le_of_ble_eq_true rfl) q1549 (.inl rfl) rfl rfl rfl (Nat.le_of_ble_eq_true rfl) rfl dX12_init_16 ?_
  rw [sUp_sUp]
  refine zr_aload_n dX12_init_19 rfl rfl ?_
  refine zr_iload dX12_init_20 rfl ?_
  refine zr_putF rfl rfl (k := 3) (fs' := [.int v0, .int v1, .int v2, .int v3, .int 0]) zt_X12 (sF_upS _ _ _) rfl (Nat.le_of_ble_eq_true rfl) q1550 (.inl rfl) rfl rfl rfl (Nat.le_of_ble_eq_true rfl) rfl dX12_init_22 ?_
  rw [sUp_sUp]
  refine zr_aload_n dX12_init_25 rfl rfl ?_
  refine zr_iload dX12_init_26 rfl ?_
  refine zr_putF rfl rfl (k := 4) (fs' := [.int v0, .int v1, .int v2, .int v3, .int v4]) zt_X12 (sF_upS _ _ _) rfl (Nat.le_of_ble_eq_true rfl) q1551 (.inl rfl) rfl hc4 hf4 (Nat.le_of_ble_eq_true rfl) rfl dX12_init_28 ?_
  rw [sUp_sUp]
  exact zr_vret rfl dX12_init_31 (⟨rfl, rfl⟩)
set_option maxHeartbeats 4000000 in
theorem c_X9_left {G : zG} {σ : zT} {d : Nat} {x : Nat} {v0 v1 : Int32} (hx : zAt G σ x (.inr (9, [.int v0, .int v1]))) : zC G I_X9_left d [.ref x] σ (.inl (some (.int v0))) σ := by
  refine zCall.exact (zCall_of (ls := [(0, .ref x)]) (by decide) (Nat.le_of_ble_eq_true rfl) rfl ?_)
  refine zr_aload_n dX9_left_0 rfl rfl ?_
  refine zr_get (k := 0) (v := .int v0) in_X9 hx rfl (Nat.le_of_ble_eq_true rfl) q1430 (.inl rfl) rfl dX9_left_1 ?_
  exact zr_iret rfl rfl dX9_left_4 (⟨rfl, rfl⟩)
set_option maxHeartbeats 4000000 in
theorem c_X9_right {G : zG} {σ : zT} {d : Nat} {x : Nat} {v0 v1 : Int32} (hx : zAt G σ x (.inr (9, [.int v0, .int v1]))) : zC G I_X9_right d [.ref x] σ (.inl (some (.int v1))) σ := by
  refine zCall.exact (zCall_of (ls := [(0, .ref x)]) (by decide) (Nat.le_of_ble_eq_true rfl) rfl ?_)
  refine zr_aload_n dX9_right_0 rfl rfl ?_
  refine zr_get (k := 1) (v := .int v1) in_X9 hx rfl (Nat.le_of_ble_eq_true rfl) q1431 (.inl rfl) rfl dX9_right_1 ?_
  exact zr_iret rfl rfl dX9_right_4 (⟨rfl, rfl⟩)
set_option maxHeartbeats 4000000 in
theorem c_X11_x {G : zG} {σ : zT} {d : Nat} {x : Nat} {v0 v1 v2 : Int32} (hx : zAt G σ x (.inr (11, [.int v0, .int v1, .int v2]))) : zC G I_X11_x d [.ref x] σ (.inl (some (.int v0))) σ := by
  refine zCall.exact (zCall_of (ls := [(0, .ref x)]) (by decide) (Nat.le_of_ble_eq_true rfl) rfl ?_)
  refine zr_aload_n dX11_x_0 rfl rfl ?_
  refine zr_get (k := 0) (v := .int v0) in_X11 hx rfl (Nat.le_of_ble_eq_true rfl) q1466 (.inl rfl) rfl dX11_x_1 ?_
  exact zr_iret rfl rfl dX11_x_4 (⟨rfl, rfl⟩)
set_option maxHeartbeats 4000000 in
theorem c_X11_y {G : zG} {σ : zT} {d : Nat} {x : Nat} {v0 v1 v2 : Int32} (hx : zAt G σ x (.inr (11, [.int v0, .int v1, .int v2]))) : zC G I_X11_y d [.ref x] σ (.inl (some (.int v1))) σ := by
  refine zCall.exact (zCall_of (ls := [(0, .ref x)]) (by decide) (Nat.le_of_ble_eq_true rfl) rfl ?_)
  refine zr_aload_n dX11_y_0 rfl rfl ?_
  refine zr_get (k := 1) (v := .int v1) in_X11 hx rfl (Nat.le_of_ble_eq_true rfl) q1467 (.inl rfl) rfl dX11_y_1 ?_
  exact zr_iret rfl rfl dX11_y_4 (⟨rfl, rfl⟩)
set_option maxHeartbeats 4000000 in
theorem c_X11_words {G : zG} {σ : zT} {d : Nat} {x : Nat} {v0 v1 v2 : Int32} (hx : zAt G σ x (.inr (11, [.int v0, .int v1, .int v2]))) : zC G I_X11_words d [.ref x] σ (.inl (some (.int v2))) σ := by
  refine zCall.exact (zCall_of (ls := [(0, .ref x)]) (by decide) (Nat.le_of_ble_eq_true rfl) rfl ?_)
  refine zr_aload_n dX11_words_0 rfl rfl ?_
  refine zr_get (k := 2) (v := .int v2) in_X11 hx rfl (Nat.le_of_ble_eq_true rfl) q1468 (.inl rfl) rfl dX11_words_1 ?_
  exact zr_iret rfl rfl dX11_words_4 (⟨rfl, rfl⟩)
set_option maxHeartbeats 4000000 in
theorem c_X12_x {G : zG} {σ : zT} {d : Nat} {x : Nat} {v0 v1 v2 v3 v4 : Int32} (hx : zAt G σ x (.inr (12, [.int v0, .int v1, .int v2, .int v3, .int v4]))) : zC G I_X12_x d [.ref x] σ (.inl (some (.int v0))) σ := by
  refine zCall.exact (zCall_of (ls := [(0, .ref x)]) (by decide) (Nat.le_of_ble_eq_true rfl) rfl ?_)
  refine zr_aload_n dX12_x_0 rfl rfl ?_
  refine zr_get (k := 0) (v := .int v0) in_X12 hx rfl (Nat.le_of_ble_eq_true rfl) q1547 (.inl rfl) rfl dX12_x_1 ?_
  exact zr_iret rfl rfl dX12_x_4 (⟨rfl, rfl⟩)
set_option maxHeartbeats 4000000 in
theorem c_X12_y {G : zG} {σ : zT} {d : Nat} {x : Nat} {v0 v1 v2 v3 v4 : Int32} (hx : zAt G σ x (.inr (12, [.int v0, .int v1, .int v2, .int v3, .int v4]))) : zC G I_X12_y d [.ref x] σ (.inl (some (.int v1))) σ := by
  refine zCall.exact (zCall_of (ls := [(0, .ref x)]) (by decide) (Nat.le_of_ble_eq_true rfl) rfl ?_)
  refine zr_aload_n dX12_y_0 rfl rfl ?_
  refine zr_get (k := 1) (v := .int v1) in_X12 hx rfl (Nat.le_of_ble_eq_true rfl) q1548 (.inl rfl) rfl dX12_y_1 ?_
  exact zr_iret rfl rfl dX12_y_4 (⟨rfl, rfl⟩)
set_option maxHeartbeats 4000000 in
theorem c_X12_width {G : zG} {σ : zT} {d : Nat} {x : Nat} {v0 v1 v2 v3 v4 : Int32} (hx : zAt G σ x (.inr (12, [.int v0, .int v1, .int v2, .int v3, .int v4]))) : zC G I_X12_width d [.ref x] σ (.inl (some (.int v2))) σ := by
  refine zCall.exact (zCall_of (ls := [(0, .ref x)]) (by decide) (Nat.le_of_ble_eq_true rfl) rfl ?_)
  refine zr_aload_n dX12_width_0 rfl rfl ?_
  refine zr_get (k := 2) (v := .int v2) in_X12 hx rfl (Nat.le_of_ble_eq_true rfl) q1549 (.inl rfl) rfl dX12_width_1 ?_
  exact zr_iret rfl rfl dX12_width_4 (⟨rfl, rfl⟩)
set_option maxHeartbeats 4000000 in
theorem c_X12_height {G : zG} {σ : zT} {d : Nat} {x : Nat} {v0 v1 v2 v3 v4 : Int32} (hx : zAt G σ x (.inr (12, [.int v0, .int v1, .int v2, .int v3, .int v4]))) : zC G I_X12_height d [.ref x] σ (.inl (some (.int v3))) σ := by
  refine zCall.exact (zCall_of (ls := [(0, .ref x)]) (by decide) (Nat.le_of_ble_eq_true rfl) rfl ?_)
  refine zr_aload_n dX12_height_0 rfl rfl ?_
  refine zr_get (k := 3) (v := .int v3) in_X12 hx rfl (Nat.le_of_ble_eq_true rfl) q1550 (.inl rfl) rfl dX12_height_1 ?_
  exact zr_iret rfl rfl dX12_height_4 (⟨rfl, rfl⟩)
set_option maxHeartbeats 4000000 in
theorem c_X12_side {G : zG} {σ : zT} {d : Nat} {x : Nat} {v0 v1 v2 v3 v4 : Int32}  (hc : narrow .char (.int v4) = .int v4)(hx : zAt G σ x (.inr (12, [.int v0, .int v1, .int v2, .int v3, .int v4]))) : zC G I_X12_side d [.ref x] σ (.inl (some (.int v4))) σ := by
  refine zCall.exact (zCall_of (ls := [(0, .ref x)]) (by decide) (Nat.le_of_ble_eq_true rfl) rfl ?_)
  refine zr_aload_n dX12_side_0 rfl rfl ?_
  refine zr_get (k := 4) (v := .int v4) in_X12 hx rfl (Nat.le_of_ble_eq_true rfl) q1551 (.inl rfl) rfl dX12_side_1 ?_
  exact zr_iret rfl hc dX12_side_4 (⟨rfl, rfl⟩)
set_option maxHeartbeats 4000000 in
theorem c_X9_between {G : zG} {σ : zT} {d : Nat} {x : Nat} {v0 v1 : Int32} (hx : zAt G σ x (.inr (9, [.int v0, .int v1]))) : zC G I_X9_between d [.ref x] σ (.inl (some (.int (v1 - v0)))) σ := by
  refine zCall.exact (zCall_of (ls := [(0, .ref x)]) (by decide) (Nat.le_of_ble_eq_true rfl) rfl ?_)
  refine zr_aload_n dX9_between_0 rfl rfl ?_
  refine zr_get (k := 1) (v := .int v1) in_X9 hx rfl (Nat.le_of_ble_eq_true rfl) q1431 (.inl rfl) rfl dX9_between_1 ?_
  refine zr_aload_n dX9_between_4 rfl rfl ?_
  refine zr_get (k := 0) (v := .int v0) in_X9 hx rfl (Nat.le_of_ble_eq_true rfl) q1430 (.inl rfl) rfl dX9_between_5 ?_
  refine zr_isub dX9_between_8 ?_
  exact zr_iret rfl rfl dX9_between_9 (⟨rfl, rfl⟩)
def fEnd (v1 v3 : Int32) : Int32 := v1 + imax 1 v3
def fIn (v1 v3 a b : Int32) : Bool := decide (v1 < b) && decide (a < fEnd v1 v3)
set_option maxHeartbeats 4000000 in
theorem c_X12_end {G : zG} {σ : zT} {d : Nat} {x : Nat} {v0 v1 v2 v3 v4 : Int32} (hd : 2 ≤ d) (hx : zAt G σ x (.inr (12, [.int v0, .int v1, .int v2, .int v3, .int v4]))) : zC G I_X12_end d [.ref x] σ (.inl (some (.int (fEnd v1 v3)))) σ := by
  refine zCall.exact (zCall_of (ls := [(0, .ref x)]) (by decide) (Nat.le_of_ble_eq_true rfl) rfl ?_)
  refine zr_aload_n dX12_end_0 rfl rfl ?_
  refine zr_get (k := 1) (v := .int v1) in_X12 hx rfl (Nat.le_of_ble_eq_true rfl) q1548 (.inl rfl) rfl dX12_end_1 ?_
  refine zr_iconst (v := 1) dX12_end_4 (by decide) ?_
  refine zr_aload_n dX12_end_5 rfl rfl ?_
  refine zr_get (k := 3) (v := .int v3) in_X12 hx rfl (Nat.le_of_ble_eq_true rfl) q1550 (.inl rfl) rfl dX12_end_6 ?_
  refine zr_max (by omega) q1380 q376 q60 q377 (Nat.le_of_ble_eq_true rfl) dX12_end_9 ?_
  refine zr_iadd dX12_end_12 ?_
  exact zr_iret rfl rfl dX12_end_13 (⟨rfl, rfl⟩)
set_option maxHeartbeats 4000000 in
theorem c_X12_liesIn {G : zG} {σ : zT} {d : Nat} {x : Nat} {v0 v1 v2 v3 v4 a b : Int32} (hd : 3 ≤ d) (hx : zAt G σ x (.inr (12, [.int v0, .int v1, .int v2, .int v3, .int v4]))) : zC G I_X12_liesIn d [.ref x, .int a, .int b] σ (.inl (some (.int (bI (fIn v1 v3 a b))))) σ := by
  refine zCall.exact (zCall_of (ls := [(0, .ref x), (1, .int a), (2, .int b)]) (by decide) (Nat.le_of_ble_eq_true rfl) rfl ?_)
  refine zr_aload_n dX12_liesIn_0 rfl rfl ?_
  refine zr_get (k := 1) (v := .int v1) in_X12 hx rfl (Nat.le_of_ble_eq_true rfl) q1548 (.inl rfl) rfl dX12_liesIn_1 ?_
  refine zr_iload_n dX12_liesIn_4 rfl rfl ?_
  refine zr_icmp_ge (tgt := 20) dX12_liesIn_5 (by decide) (fun h1 => ?_) (fun h1 => ?_)
  · refine zr_iconst (v := 0) dX12_liesIn_20 (by decide) ?_
    exact zr_iret rfl rfl dX12_liesIn_21 (⟨by rw [show fIn v1 v3 a b = false from by unfold fIn; rw [decide_eq_false (Int32.not_lt.mpr h1)]; rfl]; rfl, rfl⟩)
  · refine zr_aload_n dX12_liesIn_8 rfl rfl ?_
    refine zr_call1 (rest := []) (zs_V (As := []) (by omega) ok_X12_end q1376 q1377 q1378 q97 q1379 rfl hx rfl rfl rfl (Nat.le_of_ble_eq_true rfl) dX12_liesIn_9) (c_X12_end (by omega) hx) ?_
    refine zr_iload_n dX12_liesIn_12 rfl rfl ?_
    refine zr_icmp_le (tgt := 20) dX12_liesIn_13 (by decide) (fun h2 => ?_) (fun h2 => ?_)
    · refine zr_iconst (v := 0) dX12_liesIn_20 (by decide) ?_
      exact zr_iret rfl rfl dX12_liesIn_21 (⟨by rw [show fIn v1 v3 a b = false from by unfold fIn; rw [decide_eq_false (Int32.not_lt.mpr h2), Bool.and_false]]; rfl, rfl⟩)
    · refine zr_iconst (v := 1) dX12_liesIn_16 (by decide) ?_
      refine zr_goto (tgt := 21) dX12_liesIn_17 (by decide) ?_
      exact zr_iret rfl rfl dX12_liesIn_21 (⟨by rw [show fIn v1 v3 a b = true from by unfold fIn; rw [decide_eq_true (Int32.not_le.mp h1), decide_eq_true (Int32.not_le.mp h2)]; rfl]; rfl, rfl⟩)
