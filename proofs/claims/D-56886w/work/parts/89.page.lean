/-! ===== pages: its state, isLower, mustBreak, marks, Unit (rows printed by tools/p89.py) ===== -/
/-- pages under way: which boxes are begun, page, top, isFirst, units (box, line, page) -/
abbrev PgT : Type := (Nat → Bool) × Int32 × Int32 × Bool × List (Nat × Int32 × Int32)
def gB (s : PgT) (i : Nat) : Bool := s.1 i
def gP (s : PgT) : Int32 := s.2.1
def gT (s : PgT) : Int32 := s.2.2.1
def gI (s : PgT) : Bool := s.2.2.2.1
def gU (s : PgT) : List (Nat × Int32 × Int32) := s.2.2.2.2
abbrev SP : Nat → Prop := fun s => 2000 ≤ s ∧ s < 2010
theorem SP_C (s : Nat) (_ : 1 ≤ s) (h : s < 1000) : ¬ SP s := by unfold SP; omega
def pgF (c : zCS) (h : Int32) (ul bg : Nat) (pg tp : Int32) (fi : Bool) : List Value := [.int h, .ref ul, .ref bg, .int pg, .int tp, .int (bI fi), .ref (kA c 1)]
def PgO (G : zG) (σ : zT) (c : zCS) (h : Int32) (pa ul bg : Nat) (pg tp : Int32) (fi : Bool) : Prop := sF σ pa = some (.inr (16, pgF c h ul bg pg tp fi)) ∧ sT σ pa = 2000
def PgB (G : zG) (σ : zT) (bg : Nat) (b : Nat → Bool) : Prop := sF σ bg = some (aZ G 24 (bA b)) ∧ sT σ bg = 2001
def PgU (G : zG) (σ : zT) (c : zCS) (ul : Nat) (us : List (Nat × Int32 × Int32)) : Prop := ∃ (mod : Int32) (xs : List Nat), zL G σ 2002 ul mod xs ∧ xs.length = us.length ∧ ∀ (j q : Nat) (u : Nat × Int32 × Int32), xs[j]? = some q → us[j]? = some u → sF σ q = some (.inr (17, [.ref (kA c (rB u.1)), .int u.2.1, .int u.2.2])) ∧ sT σ q = 2004
def PgS (G : zG) (σ : zT) (c : zCS) (h : Int32) (pa ul bg : Nat) (s : PgT) : Prop := PgO G σ c h pa ul bg (gP s) (gT s) (gI s) ∧ PgB G σ bg (gB s) ∧ PgU G σ c ul (gU s)
theorem PgO.keep {G : zG} {S : Nat → Prop} {σ σ1 : zT} {c : zCS} {h : Int32} {pa ul bg n : Nat} {pg tp : Int32} {fi : Bool} (hP : PgO G σ c h pa ul bg pg tp fi) (hw : zGd G σ) (hX : zX G S σ σ1 n) (hs : ¬ S 2000) : PgO G σ1 c h pa ul bg pg tp fi :=
  ⟨hX.f hw hP.1 (by rw [hP.2]; exact hs), (hX.t hw hP.1).trans hP.2⟩
theorem PgB.keep {G : zG} {S : Nat → Prop} {σ σ1 : zT} {bg n : Nat} {b : Nat → Bool} (hP : PgB G σ bg b) (hw : zGd G σ) (hX : zX G S σ σ1 n) (hs : ¬ S 2001) : PgB G σ1 bg b :=
  ⟨hX.f hw hP.1 (by rw [hP.2]; exact hs), (hX.t hw hP.1).trans hP.2⟩
theorem PgU.keep {G : zG} {S : Nat → Prop} {σ σ1 : zT} {c : zCS} {ul n : Nat} {us : List (Nat × Int32 × Int32)} (hP : PgU G σ c ul us) (hw : zGd G σ) (hX : zX G S σ σ1 n) (h2 : ¬ S 2002) (h3 : ¬ S 2003) (h4 : ¬ S 2004) : PgU G σ1 c ul us := by
  obtain ⟨mod, xs, a1, a2, a3⟩ := hP
  refine ⟨mod, xs, hX.L hw a1 h2 h3, a2, fun j q u hq hu => ?_⟩
  obtain ⟨b1, b2⟩ := a3 j q u hq hu
  exact ⟨hX.f hw b1 (by rw [b2]; exact h4), (hX.t hw b1).trans b2⟩
def pLow (h tp v : Int32) : Bool := decide (h < v - tp)
def pgAv (c : zCS) (h tp : Int32) (i : Nat) (y : Int32) : Bool := decide (kF c i 22 = 118) && (pLow h tp (y + kP c i 3) && decide (kP c i 3 ≤ h))
def pgOne (c : zCS) (h tp : Int32) (b : Nat → Bool) (i : Nat) (y : Int32) : Bool := !b i && (decide (kF c i 22 = 102) || pgAv c h tp i y)
def pgMB (c : zCS) (h tp : Int32) (b : Nat → Bool) : Nat → Nat → Int32 → Bool → Bool
  | 0, _, _, m => m
  | f + 1, i, y, m => match kPar c i with
    | none => m
    | some p => pgMB c h tp b f p (y - kP c i 1) (m || pgOne c h tp b i y)
def pgMk (c : zCS) : Nat → Nat → (Nat → Bool) → (Nat → Bool)
  | 0, _, b => b
  | f + 1, i, b => match kPar c i with
    | none => b
    | some p => pgMk c f p (ub b i true)
theorem pgMB_0 {c : zCS} {h tp : Int32} {b : Nat → Bool} {f i : Nat} {y : Int32} {m : Bool} (hr : kRoot c i = true) : pgMB c h tp b (f + 1) i y m = m := by
  unfold pgMB
  cases hq : kPar c i with
  | none => rfl
  | some q => unfold kRoot at hr; rw [hq] at hr; cases hr
theorem pgMk_0 {c : zCS} {f i : Nat} {b : Nat → Bool} (hr : kRoot c i = true) : pgMk c (f + 1) i b = b := by
  unfold pgMk
  cases hq : kPar c i with
  | none => rfl
  | some q => unfold kRoot at hr; rw [hq] at hr; cases hr
theorem root_no {c : zCS} {i : Nat} (hr : kRoot c i = false) : ∃ p, kPar c i = some p := by
  cases hq : kPar c i with
  | none => unfold kRoot at hr; rw [hq] at hr; cases hr
  | some q => exact ⟨q, rfl⟩
theorem pgMB_1 {c : zCS} {h tp : Int32} {b : Nat → Bool} {f i p : Nat} {y : Int32} {m : Bool} (hp : kPar c i = some p) : pgMB c h tp b (f + 1) i y m = pgMB c h tp b f p (y - kP c i 1) (m || pgOne c h tp b i y) := by
  show (match kPar c i with | none => m | some p => pgMB c h tp b f p (y - kP c i 1) (m || pgOne c h tp b i y)) = _
  rw [hp]
theorem pgMk_1 {c : zCS} {f i p : Nat} {b : Nat → Bool} (hp : kPar c i = some p) : pgMk c (f + 1) i b = pgMk c f p (ub b i true) := by
  show (match kPar c i with | none => b | some p => pgMk c f p (ub b i true)) = _
  rw [hp]
set_option maxHeartbeats 4000000 in
theorem c_X17_init {G : zG} {σ : zT} {d : Nat} {x b : Nat} {v1 v2 : Int32} (hd : 3 ≤ d) (hx : sF σ x = some (.inr (17, d0_X17))) : zC G I_X17_init d [.ref x, .ref b, .int v1, .int v2] σ (.inl none) (sUp σ x (.inr (17, [.ref b, .int v1, .int v2]))) := by
  refine zCall.exact (zCall_of (ls := [(0, .ref x), (1, .ref b), (2, .int v1), (3, .int v2)]) (by decide) (Nat.le_of_ble_eq_true rfl) rfl ?_)
  refine zr_aload_n dX17_init_0 rfl rfl ?_
  refine zr_callv (rest := []) (zs_I (As := []) (by omega) ok_J29_init q1969 q1427 q93 q1428 rfl rfl rfl (Nat.le_of_ble_eq_true rfl) dX17_init_1) (c_J29_init (by omega)) ?_
  refine zr_aload_n dX17_init_4 rfl rfl ?_
  refine zr_aload_n dX17_init_5 rfl rfl ?_
  refine zr_putF rfl rfl (k := 0) (fs' := [.ref b, .int 0, .int 0]) zt_X17 hx rfl (Nat.le_of_ble_eq_true rfl) q1970 (.inl rfl) rfl rfl rfl (Nat.le_of_ble_eq_true rfl) rfl dX17_init_6 ?_
  refine zr_aload_n dX17_init_9 rfl rfl ?_
  refine zr_iload_n dX17_init_10 rfl rfl ?_
  refine zr_putF rfl rfl (k := 1) (fs' := [.ref b, .int v1, .int 0]) zt_X17 (sF_upS _ _ _) rfl (Nat.le_of_ble_eq_true rfl) q1971 (.inl rfl) rfl rfl rfl (Nat.le_of_ble_eq_true rfl) rfl dX17_init_11 ?_
  rw [sUp_sUp]
  refine zr_aload_n dX17_init_14 rfl rfl ?_
  refine zr_iload_n dX17_init_15 rfl rfl ?_
  refine zr_putF rfl rfl (k := 2) (fs' := [.ref b, .int v1, .int v2]) zt_X17 (sF_upS _ _ _) rfl (Nat.le_of_ble_eq_true rfl) q1972 (.inl rfl) rfl rfl rfl (Nat.le_of_ble_eq_true rfl) rfl dX17_init_16 ?_
  rw [sUp_sUp]
  exact zr_vret rfl dX17_init_19 (⟨rfl, rfl⟩)
set_option maxHeartbeats 4000000 in
theorem c_X17_box {G : zG} {σ : zT} {d : Nat} {x b : Nat} {v1 v2 : Int32} (hx : zAt G σ x (.inr (17, [.ref b, .int v1, .int v2]))) : zC G I_X17_box d [.ref x] σ (.inl (some (.ref b))) σ := by
  refine zCall.exact (zCall_of (ls := [(0, .ref x)]) (by decide) (Nat.le_of_ble_eq_true rfl) rfl ?_)
  refine zr_aload_n dX17_box_0 rfl rfl ?_
  refine zr_get (k := 0) (v := .ref b) in_X17 hx rfl (Nat.le_of_ble_eq_true rfl) q1970 (.inl rfl) rfl dX17_box_1 ?_
  exact zr_aret rfl (.inl ⟨_, rfl⟩) (.inr ⟨_, rfl⟩) dX17_box_4 (⟨rfl, rfl⟩)
set_option maxHeartbeats 4000000 in
theorem c_X17_line {G : zG} {σ : zT} {d : Nat} {x b : Nat} {v1 v2 : Int32} (hx : zAt G σ x (.inr (17, [.ref b, .int v1, .int v2]))) : zC G I_X17_line d [.ref x] σ (.inl (some (.int v1))) σ := by
  refine zCall.exact (zCall_of (ls := [(0, .ref x)]) (by decide) (Nat.le_of_ble_eq_true rfl) rfl ?_)
  refine zr_aload_n dX17_line_0 rfl rfl ?_
  refine zr_get (k := 1) (v := .int v1) in_X17 hx rfl (Nat.le_of_ble_eq_true rfl) q1971 (.inl rfl) rfl dX17_line_1 ?_
  exact zr_iret rfl rfl dX17_line_4 (⟨rfl, rfl⟩)
set_option maxHeartbeats 4000000 in
theorem c_X17_page {G : zG} {σ : zT} {d : Nat} {x b : Nat} {v1 v2 : Int32} (hx : zAt G σ x (.inr (17, [.ref b, .int v1, .int v2]))) : zC G I_X17_page d [.ref x] σ (.inl (some (.int v2))) σ := by
  refine zCall.exact (zCall_of (ls := [(0, .ref x)]) (by decide) (Nat.le_of_ble_eq_true rfl) rfl ?_)
  refine zr_aload_n dX17_page_0 rfl rfl ?_
  refine zr_get (k := 2) (v := .int v2) in_X17 hx rfl (Nat.le_of_ble_eq_true rfl) q1972 (.inl rfl) rfl dX17_page_1 ?_
  exact zr_iret rfl rfl dX17_page_4 (⟨rfl, rfl⟩)
set_option maxHeartbeats 4000000 in
theorem c_X16_isLower {G : zG} {σ : zT} {d : Nat} {c : zCS} {h pg tp v : Int32} {pa ul bg : Nat} {fi : Bool} (hP : PgO G σ c h pa ul bg pg tp fi) : zC G I_X16_isLower d [.ref pa, .int v] σ (.inl (some (.int (bI (pLow h tp v))))) σ := by
  refine zCall.exact (zCall_of (ls := [(0, .ref pa), (1, .int v)]) (by decide) (Nat.le_of_ble_eq_true rfl) rfl ?_)
  have hp : zAt G σ pa (.inr (16, [.int h, .ref ul, .ref bg, .int pg, .int tp, .int (bI fi), .ref (kA c 1)])) := .new hP.1
  refine zr_iload_n dX16_isLower_0 rfl rfl ?_
  refine zr_aload_n dX16_isLower_1 rfl rfl ?_
  refine zr_get (k := 4) (v := .int tp) in_X16 hp rfl (Nat.le_of_ble_eq_true rfl) q1998 (.inl rfl) rfl dX16_isLower_2 ?_
  refine zr_isub dX16_isLower_5 ?_
  refine zr_aload_n dX16_isLower_6 rfl rfl ?_
  refine zr_get (k := 0) (v := .int h) in_X16 hp rfl (Nat.le_of_ble_eq_true rfl) q1992 (.inl rfl) rfl dX16_isLower_7 ?_
  refine zr_icmp_le (tgt := 17) dX16_isLower_10 (by decide) (fun h1 => ?_) (fun h1 => ?_)
  · refine zr_iconst (v := 0) dX16_isLower_17 (by decide) ?_
    exact zr_iret rfl rfl dX16_isLower_18 (⟨by rw [show pLow h tp v = false from decide_eq_false (Int32.not_lt.mpr h1)]; rfl, rfl⟩)
  · refine zr_iconst (v := 1) dX16_isLower_13 (by decide) ?_
    refine zr_goto (tgt := 18) dX16_isLower_14 (by decide) ?_
    exact zr_iret rfl rfl dX16_isLower_18 (⟨by rw [show pLow h tp v = true from decide_eq_true (Int32.not_le.mp h1)]; rfl, rfl⟩)
set_option maxHeartbeats 4000000 in
theorem l_X16_must {G : zG} {σ : zT} {d : Nat} {c : zCS} {h pg tp : Int32} {pa ul bg : Nat} {fi : Bool} {b : Nat → Bool} {x1 : Nat} {y0 : Int32} {Q : zO → zT → Prop} (hd : 4 ≤ d) (hS : CSys G σ c) (hP : PgO G σ c h pa ul bg pg tp fi) (hB : PgB G σ bg b) : ∀ (f i : Nat) (y : Int32) (m : Bool), i < f → i < kN c → Q (.inl (some (.int (bI (pgMB c h tp b f i y m))))) σ → zR G yX16_mustBreak cX16_mustBreak 8 (Option.some Jvm.ClassFile.FieldType.boolean) [] d 8 [(0, .ref pa), (1, .ref x1), (2, .int y0), (3, .int (bI m)), (4, .int y), (5, .ref (kA c (rB i)))] [] σ Q := by
  intro f
  induction f with
  | zero => intro i y m h; omega
  | succ f ih =>
    intro i y m hf hi kQ
    have hle := hS.le
    have hp : zAt G σ pa (.inr (16, [.int h, .ref ul, .ref bg, .int pg, .int tp, .int (bI fi), .ref (kA c 1)])) := .new hP.1
    refine zr_aload dX16_mustBreak_8 rfl ?_
    refine zr_call1 (rest := []) (zs_V (As := []) (by omega) ok_X2_isRoot q1963 q1129 q1130 q57 q1131 rfl (hS.bx hi) rfl rfl rfl (Nat.le_of_ble_eq_true rfl) dX16_mustBreak_10) (c_X2_isRoot (by omega) hS hi) ?_
    refine zr_ifneB (tgt := 129) dX16_mustBreak_13 (by decide) (fun h1 => ?_) (fun h1 => ?_)
    · rw [pgMB_0 h1] at kQ
      refine zr_iload_n dX16_mustBreak_129 rfl rfl ?_
      exact zr_iret rfl (nar_z _) dX16_mustBreak_130 (kQ)
    · obtain ⟨p, hpp⟩ := root_no h1
      have hpi := hS.parlt hi hpp
      rw [pgMB_1 hpp] at kQ
      refine zr_iload dX16_mustBreak_16 rfl ?_
      refine zr_aload dX16_mustBreak_18 rfl ?_
      refine zr_getN (k := 24) (v := .ref (kA c (rP i))) in_X2 (hS.bx hi) rfl (Nat.le_of_ble_eq_true rfl) q291 (.inl rfl) rfl dX16_mustBreak_20 ?_
      refine zr_getN (k := 3) (v := .int (kP c i 3)) in_X3 (hS.pl hi) rfl (Nat.le_of_ble_eq_true rfl) q205 (.inl rfl) rfl dX16_mustBreak_23 ?_
      refine zr_iadd dX16_mustBreak_26 ?_
      refine zr_istore (ls2 := [(0, .ref pa), (1, .ref x1), (2, .int y0), (3, .int (bI m)), (4, .int y), (5, .ref (kA c (rB i))), (6, .int (y + (kP c i 3)))]) dX16_mustBreak_27 (Nat.le_of_ble_eq_true rfl) rfl ?_
      have key1 : ∀ w7 z : Int32, z = bI (pgOne c h tp b i y) → zR G yX16_mustBreak cX16_mustBreak 8 (Option.some Jvm.ClassFile.FieldType.boolean) [] d 104 [(0, .ref pa), (1, .ref x1), (2, .int y0), (3, .int (bI m)), (4, .int y), (5, .ref (kA c (rB i))), (6, .int (y + (kP c i 3))), (7, .int w7)] [.int z, .int (bI m)] σ Q := by
        intro w7 z hz
        subst hz
        refine zr_ior dX16_mustBreak_104 ?_
        rw [bI_or]
        refine zr_istore_n (ls2 := [(0, .ref pa), (1, .ref x1), (2, .int y0), (3, .int (bI (m || pgOne c h tp b i y))), (4, .int y), (5, .ref (kA c (rB i))), (6, .int (y + (kP c i 3))), (7, .int w7)]) dX16_mustBreak_105 rfl (Nat.le_of_ble_eq_true rfl) rfl ?_
        refine zr_iload dX16_mustBreak_106 rfl ?_
        refine zr_aload dX16_mustBreak_108 rfl ?_
        refine zr_getN (k := 24) (v := .ref (kA c (rP i))) in_X2 (hS.bx hi) rfl (Nat.le_of_ble_eq_true rfl) q291 (.inl rfl) rfl dX16_mustBreak_110 ?_
        refine zr_getN (k := 1) (v := .int (kP c i 1)) in_X3 (hS.pl hi) rfl (Nat.le_of_ble_eq_true rfl) q194 (.inl rfl) rfl dX16_mustBreak_113 ?_
        refine zr_isub dX16_mustBreak_116 ?_
        refine zr_istore (ls2 := [(0, .ref pa), (1, .ref x1), (2, .int y0), (3, .int (bI (m || pgOne c h tp b i y))), (4, .int (y - (kP c i 1))), (5, .ref (kA c (rB i))), (6, .int (y + (kP c i 3))), (7, .int w7)]) dX16_mustBreak_117 (Nat.le_of_ble_eq_true rfl) rfl ?_
        refine zr_aload dX16_mustBreak_119 rfl ?_
        refine zr_getN (k := 1) (v := va_rf (kPr c i)) in_X2 (hS.bx hi) rfl (Nat.le_of_ble_eq_true rfl) q229 (.inl rfl) rfl dX16_mustBreak_121 ?_
        rw [show kPr c i = some (kA c (rB p)) from by unfold kPr; rw [hpp]; rfl]
        show zR _ _ _ _ _ _ _ _ _ [.ref (kA c (rB p))] _ _
        refine zr_astore (ls2 := [(0, .ref pa), (1, .ref x1), (2, .int y0), (3, .int (bI (m || pgOne c h tp b i y))), (4, .int (y - (kP c i 1))), (5, .ref (kA c (rB p))), (6, .int (y + (kP c i 3))), (7, .int w7)]) dX16_mustBreak_124 (Nat.le_of_ble_eq_true rfl) rfl ?_
        refine zr_goto (tgt := 8) dX16_mustBreak_126 (by decide) ?_
        refine zr_sub (ls2 := [(0, .ref pa), (1, .ref x1), (2, .int y0), (3, .int (bI (m || pgOne c h tp b i y))), (4, .int (y - (kP c i 1))), (5, .ref (kA c (rB p)))]) [0, 1, 2, 3, 4, 5] rfl ?_
        exact ih p _ _ (by omega) (by omega) kQ
      have key2 : ∀ z : Int32, z = bI (pgAv c h tp i y) → zR G yX16_mustBreak cX16_mustBreak 8 (Option.some Jvm.ClassFile.FieldType.boolean) [] d 68 [(0, .ref pa), (1, .ref x1), (2, .int y0), (3, .int (bI m)), (4, .int y), (5, .ref (kA c (rB i))), (6, .int (y + (kP c i 3)))] [.int z] σ Q := by
        intro z hz
        subst hz
        refine zr_istore (ls2 := [(0, .ref pa), (1, .ref x1), (2, .int y0), (3, .int (bI m)), (4, .int y), (5, .ref (kA c (rB i))), (6, .int (y + (kP c i 3))), (7, .int (bI (pgAv c h tp i y)))]) dX16_mustBreak_68 (Nat.le_of_ble_eq_true rfl) rfl ?_
        refine zr_iload_n dX16_mustBreak_70 rfl rfl ?_
        refine zr_aload_n dX16_mustBreak_71 rfl rfl ?_
        refine zr_get (k := 2) (v := .ref bg) in_X16 hp rfl (Nat.le_of_ble_eq_true rfl) q1995 (.inl rfl) rfl dX16_mustBreak_72 ?_
        refine zr_aload dX16_mustBreak_75 rfl ?_
        refine zr_getN (k := 0) (v := .int (nI i)) in_X2 (hS.bx hi) rfl (Nat.le_of_ble_eq_true rfl) q226 (.inl rfl) rfl dX16_mustBreak_77 ?_
        refine zr_zald (v := .int (bI (b i))) (.new hB.1) (vp_in_nI (by omega) (by omega)) (by rw [nI_clamp (by omega)]; rfl) dX16_mustBreak_80 ?_
        refine zr_ifneB (tgt := 103) dX16_mustBreak_81 (by decide) (fun hb => ?_) (fun hb => ?_)
        · refine zr_iconst (v := 0) dX16_mustBreak_103 (by decide) ?_
          exact key1 _ _ (by unfold pgOne; rw [hb]; rfl)
        · refine zr_aload dX16_mustBreak_84 rfl ?_
          refine zr_getN (k := 22) (v := .int (kF c i 22)) in_X2 (hS.bx hi) rfl (Nat.le_of_ble_eq_true rfl) q283 (.inl rfl) rfl dX16_mustBreak_86 ?_
          refine zr_bipush (v := 102) dX16_mustBreak_89 (by decide) ?_
          refine zr_icmp_eq (tgt := 99) dX16_mustBreak_91 (by decide) (fun h102 => ?_) (fun h102 => ?_)
          · refine zr_iconst (v := 1) dX16_mustBreak_99 (by decide) ?_
            refine zr_goto (tgt := 104) dX16_mustBreak_100 (by decide) ?_
            exact key1 _ _ (by unfold pgOne; rw [hb, decide_eq_true h102]; rfl)
          · refine zr_iload dX16_mustBreak_94 rfl ?_
            refine zr_ifeqB (tgt := 103) dX16_mustBreak_96 (by decide) (fun hav => ?_) (fun hav => ?_)
            · refine zr_iconst (v := 0) dX16_mustBreak_103 (by decide) ?_
              exact key1 _ _ (by unfold pgOne; rw [hav, Bool.or_false, decide_eq_false h102, Bool.and_false]; rfl)
            · refine zr_iconst (v := 1) dX16_mustBreak_99 (by decide) ?_
              refine zr_goto (tgt := 104) dX16_mustBreak_100 (by decide) ?_
              exact key1 _ _ (by unfold pgOne; rw [hb, hav, Bool.or_true]; rfl)
      refine zr_aload dX16_mustBreak_29 rfl ?_
      refine zr_getN (k := 22) (v := .int (kF c i 22)) in_X2 (hS.bx hi) rfl (Nat.le_of_ble_eq_true rfl) q283 (.inl rfl) rfl dX16_mustBreak_31 ?_
      refine zr_bipush (v := 118) dX16_mustBreak_34 (by decide) ?_
      refine zr_icmp_ne (tgt := 67) dX16_mustBreak_36 (by decide) (fun h118 => ?_) (fun h118 => ?_)
      · refine zr_iconst (v := 0) dX16_mustBreak_67 (by decide) ?_
        exact key2 _ (by unfold pgAv; rw [decide_eq_false h118]; rfl)
      · refine zr_aload_n dX16_mustBreak_39 rfl rfl ?_
        refine zr_iload dX16_mustBreak_40 rfl ?_
        refine zr_call1 (rest := []) (zs_V (As := [.int (y + (kP c i 3))]) (by omega) ok_X16_isLower q1951 q1953 qs33 q101 q1954 rfl hp rfl rfl rfl (Nat.le_of_ble_eq_true rfl) dX16_mustBreak_42) (c_X16_isLower hP) ?_
        refine zr_ifeqB (tgt := 67) dX16_mustBreak_45 (by decide) (fun hlo => ?_) (fun hlo => ?_)
        · refine zr_iconst (v := 0) dX16_mustBreak_67 (by decide) ?_
          exact key2 _ (by unfold pgAv; rw [hlo, Bool.false_and, Bool.and_false]; rfl)
        · refine zr_aload dX16_mustBreak_48 rfl ?_
          refine zr_getN (k := 24) (v := .ref (kA c (rP i))) in_X2 (hS.bx hi) rfl (Nat.le_of_ble_eq_true rfl) q291 (.inl rfl) rfl dX16_mustBreak_50 ?_
          refine zr_getN (k := 3) (v := .int (kP c i 3)) in_X3 (hS.pl hi) rfl (Nat.le_of_ble_eq_true rfl) q205 (.inl rfl) rfl dX16_mustBreak_53 ?_
          refine zr_aload_n dX16_mustBreak_56 rfl rfl ?_
          refine zr_get (k := 0) (v := .int h) in_X16 hp rfl (Nat.le_of_ble_eq_true rfl) q1992 (.inl rfl) rfl dX16_mustBreak_57 ?_
          refine zr_icmp_gt (tgt := 67) dX16_mustBreak_60 (by decide) (fun hgt => ?_) (fun hgt => ?_)
          · refine zr_iconst (v := 0) dX16_mustBreak_67 (by decide) ?_
            exact key2 _ (by unfold pgAv; rw [decide_eq_false (Int32.not_le.mpr hgt), Bool.and_false, Bool.and_false]; rfl)
          · refine zr_iconst (v := 1) dX16_mustBreak_63 (by decide) ?_
            refine zr_goto (tgt := 68) dX16_mustBreak_64 (by decide) ?_
            exact key2 _ (by unfold pgAv; rw [hlo, decide_eq_true (Int32.not_lt.mp hgt), decide_eq_true h118]; rfl)
set_option maxHeartbeats 4000000 in
theorem c_X16_mustBreak {G : zG} {σ : zT} {d : Nat} {c : zCS} {h pg tp : Int32} {pa ul bg : Nat} {fi : Bool} {b : Nat → Bool} {y : Int32} {i : Nat} (hd : 4 ≤ d) (hS : CSys G σ c) (hi : i < kN c) (hP : PgO G σ c h pa ul bg pg tp fi) (hB : PgB G σ bg b) : zC G I_X16_mustBreak d [.ref pa, .ref (kA c (rB i)), .int y] σ (.inl (some (.int (bI (pgMB c h tp b 24 i y false))))) σ := by
  refine zCall.exact (zCall_of (ls := [(0, .ref pa), (1, .ref (kA c (rB i))), (2, .int y)]) (by decide) (Nat.le_of_ble_eq_true rfl) rfl ?_)
  have hle := hS.le
  refine zr_iconst (v := 0) dX16_mustBreak_0 (by decide) ?_
  refine zr_istore_n (ls2 := [(0, .ref pa), (1, .ref (kA c (rB i))), (2, .int y), (3, .int 0)]) dX16_mustBreak_1 rfl (Nat.le_of_ble_eq_true rfl) rfl ?_
  refine zr_iload_n dX16_mustBreak_2 rfl rfl ?_
  refine zr_istore (ls2 := [(0, .ref pa), (1, .ref (kA c (rB i))), (2, .int y), (3, .int 0), (4, .int y)]) dX16_mustBreak_3 (Nat.le_of_ble_eq_true rfl) rfl ?_
  refine zr_aload_n dX16_mustBreak_5 rfl rfl ?_
  refine zr_astore (ls2 := [(0, .ref pa), (1, .ref (kA c (rB i))), (2, .int y), (3, .int 0), (4, .int y), (5, .ref (kA c (rB i)))]) dX16_mustBreak_6 (Nat.le_of_ble_eq_true rfl) rfl ?_
  exact l_X16_must hd hS hP hB 24 i y false (by omega) hi ⟨rfl, rfl⟩
