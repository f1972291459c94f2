/-! ===== the component: its state as a value (zCS), the store that holds it (CSys), the box getters (rows printed by tools/p50.py) ===== -/
/-- the component's state: how many boxes; where each thing lies (by its tag); the lists' modCounts (by tag); scalars (box, field); parents; children; words; what is placed (box, field: x, y, width, height, natural); lines (x, y, words); laidWidth; contexts -/
abbrev zCS : Type := Nat × (Nat → Nat) × (Nat → Int32) × (Nat → Nat → Int32) × (Nat → Option Nat) × (Nat → List Nat) × (Nat → List Int32) × (Nat → Nat → Int32) × (Nat → List (Int32 × Int32 × Int32)) × Int32 × Int32
def kN (c : zCS) : Nat := c.1
def kA (c : zCS) (t : Nat) : Nat := c.2.1 t
def kM (c : zCS) (t : Nat) : Int32 := c.2.2.1 t
def kF (c : zCS) (i k : Nat) : Int32 := c.2.2.2.1 i k
def kPar (c : zCS) (i : Nat) : Option Nat := c.2.2.2.2.1 i
def kCh (c : zCS) (i : Nat) : List Nat := c.2.2.2.2.2.1 i
def kWd (c : zCS) (i : Nat) : List Int32 := c.2.2.2.2.2.2.1 i
def kP (c : zCS) (i k : Nat) : Int32 := c.2.2.2.2.2.2.2.1 i k
def kLn (c : zCS) (i : Nat) : List (Int32 × Int32 × Int32) := c.2.2.2.2.2.2.2.2.1 i
def kLw (c : zCS) : Int32 := c.2.2.2.2.2.2.2.2.2.1
def kCt (c : zCS) : Int32 := c.2.2.2.2.2.2.2.2.2.2
/-- tags: 1 the component, 2 its list of boxes; of box i: itself, its children (list, array), its words, what is placed, its lines, the lines' objects -/
def rB (i : Nat) : Nat := 16 * i + 16
def rC (i : Nat) : Nat := 16 * i + 18
def rW (i : Nat) : Nat := 16 * i + 20
def rP (i : Nat) : Nat := 16 * i + 22
def rL (i : Nat) : Nat := 16 * i + 24
def rO (i : Nat) : Nat := 16 * i + 26
def kPr (c : zCS) (i : Nat) : Option Nat := (kPar c i).map (fun p => kA c (rB p))
def kBx (c : zCS) (i : Nat) : List Value := [.int (nI i), va_rf (kPr c i), .int (kF c i 2), .int (kF c i 3), .ref (kA c (rC i)), .ref (kA c (rW i)), .int (kF c i 6), .int (kF c i 7), .int (kF c i 8), .int (kF c i 9), .int (kF c i 10), .int (kF c i 11), .int (kF c i 12), .int (kF c i 13), .int (kF c i 14), .int (kF c i 15), .int (kF c i 16), .int (kF c i 17), .int (kF c i 18), .int (kF c i 19), .int (kF c i 20), .int (kF c i 21), .int (kF c i 22), .int (kF c i 23), .ref (kA c (rP i)), .int (kF c i 25), .ref (kA c 1)]
def kPl (c : zCS) (i : Nat) : List Value := [.int (kP c i 0), .int (kP c i 1), .int (kP c i 2), .int (kP c i 3), .int (kP c i 4), .ref (kA c (rL i))]
/-- the list l holds the lines ln, as objects of tag o -/
def zLn (G : zG) (σ : zT) (t o l : Nat) (ln : List (Int32 × Int32 × Int32)) : Prop := ∃ (mod : Int32) (xs : List Nat), zL G σ t l mod xs ∧ xs.length = ln.length ∧ ∀ (j q : Nat) (z : Int32 × Int32 × Int32), xs[j]? = some q → ln[j]? = some z → sF σ q = some (.inr (11, [.int z.1, .int z.2.1, .int z.2.2])) ∧ sT σ q = o
def CBox (G : zG) (σ : zT) (c : zCS) (i : Nat) : Prop :=
  (sF σ (kA c (rB i)) = some (.inr (2, kBx c i)) ∧ sT σ (kA c (rB i)) = rB i) ∧
  zL G σ (rC i) (kA c (rC i)) (kM c (rC i)) ((kCh c i).map (fun j => kA c (rB j))) ∧
  zL G σ (rW i) (kA c (rW i)) (kM c (rW i)) ((kWd c i).map (zbx G)) ∧
  (sF σ (kA c (rP i)) = some (.inr (3, kPl c i)) ∧ sT σ (kA c (rP i)) = rP i) ∧
  zLn G σ (rL i) (rO i) (kA c (rL i)) (kLn c i)
def btw (v lo hi : Int32) : Bool := decide (lo ≤ v) && decide (v ≤ hi)
/-- what a field of a box may hold -/
def KVal (k : Nat) (v : Int32) : Prop := match k with
  | 2 => v = 98 ∨ v = 116 ∨ v = 102 ∨ v = 103
  | 6 => btw v (-1) 400 = true
  | 7 => btw v (-1) 400 = true
  | 8 => btw v (-40) 40 = true
  | 9 => btw v (-40) 40 = true
  | 10 => btw v 0 40 = true
  | 11 => btw v 0 40 = true
  | 12 => btw v 0 20 = true
  | 13 => btw v 0 9 = true
  | 14 => btw v 0 9 = true
  | 15 => ∃ n, 1 ≤ n ∧ n ≤ 4 ∧ v = nI n
  | 16 => v = 110 ∨ v = 108 ∨ v = 114
  | 17 => v = 115 ∨ v = 114 ∨ v = 97
  | 18 => btw v (-100) 100 = true
  | 19 => btw v (-100) 100 = true
  | 20 => btw v (-5) 5 = true
  | 21 => v = 0 ∨ v = 1
  | 22 => v = 97 ∨ v = 102 ∨ v = 118
  | 23 => v = 108 ∨ v = 99 ∨ v = 114
  | _ => True
/-- what is always so of a box's own data -/
def KOk (c : zCS) (i : Nat) : Prop := (∀ p, kPar c i = some p → p < i) ∧ (∀ j, j ∈ kCh c i → (i < j ∧ j < kN c) ∧ kPar c j = some i) ∧ ((kCh c i).length ≤ 24 ∧ (kCh c i).Nodup) ∧ ((kWd c i).length ≤ 20 ∧ ∀ v, v ∈ kWd c i → ∃ n, 1 ≤ n ∧ n ≤ 60 ∧ v = nI n) ∧ ∀ k, KVal k (kF c i k)
def KWf (c : zCS) : Prop := kN c ≤ 24 ∧ ∀ i, i < kN c → KOk c i
/-- the store holds the component -/
def CSys (G : zG) (σ : zT) (c : zCS) : Prop :=
  (sF σ (kA c 1) = some (.inr (1, [.ref (kA c 2), .int (kLw c), .int (kCt c)])) ∧ sT σ (kA c 1) = 1) ∧
  zL G σ 2 (kA c 2) (kM c 2) ((List.range (kN c)).map (fun j => kA c (rB j))) ∧
  (∀ i, i < kN c → CBox G σ c i) ∧ KWf c
theorem CSys.bx {G : zG} {σ : zT} {c : zCS} (h : CSys G σ c) {i : Nat} (hi : i < kN c) : zAt G σ (kA c (rB i)) (.inr (2, kBx c i)) := .new (h.2.2.1 i hi).1.1
theorem CSys.pl {G : zG} {σ : zT} {c : zCS} (h : CSys G σ c) {i : Nat} (hi : i < kN c) : zAt G σ (kA c (rP i)) (.inr (3, kPl c i)) := .new (h.2.2.1 i hi).2.2.2.1.1
theorem CSys.parlt {G : zG} {σ : zT} {c : zCS} (h : CSys G σ c) {i p : Nat} (hi : i < kN c) (hp : kPar c i = some p) : p < i := (h.2.2.2.2 i hi).1 p hp
theorem CSys.par {G : zG} {σ : zT} {c : zCS} (h : CSys G σ c) {i p : Nat} (hi : i < kN c) (hp : kPar c i = some p) : p < kN c := Nat.lt_trans (h.parlt hi hp) hi
theorem CSys.le {G : zG} {σ : zT} {c : zCS} (h : CSys G σ c) : kN c ≤ 24 := h.2.2.2.1
theorem CSys.ch {G : zG} {σ : zT} {c : zCS} (h : CSys G σ c) {i j : Nat} (hi : i < kN c) (hj : j ∈ kCh c i) : i < j ∧ j < kN c := ((h.2.2.2.2 i hi).2.1 j hj).1
theorem CSys.chl {G : zG} {σ : zT} {c : zCS} (h : CSys G σ c) {i : Nat} (hi : i < kN c) : (kCh c i).length ≤ 24 := (h.2.2.2.2 i hi).2.2.1.1
theorem CSys.wd {G : zG} {σ : zT} {c : zCS} (h : CSys G σ c) {i : Nat} (hi : i < kN c) : (kWd c i).length ≤ 20 ∧ ∀ v, v ∈ kWd c i → ∃ n, 1 ≤ n ∧ n ≤ 60 ∧ v = nI n := (h.2.2.2.2 i hi).2.2.2.1
theorem CSys.col {G : zG} {σ : zT} {c : zCS} (h : CSys G σ c) {i : Nat} (hi : i < kN c) : ∃ n, 1 ≤ n ∧ n ≤ 4 ∧ kF c i 15 = nI n := (h.2.2.2.2 i hi).2.2.2.2 15
theorem CSys.sd {G : zG} {σ : zT} {c : zCS} (h : CSys G σ c) {i : Nat} (hi : i < kN c) : kF c i 16 = 110 ∨ kF c i 16 = 108 ∨ kF c i 16 = 114 := (h.2.2.2.2 i hi).2.2.2.2 16
theorem CSys.val {G : zG} {σ : zT} {c : zCS} (h : CSys G σ c) {i : Nat} (hi : i < kN c) (k : Nat) : KVal k (kF c i k) := (h.2.2.2.2 i hi).2.2.2.2 k
theorem CSys.el {G : zG} {σ : zT} {c : zCS} (h : CSys G σ c) {i : Nat} (hi : i < kN c) : zEl G σ (kA c (rB i)) := ⟨_, _, _, _, _, h.bx hi, rfl, q2847⟩
def kRoot (c : zCS) (i : Nat) : Bool := (kPar c i).isNone
def kText (c : zCS) (i : Nat) : Bool := decide (kF c i 2 = 116)
def kItems (c : zCS) (i : Nat) : Bool := decide (kF c i 2 = 102) || decide (kF c i 2 = 103)
def kLifted (c : zCS) (i : Nat) : Bool := !kRoot c i && decide (kF c i 17 = 97)
def kItem (c : zCS) (i : Nat) : Bool := match kPar c i with
  | none => false
  | some p => kItems c p && !kLifted c i
def kFloat (c : zCS) (i : Nat) : Bool := !kRoot c i && !decide (kF c i 16 = 110) && !kLifted c i && !kItem c i
def kFlow (c : zCS) (i : Nat) : Bool := !kRoot c i && !kLifted c i && !kItem c i && !kFloat c i
def kUpper (c : zCS) (i : Nat) : Int32 := if kFlow c i = true then kF c i 8 else imax 0 (kF c i 8)
def kLower (c : zCS) (i : Nat) : Int32 := if kFlow c i = true then kF c i 9 else imax 0 (kF c i 9)
def kTold (c : zCS) (i : Nat) : Int32 := if kRoot c i = true then -1 else kF c i 6
def kSides (c : zCS) (i : Nat) : Int32 := kF c i 10 + kF c i 11
def kEnds (c : zCS) (i : Nat) : Int32 := kUpper c i + kLower c i
def kInner (c : zCS) (i : Nat) : Int32 := imax 0 (kP c i 2 - 2 * kF c i 12)
def kShifted (c : zCS) (i : Nat) : Bool := !kRoot c i && decide (kF c i 17 = 114)
theorem kPr_none {c : zCS} {i : Nat} (h : kPr c i = none) : kPar c i = none := by
  unfold kPr at h
  cases hp : kPar c i with
  | none => rfl
  | some p => rw [hp] at h; cases h
theorem kPr_some {c : zCS} {i a : Nat} (h : kPr c i = some a) : ∃ p, kPar c i = some p ∧ a = kA c (rB p) := by
  unfold kPr at h
  cases hp : kPar c i with
  | none => rw [hp] at h; cases h
  | some p => rw [hp] at h; exact ⟨p, rfl, (Option.some.inj h).symm⟩

set_option maxHeartbeats 4000000 in
theorem c_X2_isRoot {G : zG} {σ : zT} {d : Nat} {c : zCS} {i : Nat} (hd : 1 ≤ d) (hS : CSys G σ c) (hi : i < kN c) : zC G I_X2_isRoot d [.ref (kA c (rB i))] σ (.inl (some (.int (bI (kRoot c i))))) σ := by
  refine zCall.exact (zCall_of (ls := [(0, .ref (kA c (rB i)))]) (by decide) (Nat.le_of_ble_eq_true rfl) rfl ?_)
  refine zr_aload_n dX2_isRoot_0 rfl rfl ?_
  refine zr_get (k := 1) (v := va_rf (kPr c i)) in_X2 (hS.bx hi) rfl (Nat.le_of_ble_eq_true rfl) q228 (.inl rfl) rfl dX2_isRoot_1 ?_
  refine zr_ifnonnullR (x := (kPr c i)) (tgt := 11) dX2_isRoot_4 (by decide) (fun a_h h => ?_) (fun h => ?_)
  · obtain ⟨p, hp, -⟩ := kPr_some h
    refine zr_iconst (v := 0) dX2_isRoot_11 (by decide) ?_
    exact zr_iret rfl rfl dX2_isRoot_12 (⟨by rw [show kRoot c i = false from by simp [kRoot, hp]]; rfl, rfl⟩)
  · refine zr_iconst (v := 1) dX2_isRoot_7 (by decide) ?_
    refine zr_goto (tgt := 12) dX2_isRoot_8 (by decide) ?_
    exact zr_iret rfl rfl dX2_isRoot_12 (⟨by rw [show kRoot c i = true from by simp [kRoot, kPr_none h]]; rfl, rfl⟩)
set_option maxHeartbeats 4000000 in
theorem c_X2_isText {G : zG} {σ : zT} {d : Nat} {c : zCS} {i : Nat} (hd : 1 ≤ d) (hS : CSys G σ c) (hi : i < kN c) : zC G I_X2_isText d [.ref (kA c (rB i))] σ (.inl (some (.int (bI (kText c i))))) σ := by
  refine zCall.exact (zCall_of (ls := [(0, .ref (kA c (rB i)))]) (by decide) (Nat.le_of_ble_eq_true rfl) rfl ?_)
  refine zr_aload_n dX2_isText_0 rfl rfl ?_
  refine zr_get (k := 2) (v := .int (kF c i 2)) in_X2 (hS.bx hi) rfl (Nat.le_of_ble_eq_true rfl) q230 (.inl rfl) rfl dX2_isText_1 ?_
  refine zr_bipush (v := 116) dX2_isText_4 (by decide) ?_
  refine zr_icmp_ne (tgt := 13) dX2_isText_6 (by decide) (fun c_1 => ?_) (fun c_1 => ?_)
  · refine zr_iconst (v := 0) dX2_isText_13 (by decide) ?_
    exact zr_iret rfl rfl dX2_isText_14 (⟨by rw [show kText c i = false from by simp [kText, c_1]]; rfl, rfl⟩)
  · refine zr_iconst (v := 1) dX2_isText_9 (by decide) ?_
    refine zr_goto (tgt := 14) dX2_isText_10 (by decide) ?_
    exact zr_iret rfl rfl dX2_isText_14 (⟨by rw [show kText c i = true from by simp [kText, c_1]]; rfl, rfl⟩)
set_option maxHeartbeats 4000000 in
theorem c_X2_isItems {G : zG} {σ : zT} {d : Nat} {c : zCS} {i : Nat} (hd : 1 ≤ d) (hS : CSys G σ c) (hi : i < kN c) : zC G I_X2_isItems d [.ref (kA c (rB i))] σ (.inl (some (.int (bI (kItems c i))))) σ := by
  refine zCall.exact (zCall_of (ls := [(0, .ref (kA c (rB i)))]) (by decide) (Nat.le_of_ble_eq_true rfl) rfl ?_)
  refine zr_aload_n dX2_isItems_0 rfl rfl ?_
  refine zr_get (k := 2) (v := .int (kF c i 2)) in_X2 (hS.bx hi) rfl (Nat.le_of_ble_eq_true rfl) q230 (.inl rfl) rfl dX2_isItems_1 ?_
  refine zr_bipush (v := 102) dX2_isItems_4 (by decide) ?_
  refine zr_icmp_eq (tgt := 18) dX2_isItems_6 (by decide) (fun c_1 => ?_) (fun c_1 => ?_)
  · refine zr_iconst (v := 1) dX2_isItems_18 (by decide) ?_
    refine zr_goto (tgt := 23) dX2_isItems_19 (by decide) ?_
    exact zr_iret rfl rfl dX2_isItems_23 (⟨by rw [show kItems c i = true from by simp [kItems, c_1]]; rfl, rfl⟩)
  · refine zr_aload_n dX2_isItems_9 rfl rfl ?_
    refine zr_get (k := 2) (v := .int (kF c i 2)) in_X2 (hS.bx hi) rfl (Nat.le_of_ble_eq_true rfl) q230 (.inl rfl) rfl dX2_isItems_10 ?_
    refine zr_bipush (v := 103) dX2_isItems_13 (by decide) ?_
    refine zr_icmp_ne (tgt := 22) dX2_isItems_15 (by decide) (fun c_2 => ?_) (fun c_2 => ?_)
    · refine zr_iconst (v := 0) dX2_isItems_22 (by decide) ?_
      exact zr_iret rfl rfl dX2_isItems_23 (⟨by rw [show kItems c i = false from by simp [kItems, c_1, c_2]]; rfl, rfl⟩)
    · refine zr_iconst (v := 1) dX2_isItems_18 (by decide) ?_
      refine zr_goto (tgt := 23) dX2_isItems_19 (by decide) ?_
      exact zr_iret rfl rfl dX2_isItems_23 (⟨by rw [show kItems c i = true from by simp [kItems, c_1, c_2]]; rfl, rfl⟩)
set_option maxHeartbeats 4000000 in
theorem c_X2_isLifted {G : zG} {σ : zT} {d : Nat} {c : zCS} {i : Nat} (hd : 2 ≤ d) (hS : CSys G σ c) (hi : i < kN c) : zC G I_X2_isLifted d [.ref (kA c (rB i))] σ (.inl (some (.int (bI (kLifted c i))))) σ := by
  refine zCall.exact (zCall_of (ls := [(0, .ref (kA c (rB i)))]) (by decide) (Nat.le_of_ble_eq_true rfl) rfl ?_)
  refine zr_aload_n dX2_isLifted_0 rfl rfl ?_
  refine zr_call1 (rest := []) (zs_V (As := []) (by omega) ok_X2_isRoot q1128 q1129 q1130 q57 q1131 rfl (hS.bx hi) rfl rfl rfl (Nat.le_of_ble_eq_true rfl) dX2_isLifted_1) (c_X2_isRoot (by omega) hS hi) ?_
  refine zr_ifneB (tgt := 20) dX2_isLifted_4 (by decide) (fun c_1 => ?_) (fun c_1 => ?_)
  · refine zr_iconst (v := 0) dX2_isLifted_20 (by decide) ?_
    exact zr_iret rfl rfl dX2_isLifted_21 (⟨by rw [show kLifted c i = false from by simp [kLifted, c_1]]; rfl, rfl⟩)
  · refine zr_aload_n dX2_isLifted_7 rfl rfl ?_
    refine zr_get (k := 17) (v := .int (kF c i 17)) in_X2 (hS.bx hi) rfl (Nat.le_of_ble_eq_true rfl) q272 (.inl rfl) rfl dX2_isLifted_8 ?_
    refine zr_bipush (v := 97) dX2_isLifted_11 (by decide) ?_
    refine zr_icmp_ne (tgt := 20) dX2_isLifted_13 (by decide) (fun c_2 => ?_) (fun c_2 => ?_)
    · refine zr_iconst (v := 0) dX2_isLifted_20 (by decide) ?_
      exact zr_iret rfl rfl dX2_isLifted_21 (⟨by rw [show kLifted c i = false from by simp [kLifted, c_1, c_2]]; rfl, rfl⟩)
    · refine zr_iconst (v := 1) dX2_isLifted_16 (by decide) ?_
      refine zr_goto (tgt := 21) dX2_isLifted_17 (by decide) ?_
      exact zr_iret rfl rfl dX2_isLifted_21 (⟨by rw [show kLifted c i = true from by simp [kLifted, c_1, c_2]]; rfl, rfl⟩)
set_option maxHeartbeats 4000000 in
theorem c_X2_isItem {G : zG} {σ : zT} {d : Nat} {c : zCS} {i : Nat} (hd : 3 ≤ d) (hS : CSys G σ c) (hi : i < kN c) : zC G I_X2_isItem d [.ref (kA c (rB i))] σ (.inl (some (.int (bI (kItem c i))))) σ := by
  refine zCall.exact (zCall_of (ls := [(0, .ref (kA c (rB i)))]) (by decide) (Nat.le_of_ble_eq_true rfl) rfl ?_)
  refine zr_aload_n dX2_isItem_0 rfl rfl ?_
  refine zr_call1 (rest := []) (zs_V (As := []) (by omega) ok_X2_isRoot q1128 q1129 q1130 q57 q1131 rfl (hS.bx hi) rfl rfl rfl (Nat.le_of_ble_eq_true rfl) dX2_isItem_1) (c_X2_isRoot (by omega) hS hi) ?_
  refine zr_ifneB (tgt := 28) dX2_isItem_4 (by decide) (fun h => ?_) (fun h => ?_)
  · refine zr_iconst (v := 0) dX2_isItem_28 (by decide) ?_
    exact zr_iret rfl rfl dX2_isItem_29 (⟨by rw [show kItem c i = false from by simp only [kItem]; cases hp : kPar c i with | none => rfl | some p => simp [kRoot, hp] at h]; rfl, rfl⟩)
  · obtain ⟨p, hp⟩ : ∃ p, kPar c i = some p := by
      cases hp : kPar c i with
      | none => simp [kRoot, hp] at h
      | some p => exact ⟨p, rfl⟩
    have hpr : kPr c i = some (kA c (rB p)) := by simp [kPr, hp]
    have hpn := hS.par hi hp
    refine zr_aload_n dX2_isItem_7 rfl rfl ?_
    refine zr_get (k := 1) (v := va_rf (kPr c i)) in_X2 (hS.bx hi) rfl (Nat.le_of_ble_eq_true rfl) q228 (.inl rfl) rfl dX2_isItem_8 ?_
    rw [hpr]
    show zR _ _ _ _ _ _ _ _ _ [.ref (kA c (rB p))] _ _
    refine zr_call1 (rest := []) (zs_V (As := []) (by omega) ok_X2_isItems q1222 q1223 q1224 q57 q1225 rfl (hS.bx hpn) rfl rfl rfl (Nat.le_of_ble_eq_true rfl) dX2_isItem_11) (c_X2_isItems (by omega) hS hpn) ?_
    refine zr_ifeqB (tgt := 28) dX2_isItem_14 (by decide) (fun h2 => ?_) (fun h2 => ?_)
    · refine zr_iconst (v := 0) dX2_isItem_28 (by decide) ?_
      exact zr_iret rfl rfl dX2_isItem_29 (⟨by rw [show kItem c i = false from by simp [kItem, hp, h2]]; rfl, rfl⟩)
    · refine zr_aload_n dX2_isItem_17 rfl rfl ?_
      refine zr_call1 (rest := []) (zs_V (As := []) (by omega) ok_X2_isLifted q1217 q1125 q1126 q57 q1127 rfl (hS.bx hi) rfl rfl rfl (Nat.le_of_ble_eq_true rfl) dX2_isItem_18) (c_X2_isLifted (by omega) hS hi) ?_
      refine zr_ifneB (tgt := 28) dX2_isItem_21 (by decide) (fun h3 => ?_) (fun h3 => ?_)
      · refine zr_iconst (v := 0) dX2_isItem_28 (by decide) ?_
        exact zr_iret rfl rfl dX2_isItem_29 (⟨by rw [show kItem c i = false from by simp [kItem, hp, h2, h3]]; rfl, rfl⟩)
      · refine zr_iconst (v := 1) dX2_isItem_24 (by decide) ?_
        refine zr_goto (tgt := 29) dX2_isItem_25 (by decide) ?_
        exact zr_iret rfl rfl dX2_isItem_29 (⟨by rw [show kItem c i = true from by simp [kItem, hp, h2, h3]]; rfl, rfl⟩)
set_option maxHeartbeats 4000000 in
theorem c_X2_isFloat {G : zG} {σ : zT} {d : Nat} {c : zCS} {i : Nat} (hd : 4 ≤ d) (hS : CSys G σ c) (hi : i < kN c) : zC G I_X2_isFloat d [.ref (kA c (rB i))] σ (.inl (some (.int (bI (kFloat c i))))) σ := by
  refine zCall.exact (zCall_of (ls := [(0, .ref (kA c (rB i)))]) (by decide) (Nat.le_of_ble_eq_true rfl) rfl ?_)
  refine zr_aload_n dX2_isFloat_0 rfl rfl ?_
  refine zr_call1 (rest := []) (zs_V (As := []) (by omega) ok_X2_isRoot q1128 q1129 q1130 q57 q1131 rfl (hS.bx hi) rfl rfl rfl (Nat.le_of_ble_eq_true rfl) dX2_isFloat_1) (c_X2_isRoot (by omega) hS hi) ?_
  refine zr_ifneB (tgt := 34) dX2_isFloat_4 (by decide) (fun c_1 => ?_) (fun c_1 => ?_)
  · refine zr_iconst (v := 0) dX2_isFloat_34 (by decide) ?_
    exact zr_iret rfl rfl dX2_isFloat_35 (⟨by rw [show kFloat c i = false from by simp [kFloat, c_1]]; rfl, rfl⟩)
  · refine zr_aload_n dX2_isFloat_7 rfl rfl ?_
    refine zr_get (k := 16) (v := .int (kF c i 16)) in_X2 (hS.bx hi) rfl (Nat.le_of_ble_eq_true rfl) q269 (.inl rfl) rfl dX2_isFloat_8 ?_
    refine zr_bipush (v := 110) dX2_isFloat_11 (by decide) ?_
    refine zr_icmp_eq (tgt := 34) dX2_isFloat_13 (by decide) (fun c_2 => ?_) (fun c_2 => ?_)
    · refine zr_iconst (v := 0) dX2_isFloat_34 (by decide) ?_
      exact zr_iret rfl rfl dX2_isFloat_35 (⟨by rw [show kFloat c i = false from by simp [kFloat, c_1, c_2]]; rfl, rfl⟩)
    · refine zr_aload_n dX2_isFloat_16 rfl rfl ?_
      refine zr_call1 (rest := []) (zs_V (As := []) (by omega) ok_X2_isLifted q1217 q1125 q1126 q57 q1127 rfl (hS.bx hi) rfl rfl rfl (Nat.le_of_ble_eq_true rfl) dX2_isFloat_17) (c_X2_isLifted (by omega) hS hi) ?_
      refine zr_ifneB (tgt := 34) dX2_isFloat_20 (by decide) (fun c_3 => ?_) (fun c_3 => ?_)
      · refine zr_iconst (v := 0) dX2_isFloat_34 (by decide) ?_
        exact zr_iret rfl rfl dX2_isFloat_35 (⟨by rw [show kFloat c i = false from by simp [kFloat, c_1, c_2, c_3]]; rfl, rfl⟩)
      · refine zr_aload_n dX2_isFloat_23 rfl rfl ?_
        refine zr_call1 (rest := []) (zs_V (As := []) (by omega) ok_X2_isItem q1218 q1219 q1220 q57 q1221 rfl (hS.bx hi) rfl rfl rfl (Nat.le_of_ble_eq_true rfl) dX2_isFloat_24) (c_X2_isItem (by omega) hS hi) ?_
        refine zr_ifneB (tgt := 34) dX2_isFloat_27 (by decide) (fun c_4 => ?_) (fun c_4 => ?_)
        · refine zr_iconst (v := 0) dX2_isFloat_34 (by decide) ?_
          exact zr_iret rfl rfl dX2_isFloat_35 (⟨by rw [show kFloat c i = false from by simp [kFloat, c_1, c_2, c_3, c_4]]; rfl, rfl⟩)
        · refine zr_iconst (v := 1) dX2_isFloat_30 (by decide) ?_
          refine zr_goto (tgt := 35) dX2_isFloat_31 (by decide) ?_
          exact zr_iret rfl rfl dX2_isFloat_35 (⟨by rw [show kFloat c i = true from by simp [kFloat, c_1, c_2, c_3, c_4]]; rfl, rfl⟩)
set_option maxHeartbeats 4000000 in
theorem c_X2_isInFlow {G : zG} {σ : zT} {d : Nat} {c : zCS} {i : Nat} (hd : 5 ≤ d) (hS : CSys G σ c) (hi : i < kN c) : zC G I_X2_isInFlow d [.ref (kA c (rB i))] σ (.inl (some (.int (bI (kFlow c i))))) σ := by
  refine zCall.exact (zCall_of (ls := [(0, .ref (kA c (rB i)))]) (by decide) (Nat.le_of_ble_eq_true rfl) rfl ?_)
  refine zr_aload_n dX2_isInFlow_0 rfl rfl ?_
  refine zr_call1 (rest := []) (zs_V (As := []) (by omega) ok_X2_isRoot q1128 q1129 q1130 q57 q1131 rfl (hS.bx hi) rfl rfl rfl (Nat.le_of_ble_eq_true rfl) dX2_isInFlow_1) (c_X2_isRoot (by omega) hS hi) ?_
  refine zr_ifneB (tgt := 32) dX2_isInFlow_4 (by decide) (fun c_1 => ?_) (fun c_1 => ?_)
  · refine zr_iconst (v := 0) dX2_isInFlow_32 (by decide) ?_
    exact zr_iret rfl rfl dX2_isInFlow_33 (⟨by rw [show kFlow c i = false from by simp [kFlow, c_1]]; rfl, rfl⟩)
  · refine zr_aload_n dX2_isInFlow_7 rfl rfl ?_
    refine zr_call1 (rest := []) (zs_V (As := []) (by omega) ok_X2_isLifted q1217 q1125 q1126 q57 q1127 rfl (hS.bx hi) rfl rfl rfl (Nat.le_of_ble_eq_true rfl) dX2_isInFlow_8) (c_X2_isLifted (by omega) hS hi) ?_
    refine zr_ifneB (tgt := 32) dX2_isInFlow_11 (by decide) (fun c_2 => ?_) (fun c_2 => ?_)
    · refine zr_iconst (v := 0) dX2_isInFlow_32 (by decide) ?_
      exact zr_iret rfl rfl dX2_isInFlow_33 (⟨by rw [show kFlow c i = false from by simp [kFlow, c_1, c_2]]; rfl, rfl⟩)
    · refine zr_aload_n dX2_isInFlow_14 rfl rfl ?_
      refine zr_call1 (rest := []) (zs_V (As := []) (by omega) ok_X2_isItem q1218 q1219 q1220 q57 q1221 rfl (hS.bx hi) rfl rfl rfl (Nat.le_of_ble_eq_true rfl) dX2_isInFlow_15) (c_X2_isItem (by omega) hS hi) ?_
      refine zr_ifneB (tgt := 32) dX2_isInFlow_18 (by decide) (fun c_3 => ?_) (fun c_3 => ?_)
      · refine zr_iconst (v := 0) dX2_isInFlow_32 (by decide) ?_
        exact zr_iret rfl rfl dX2_isInFlow_33 (⟨by rw [show kFlow c i = false from by simp [kFlow, c_1, c_2, c_3]]; rfl, rfl⟩)
      · refine zr_aload_n dX2_isInFlow_21 rfl rfl ?_
        refine zr_call1 (rest := []) (zs_V (As := []) (by omega) ok_X2_isFloat q1226 q1227 q1228 q57 q1229 rfl (hS.bx hi) rfl rfl rfl (Nat.le_of_ble_eq_true rfl) dX2_isInFlow_22) (c_X2_isFloat (by omega) hS hi) ?_
        refine zr_ifneB (tgt := 32) dX2_isInFlow_25 (by decide) (fun c_4 => ?_) (fun c_4 => ?_)
        · refine zr_iconst (v := 0) dX2_isInFlow_32 (by decide) ?_
          exact zr_iret rfl rfl dX2_isInFlow_33 (⟨by rw [show kFlow c i = false from by simp [kFlow, c_1, c_2, c_3, c_4]]; rfl, rfl⟩)
        · refine zr_iconst (v := 1) dX2_isInFlow_28 (by decide) ?_
          refine zr_goto (tgt := 33) dX2_isInFlow_29 (by decide) ?_
          exact zr_iret rfl rfl dX2_isInFlow_33 (⟨by rw [show kFlow c i = true from by simp [kFlow, c_1, c_2, c_3, c_4]]; rfl, rfl⟩)
set_option maxHeartbeats 4000000 in
theorem c_X2_isApart {G : zG} {σ : zT} {d : Nat} {c : zCS} {i : Nat} (hd : 6 ≤ d) (hS : CSys G σ c) (hi : i < kN c) : zC G I_X2_isApart d [.ref (kA c (rB i))] σ (.inl (some (.int (bI (!kFlow c i))))) σ := by
  refine zCall.exact (zCall_of (ls := [(0, .ref (kA c (rB i)))]) (by decide) (Nat.le_of_ble_eq_true rfl) rfl ?_)
  refine zr_aload_n dX2_isApart_0 rfl rfl ?_
  refine zr_call1 (rest := []) (zs_V (As := []) (by omega) ok_X2_isInFlow q1213 q1214 q1215 q57 q1216 rfl (hS.bx hi) rfl rfl rfl (Nat.le_of_ble_eq_true rfl) dX2_isApart_1) (c_X2_isInFlow (by omega) hS hi) ?_
  refine zr_ifneB (tgt := 11) dX2_isApart_4 (by decide) (fun c_1 => ?_) (fun c_1 => ?_)
  · refine zr_iconst (v := 0) dX2_isApart_11 (by decide) ?_
    exact zr_iret rfl rfl dX2_isApart_12 (⟨by rw [c_1]; rfl, rfl⟩)
  · refine zr_iconst (v := 1) dX2_isApart_7 (by decide) ?_
    refine zr_goto (tgt := 12) dX2_isApart_8 (by decide) ?_
    exact zr_iret rfl rfl dX2_isApart_12 (⟨by rw [c_1]; rfl, rfl⟩)
set_option maxHeartbeats 4000000 in
theorem c_X2_upper {G : zG} {σ : zT} {d : Nat} {c : zCS} {i : Nat} (hd : 7 ≤ d) (hS : CSys G σ c) (hi : i < kN c) : zC G I_X2_upper d [.ref (kA c (rB i))] σ (.inl (some (.int (kUpper c i)))) σ := by
  refine zCall.exact (zCall_of (ls := [(0, .ref (kA c (rB i)))]) (by decide) (Nat.le_of_ble_eq_true rfl) rfl ?_)
  refine zr_aload_n dX2_upper_0 rfl rfl ?_
  refine zr_call1 (rest := []) (zs_V (As := []) (by omega) ok_X2_isApart q1209 q1211 qs16 q57 q1212 rfl (hS.bx hi) rfl rfl rfl (Nat.le_of_ble_eq_true rfl) dX2_upper_1) (c_X2_isApart (by omega) hS hi) ?_
  refine zr_ifeqB (tgt := 18) dX2_upper_4 (by decide) (fun c_1 => ?_) (fun c_1 => ?_)
  · refine zr_aload_n dX2_upper_18 rfl rfl ?_
    refine zr_get (k := 8) (v := .int (kF c i 8)) in_X2 (hS.bx hi) rfl (Nat.le_of_ble_eq_true rfl) q248 (.inl rfl) rfl dX2_upper_19 ?_
    exact zr_iret rfl rfl dX2_upper_22 (⟨by simp at c_1; simp [kUpper, c_1], rfl⟩)
  · refine zr_iconst (v := 0) dX2_upper_7 (by decide) ?_
    refine zr_aload_n dX2_upper_8 rfl rfl ?_
    refine zr_get (k := 8) (v := .int (kF c i 8)) in_X2 (hS.bx hi) rfl (Nat.le_of_ble_eq_true rfl) q248 (.inl rfl) rfl dX2_upper_9 ?_
    refine zr_max (by omega) q1138 q376 q60 q377 (Nat.le_of_ble_eq_true rfl) dX2_upper_12 ?_
    refine zr_goto (tgt := 22) dX2_upper_15 (by decide) ?_
    exact zr_iret rfl rfl dX2_upper_22 (⟨by simp at c_1; simp [kUpper, c_1], rfl⟩)
set_option maxHeartbeats 4000000 in
theorem c_X2_lower {G : zG} {σ : zT} {d : Nat} {c : zCS} {i : Nat} (hd : 7 ≤ d) (hS : CSys G σ c) (hi : i < kN c) : zC G I_X2_lower d [.ref (kA c (rB i))] σ (.inl (some (.int (kLower c i)))) σ := by
  refine zCall.exact (zCall_of (ls := [(0, .ref (kA c (rB i)))]) (by decide) (Nat.le_of_ble_eq_true rfl) rfl ?_)
  refine zr_aload_n dX2_lower_0 rfl rfl ?_
  refine zr_call1 (rest := []) (zs_V (As := []) (by omega) ok_X2_isApart q1209 q1211 qs16 q57 q1212 rfl (hS.bx hi) rfl rfl rfl (Nat.le_of_ble_eq_true rfl) dX2_lower_1) (c_X2_isApart (by omega) hS hi) ?_
  refine zr_ifeqB (tgt := 18) dX2_lower_4 (by decide) (fun c_1 => ?_) (fun c_1 => ?_)
  · refine zr_aload_n dX2_lower_18 rfl rfl ?_
    refine zr_get (k := 9) (v := .int (kF c i 9)) in_X2 (hS.bx hi) rfl (Nat.le_of_ble_eq_true rfl) q250 (.inl rfl) rfl dX2_lower_19 ?_
    exact zr_iret rfl rfl dX2_lower_22 (⟨by simp at c_1; simp [kLower, c_1], rfl⟩)
  · refine zr_iconst (v := 0) dX2_lower_7 (by decide) ?_
    refine zr_aload_n dX2_lower_8 rfl rfl ?_
    refine zr_get (k := 9) (v := .int (kF c i 9)) in_X2 (hS.bx hi) rfl (Nat.le_of_ble_eq_true rfl) q250 (.inl rfl) rfl dX2_lower_9 ?_
    refine zr_max (by omega) q1138 q376 q60 q377 (Nat.le_of_ble_eq_true rfl) dX2_lower_12 ?_
    refine zr_goto (tgt := 22) dX2_lower_15 (by decide) ?_
    exact zr_iret rfl rfl dX2_lower_22 (⟨by simp at c_1; simp [kLower, c_1], rfl⟩)
set_option maxHeartbeats 4000000 in
theorem c_X2_told {G : zG} {σ : zT} {d : Nat} {c : zCS} {i : Nat} (hd : 2 ≤ d) (hS : CSys G σ c) (hi : i < kN c) : zC G I_X2_told d [.ref (kA c (rB i))] σ (.inl (some (.int (kTold c i)))) σ := by
  refine zCall.exact (zCall_of (ls := [(0, .ref (kA c (rB i)))]) (by decide) (Nat.le_of_ble_eq_true rfl) rfl ?_)
  refine zr_aload_n dX2_told_0 rfl rfl ?_
  refine zr_call1 (rest := []) (zs_V (As := []) (by omega) ok_X2_isRoot q1128 q1129 q1130 q57 q1131 rfl (hS.bx hi) rfl rfl rfl (Nat.le_of_ble_eq_true rfl) dX2_told_1) (c_X2_isRoot (by omega) hS hi) ?_
  refine zr_ifeqB (tgt := 11) dX2_told_4 (by decide) (fun c_1 => ?_) (fun c_1 => ?_)
  · refine zr_aload_n dX2_told_11 rfl rfl ?_
    refine zr_get (k := 6) (v := .int (kF c i 6)) in_X2 (hS.bx hi) rfl (Nat.le_of_ble_eq_true rfl) q242 (.inl rfl) rfl dX2_told_12 ?_
    exact zr_iret rfl rfl dX2_told_15 (⟨by simp [kTold, c_1], rfl⟩)
  · refine zr_iconst (v := (-1)) dX2_told_7 (by decide) ?_
    refine zr_goto (tgt := 15) dX2_told_8 (by decide) ?_
    exact zr_iret rfl rfl dX2_told_15 (⟨by simp [kTold, c_1], rfl⟩)
set_option maxHeartbeats 4000000 in
theorem c_X2_sides {G : zG} {σ : zT} {d : Nat} {c : zCS} {i : Nat} (hd : 1 ≤ d) (hS : CSys G σ c) (hi : i < kN c) : zC G I_X2_sides d [.ref (kA c (rB i))] σ (.inl (some (.int (kSides c i)))) σ := by
  refine zCall.exact (zCall_of (ls := [(0, .ref (kA c (rB i)))]) (by decide) (Nat.le_of_ble_eq_true rfl) rfl ?_)
  refine zr_aload_n dX2_sides_0 rfl rfl ?_
  refine zr_get (k := 10) (v := .int (kF c i 10)) in_X2 (hS.bx hi) rfl (Nat.le_of_ble_eq_true rfl) q255 (.inl rfl) rfl dX2_sides_1 ?_
  refine zr_aload_n dX2_sides_4 rfl rfl ?_
  refine zr_get (k := 11) (v := .int (kF c i 11)) in_X2 (hS.bx hi) rfl (Nat.le_of_ble_eq_true rfl) q257 (.inl rfl) rfl dX2_sides_5 ?_
  refine zr_iadd dX2_sides_8 ?_
  exact zr_iret rfl rfl dX2_sides_9 (⟨rfl, rfl⟩)
set_option maxHeartbeats 4000000 in
theorem c_X2_ends {G : zG} {σ : zT} {d : Nat} {c : zCS} {i : Nat} (hd : 8 ≤ d) (hS : CSys G σ c) (hi : i < kN c) : zC G I_X2_ends d [.ref (kA c (rB i))] σ (.inl (some (.int (kEnds c i)))) σ := by
  refine zCall.exact (zCall_of (ls := [(0, .ref (kA c (rB i)))]) (by decide) (Nat.le_of_ble_eq_true rfl) rfl ?_)
  refine zr_aload_n dX2_ends_0 rfl rfl ?_
  refine zr_call1 (rest := []) (zs_V (As := []) (by omega) ok_X2_upper q1234 q1206 q1207 q57 q1208 rfl (hS.bx hi) rfl rfl rfl (Nat.le_of_ble_eq_true rfl) dX2_ends_1) (c_X2_upper (by omega) hS hi) ?_
  refine zr_aload_n dX2_ends_4 rfl rfl ?_
  refine zr_call1 (rest := [.int (kUpper c i)]) (zs_V (As := []) (by omega) ok_X2_lower q1235 q1236 q1237 q57 q1238 rfl (hS.bx hi) rfl rfl rfl (Nat.le_of_ble_eq_true rfl) dX2_ends_5) (c_X2_lower (by omega) hS hi) ?_
  refine zr_iadd dX2_ends_8 ?_
  exact zr_iret rfl rfl dX2_ends_9 (⟨rfl, rfl⟩)
set_option maxHeartbeats 4000000 in
theorem c_X2_inner {G : zG} {σ : zT} {d : Nat} {c : zCS} {i : Nat} (hd : 1 ≤ d) (hS : CSys G σ c) (hi : i < kN c) : zC G I_X2_inner d [.ref (kA c (rB i))] σ (.inl (some (.int (kInner c i)))) σ := by
  refine zCall.exact (zCall_of (ls := [(0, .ref (kA c (rB i)))]) (by decide) (Nat.le_of_ble_eq_true rfl) rfl ?_)
  refine zr_iconst (v := 0) dX2_inner_0 (by decide) ?_
  refine zr_aload_n dX2_inner_1 rfl rfl ?_
  refine zr_get (k := 24) (v := .ref (kA c (rP i))) in_X2 (hS.bx hi) rfl (Nat.le_of_ble_eq_true rfl) q288 (.inl rfl) rfl dX2_inner_2 ?_
  refine zr_getN (k := 2) (v := .int (kP c i 2)) in_X3 (hS.pl hi) rfl (Nat.le_of_ble_eq_true rfl) q200 (.inl rfl) rfl dX2_inner_5 ?_
  refine zr_iconst (v := 2) dX2_inner_8 (by decide) ?_
  refine zr_aload_n dX2_inner_9 rfl rfl ?_
  refine zr_get (k := 12) (v := .int (kF c i 12)) in_X2 (hS.bx hi) rfl (Nat.le_of_ble_eq_true rfl) q261 (.inl rfl) rfl dX2_inner_10 ?_
  refine zr_imul dX2_inner_13 ?_
  refine zr_isub dX2_inner_14 ?_
  refine zr_max (by omega) q1138 q376 q60 q377 (Nat.le_of_ble_eq_true rfl) dX2_inner_15 ?_
  exact zr_iret rfl rfl dX2_inner_18 (⟨rfl, rfl⟩)
set_option maxHeartbeats 4000000 in
theorem c_X2_isShifted {G : zG} {σ : zT} {d : Nat} {c : zCS} {i : Nat} (hd : 2 ≤ d) (hS : CSys G σ c) (hi : i < kN c) : zC G I_X2_isShifted d [.ref (kA c (rB i))] σ (.inl (some (.int (bI (kShifted c i))))) σ := by
  refine zCall.exact (zCall_of (ls := [(0, .ref (kA c (rB i)))]) (by decide) (Nat.le_of_ble_eq_true rfl) rfl ?_)
  refine zr_aload_n dX2_isShifted_0 rfl rfl ?_
  refine zr_call1 (rest := []) (zs_V (As := []) (by omega) ok_X2_isRoot q1128 q1129 q1130 q57 q1131 rfl (hS.bx hi) rfl rfl rfl (Nat.le_of_ble_eq_true rfl) dX2_isShifted_1) (c_X2_isRoot (by omega) hS hi) ?_
  refine zr_ifneB (tgt := 20) dX2_isShifted_4 (by decide) (fun c_1 => ?_) (fun c_1 => ?_)
  · refine zr_iconst (v := 0) dX2_isShifted_20 (by decide) ?_
    exact zr_iret rfl rfl dX2_isShifted_21 (⟨by rw [show kShifted c i = false from by simp [kShifted, c_1]]; rfl, rfl⟩)
  · refine zr_aload_n dX2_isShifted_7 rfl rfl ?_
    refine zr_get (k := 17) (v := .int (kF c i 17)) in_X2 (hS.bx hi) rfl (Nat.le_of_ble_eq_true rfl) q272 (.inl rfl) rfl dX2_isShifted_8 ?_
    refine zr_bipush (v := 114) dX2_isShifted_11 (by decide) ?_
    refine zr_icmp_ne (tgt := 20) dX2_isShifted_13 (by decide) (fun c_2 => ?_) (fun c_2 => ?_)
    · refine zr_iconst (v := 0) dX2_isShifted_20 (by decide) ?_
      exact zr_iret rfl rfl dX2_isShifted_21 (⟨by rw [show kShifted c i = false from by simp [kShifted, c_1, c_2]]; rfl, rfl⟩)
    · refine zr_iconst (v := 1) dX2_isShifted_16 (by decide) ?_
      refine zr_goto (tgt := 21) dX2_isShifted_17 (by decide) ?_
      exact zr_iret rfl rfl dX2_isShifted_21 (⟨by rw [show kShifted c i = true from by simp [kShifted, c_1, c_2]]; rfl, rfl⟩)
