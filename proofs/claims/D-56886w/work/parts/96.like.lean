/-! ===== isConsistent: lines alike, places alike (rows printed by tools/p96.py) ===== -/
theorem nI_injN {a b : Nat} (ha : a ≤ 1000000) (hb : b ≤ 1000000) (h : nI a = nI b) : a = b := by
  have h1 := nI_clamp (n := a) (by omega)
  have h2 := nI_clamp (n := b) (by omega)
  rw [h] at h1
  omega
def lkE (a b : Int32 × Int32 × Int32) : Bool := decide (a = b)
theorem lkE_1 {a b : Int32 × Int32 × Int32} (h1 : a.1 = b.1) (h2 : a.2.1 = b.2.1) (h3 : a.2.2 = b.2.2) : lkE a b = true := decide_eq_true (Prod.ext h1 (Prod.ext h2 h3))
theorem lkE_0 {a b : Int32 × Int32 × Int32} (h : a.1 = b.1 → a.2.1 = b.2.1 → a.2.2 = b.2.2 → False) : lkE a b = false := decide_eq_false (fun e => by subst e; exact h rfl rfl rfl)
def pLike (v w : Nat → Int32) (l m : List (Int32 × Int32 × Int32)) : Bool := decide ((v 0 = w 0 ∧ v 1 = w 1) ∧ (v 2 = w 2 ∧ v 3 = w 3) ∧ l = m)
set_option maxHeartbeats 4000000 in
theorem c_X11_isLike {G : zG} {σ : zT} {d : Nat} {x y : Nat} {a b : Int32 × Int32 × Int32} (ha : zAt G σ x (.inr (11, [.int a.1, .int a.2.1, .int a.2.2]))) (hb : zAt G σ y (.inr (11, [.int b.1, .int b.2.1, .int b.2.2]))) : zC G I_X11_isLike d [.ref x, .ref y] σ (.inl (some (.int (bI (lkE a b))))) σ := by
  refine zCall.exact (zCall_of (ls := [(0, .ref x), (1, .ref y)]) (by decide) (Nat.le_of_ble_eq_true rfl) rfl ?_)
  refine zr_aload_n dX11_isLike_0 rfl rfl ?_
  refine zr_get (k := 0) (v := .int a.1) in_X11 ha rfl (Nat.le_of_ble_eq_true rfl) q1466 (.inl rfl) rfl dX11_isLike_1 ?_
  refine zr_aload_n dX11_isLike_4 rfl rfl ?_
  refine zr_get (k := 0) (v := .int b.1) in_X11 hb rfl (Nat.le_of_ble_eq_true rfl) q1466 (.inl rfl) rfl dX11_isLike_5 ?_
  refine zr_icmp_ne (tgt := 37) dX11_isLike_8 (by decide) (fun h1 => ?_) (fun h1 => ?_)
  · refine zr_iconst (v := 0) dX11_isLike_37 (by decide) ?_
    exact zr_iret rfl rfl dX11_isLike_38 (⟨by rw [lkE_0 (fun e _ _ => h1 e)]; rfl, rfl⟩)
  · refine zr_aload_n dX11_isLike_11 rfl rfl ?_
    refine zr_get (k := 1) (v := .int a.2.1) in_X11 ha rfl (Nat.le_of_ble_eq_true rfl) q1467 (.inl rfl) rfl dX11_isLike_12 ?_
    refine zr_aload_n dX11_isLike_15 rfl rfl ?_
    refine zr_get (k := 1) (v := .int b.2.1) in_X11 hb rfl (Nat.le_of_ble_eq_true rfl) q1467 (.inl rfl) rfl dX11_isLike_16 ?_
    refine zr_icmp_ne (tgt := 37) dX11_isLike_19 (by decide) (fun h2 => ?_) (fun h2 => ?_)
    · refine zr_iconst (v := 0) dX11_isLike_37 (by decide) ?_
      exact zr_iret rfl rfl dX11_isLike_38 (⟨by rw [lkE_0 (fun _ e _ => h2 e)]; rfl, rfl⟩)
    · refine zr_aload_n dX11_isLike_22 rfl rfl ?_
      refine zr_get (k := 2) (v := .int a.2.2) in_X11 ha rfl (Nat.le_of_ble_eq_true rfl) q1468 (.inl rfl) rfl dX11_isLike_23 ?_
      refine zr_aload_n dX11_isLike_26 rfl rfl ?_
      refine zr_get (k := 2) (v := .int b.2.2) in_X11 hb rfl (Nat.le_of_ble_eq_true rfl) q1468 (.inl rfl) rfl dX11_isLike_27 ?_
      refine zr_icmp_ne (tgt := 37) dX11_isLike_30 (by decide) (fun h3 => ?_) (fun h3 => ?_)
      · refine zr_iconst (v := 0) dX11_isLike_37 (by decide) ?_
        exact zr_iret rfl rfl dX11_isLike_38 (⟨by rw [lkE_0 (fun _ _ e => h3 e)]; rfl, rfl⟩)
      · refine zr_iconst (v := 1) dX11_isLike_33 (by decide) ?_
        refine zr_goto (tgt := 38) dX11_isLike_34 (by decide) ?_
        exact zr_iret rfl rfl dX11_isLike_38 (⟨by rw [lkE_1 h1 h2 h3]; rfl, rfl⟩)
set_option maxHeartbeats 4000000 in
theorem l_X3_like {G : zG} {σ : zT} {d p q l1 l2 t1 o1 t2 o2 : Nat} {v w : Nat → Int32} {ls ms : List (Int32 × Int32 × Int32)} {Q : zO → zT → Prop} (hd : 6 ≤ d) (hG : zOk G) (hp : zAt G σ p (.inr (3, [.int (v 0), .int (v 1), .int (v 2), .int (v 3), .int (v 4), .ref l1]))) (hq : zAt G σ q (.inr (3, [.int (w 0), .int (w 1), .int (w 2), .int (w 3), .int (w 4), .ref l2]))) (hl : zLn G σ t1 o1 l1 ls) (hm : zLn G σ t2 o2 l2 ms) (hlen : ls.length = ms.length) (kQ : Q (.inl (some (.int (bI (decide (ls = ms)))))) σ) : ∀ (n k : Nat) (r : Bool), k + n = ls.length → (r = true → ls.take k = ms.take k) → (r = false → ls ≠ ms) → zR G yX3_isLike cX3_isLike 4 (Option.some Jvm.ClassFile.FieldType.boolean) [] d 73 [(0, .ref p), (1, .ref q), (2, .int (bI r)), (3, .int (nI k))] [] σ Q := by
  obtain ⟨mod1, xs, a1, a2, a3⟩ := hl
  obtain ⟨mod2, ys, b1, b2, b3⟩ := hm
  obtain ⟨f1, hf1⟩ := a1.A
  obtain ⟨f2, hf2⟩ := b1.A
  have hbig : ls.length ≤ 1000000 := by obtain ⟨_, cap, _, _, _, h1, h2, _⟩ := a1; omega
  intro n
  induction n with
  | zero =>
    intro k r hk h1 h0
    refine zr_iload_n dX3_isLike_73 rfl rfl ?_
    refine zr_ifeqB (tgt := 126) dX3_isLike_74 (by decide) (fun hr => ?_) (fun hr => ?_)
    · rw [show decide (ls = ms) = false from decide_eq_false (h0 hr)] at kQ
      refine zr_iload_n dX3_isLike_126 rfl rfl ?_
      rw [hr]
      exact zr_iret rfl (nar_z _) dX3_isLike_127 (kQ)
    · rw [show decide (ls = ms) = true from decide_eq_true (by have h9 := h1 hr; rw [List.take_of_length_le (by omega), List.take_of_length_le (by omega)] at h9; exact h9)] at kQ
      refine zr_iload_n dX3_isLike_77 rfl rfl ?_
      refine zr_aload_n dX3_isLike_78 rfl rfl ?_
      refine zr_get (k := 5) (v := .ref l1) in_X3 hp rfl (Nat.le_of_ble_eq_true rfl) q208 (.inl rfl) rfl dX3_isLike_79 ?_
      refine zr_call51 (rest := [.int (nI k)]) (zs_F (As := []) (by omega) okF_J2_size (by decide +kernel) q1595 q162 q164 q56 q166 hf1 rfl rfl rfl (Nat.le_of_ble_eq_true rfl) dX3_isLike_82) (c_size (by omega) a1 a2) ?_
      refine zr_icmp_ge (tgt := 126) dX3_isLike_87 (by decide) (fun _ => ?_) (fun h9 => absurd (by rw [show k = ls.length by omega]; exact Int32.le_refl _) h9)
      refine zr_iload_n dX3_isLike_126 rfl rfl ?_
      rw [hr]
      exact zr_iret rfl (nar_z _) dX3_isLike_127 (kQ)
  | succ n ih =>
    intro k r hk h1 h0
    have hkl : k < ls.length := by omega
    obtain ⟨x, hx⟩ : ∃ x, xs[k]? = some x := ⟨_, List.getElem?_eq_getElem (by omega)⟩
    obtain ⟨y, hy⟩ : ∃ y, ys[k]? = some y := ⟨_, List.getElem?_eq_getElem (by omega)⟩
    obtain ⟨a, ha⟩ : ∃ a, ls[k]? = some a := ⟨_, List.getElem?_eq_getElem hkl⟩
    obtain ⟨b, hb⟩ : ∃ b, ms[k]? = some b := ⟨_, List.getElem?_eq_getElem (by omega)⟩
    have hxz : zAt G σ x (.inr (11, [.int a.1, .int a.2.1, .int a.2.2])) := .new (a3 k x a hx ha).1
    have hyz : zAt G σ y (.inr (11, [.int b.1, .int b.2.1, .int b.2.2])) := .new (b3 k y b hy hb).1
    refine zr_iload_n dX3_isLike_73 rfl rfl ?_
    refine zr_ifeqB (tgt := 126) dX3_isLike_74 (by decide) (fun hr => ?_) (fun hr => ?_)
    · rw [show decide (ls = ms) = false from decide_eq_false (h0 hr)] at kQ
      refine zr_iload_n dX3_isLike_126 rfl rfl ?_
      rw [hr]
      exact zr_iret rfl (nar_z _) dX3_isLike_127 (kQ)
    · refine zr_iload_n dX3_isLike_77 rfl rfl ?_
      refine zr_aload_n dX3_isLike_78 rfl rfl ?_
      refine zr_get (k := 5) (v := .ref l1) in_X3 hp rfl (Nat.le_of_ble_eq_true rfl) q208 (.inl rfl) rfl dX3_isLike_79 ?_
      refine zr_call51 (rest := [.int (nI k)]) (zs_F (As := []) (by omega) okF_J2_size (by decide +kernel) q1595 q162 q164 q56 q166 hf1 rfl rfl rfl (Nat.le_of_ble_eq_true rfl) dX3_isLike_82) (c_size (by omega) a1 a2) ?_
      refine zr_icmp_ge (tgt := 126) dX3_isLike_87 (by decide) (fun h9 => absurd h9 (Int32.not_le.mpr ((nI_ltI (by omega) (by omega)).mpr hkl))) (fun _ => ?_)
      refine zr_aload_n dX3_isLike_90 rfl rfl ?_
      refine zr_get (k := 5) (v := .ref l1) in_X3 hp rfl (Nat.le_of_ble_eq_true rfl) q208 (.inl rfl) rfl dX3_isLike_91 ?_
      refine zr_iload_n dX3_isLike_94 rfl rfl ?_
      refine zr_call51 (rest := []) (zs_F (As := [.int (nI k)]) (by omega) okF_J2_get (by decide +kernel) q1597 q1106 q959 q56 q960 hf1 rfl rfl rfl (Nat.le_of_ble_eq_true rfl) dX3_isLike_95) (c_J2_get (by omega) hG a1 hx) ?_
      refine zr_castS hxz rfl q1598 dX3_isLike_100 ?_
      refine zr_aload_n dX3_isLike_103 rfl rfl ?_
      refine zr_get (k := 5) (v := .ref l2) in_X3 hq rfl (Nat.le_of_ble_eq_true rfl) q208 (.inl rfl) rfl dX3_isLike_104 ?_
      refine zr_iload_n dX3_isLike_107 rfl rfl ?_
      refine zr_call51 (rest := [.ref x]) (zs_F (As := [.int (nI k)]) (by omega) okF_J2_get (by decide +kernel) q1597 q1106 q959 q56 q960 hf2 rfl rfl rfl (Nat.le_of_ble_eq_true rfl) dX3_isLike_108) (c_J2_get (by omega) hG b1 hy) ?_
      refine zr_castS hyz rfl q1598 dX3_isLike_113 ?_
      refine zr_call1 (rest := []) (zs_V (As := [.ref y]) (by omega) ok_X11_isLike q1599 q1600 q1601 q96 q1602 rfl hxz rfl rfl rfl (Nat.le_of_ble_eq_true rfl) dX3_isLike_116) (c_X11_isLike hxz hyz) ?_
      refine zr_istore_n (ls2 := [(0, .ref p), (1, .ref q), (2, .int (bI (lkE a b))), (3, .int (nI k))]) dX3_isLike_119 rfl (Nat.le_of_ble_eq_true rfl) rfl ?_
      refine zr_iinc (v := nI k + 1) (ls2 := [(0, .ref p), (1, .ref q), (2, .int (bI (lkE a b))), (3, .int (nI k + 1))]) dX3_isLike_120 rfl rfl (Nat.le_of_ble_eq_true rfl) rfl ?_
      rw [show nI k + 1 = nI (k + 1) from nI_1 k]
      refine zr_goto (tgt := 73) dX3_isLike_123 (by decide) ?_
      refine ih (k + 1) (lkE a b) (by omega) (fun h => ?_) (fun h e => ?_)
      · have e1 : a = b := of_decide_eq_true h
        rw [List.take_succ, List.take_succ, h1 hr, ha, hb, e1]
      · have e1 : a ≠ b := of_decide_eq_false h
        rw [e, hb] at ha
        exact e1 (Option.some.inj ha).symm
set_option maxHeartbeats 4000000 in
theorem c_X3_isLike {G : zG} {σ : zT} {d p q l1 l2 t1 o1 t2 o2 : Nat} {v w : Nat → Int32} {ls ms : List (Int32 × Int32 × Int32)} (hd : 6 ≤ d) (hG : zOk G) (hp : zAt G σ p (.inr (3, [.int (v 0), .int (v 1), .int (v 2), .int (v 3), .int (v 4), .ref l1]))) (hq : zAt G σ q (.inr (3, [.int (w 0), .int (w 1), .int (w 2), .int (w 3), .int (w 4), .ref l2]))) (hl : zLn G σ t1 o1 l1 ls) (hm : zLn G σ t2 o2 l2 ms) : zC G I_X3_isLike d [.ref p, .ref q] σ (.inl (some (.int (bI (pLike v w ls ms))))) σ := by
  refine zCall.exact (zCall_of (ls := [(0, .ref p), (1, .ref q)]) (by decide) (Nat.le_of_ble_eq_true rfl) rfl ?_)
  obtain ⟨mod1, xs, a1, a2, a3⟩ := id hl
  obtain ⟨mod2, ys, b1, b2, b3⟩ := id hm
  obtain ⟨f1, hf1⟩ := a1.A
  obtain ⟨f2, hf2⟩ := b1.A
  have hbig : ls.length ≤ 1000000 := by obtain ⟨_, cap, _, _, _, h1, h2, _⟩ := a1; omega
  have hbig2 : ms.length ≤ 1000000 := by obtain ⟨_, cap, _, _, _, h1, h2, _⟩ := b1; omega
  have key0 : pLike v w ls ms = false → zR G yX3_isLike cX3_isLike 4 (Option.some Jvm.ClassFile.FieldType.boolean) [] d 70 [(0, .ref p), (1, .ref q)] [.int 0] σ (fun o σ' => o = .inl (some (.int (bI (pLike v w ls ms)))) ∧ σ' = σ) := by
    intro h9
    rw [h9]
    refine zr_istore_n (ls2 := [(0, .ref p), (1, .ref q), (2, .int 0)]) dX3_isLike_70 rfl (Nat.le_of_ble_eq_true rfl) rfl ?_
    refine zr_iconst (v := 0) dX3_isLike_71 (by decide) ?_
    refine zr_istore_n (ls2 := [(0, .ref p), (1, .ref q), (2, .int 0), (3, .int 0)]) dX3_isLike_72 rfl (Nat.le_of_ble_eq_true rfl) rfl ?_
    refine zr_iload_n dX3_isLike_73 rfl rfl ?_
    refine zr_if_eq (tgt := 126) dX3_isLike_74 (by decide) (fun _ => ?_) (fun h9 => absurd (rfl) h9)
    refine zr_iload_n dX3_isLike_126 rfl rfl ?_
    exact zr_iret rfl rfl dX3_isLike_127 (⟨rfl, rfl⟩)
  refine zr_aload_n dX3_isLike_0 rfl rfl ?_
  refine zr_get (k := 0) (v := .int (v 0)) in_X3 hp rfl (Nat.le_of_ble_eq_true rfl) q188 (.inl rfl) rfl dX3_isLike_1 ?_
  refine zr_aload_n dX3_isLike_4 rfl rfl ?_
  refine zr_get (k := 0) (v := .int (w 0)) in_X3 hq rfl (Nat.le_of_ble_eq_true rfl) q188 (.inl rfl) rfl dX3_isLike_5 ?_
  refine zr_icmp_ne (tgt := 69) dX3_isLike_8 (by decide) (fun h0 => ?_) (fun h0 => ?_)
  · refine zr_iconst (v := 0) dX3_isLike_69 (by decide) ?_
    exact key0 (decide_eq_false (fun h => h0 h.1.1))
  · refine zr_aload_n dX3_isLike_11 rfl rfl ?_
    refine zr_get (k := 1) (v := .int (v 1)) in_X3 hp rfl (Nat.le_of_ble_eq_true rfl) q192 (.inl rfl) rfl dX3_isLike_12 ?_
    refine zr_aload_n dX3_isLike_15 rfl rfl ?_
    refine zr_get (k := 1) (v := .int (w 1)) in_X3 hq rfl (Nat.le_of_ble_eq_true rfl) q192 (.inl rfl) rfl dX3_isLike_16 ?_
    refine zr_icmp_ne (tgt := 69) dX3_isLike_19 (by decide) (fun h1 => ?_) (fun h1 => ?_)
    · refine zr_iconst (v := 0) dX3_isLike_69 (by decide) ?_
      exact key0 (decide_eq_false (fun h => h1 h.1.2))
    · refine zr_aload_n dX3_isLike_22 rfl rfl ?_
      refine zr_get (k := 2) (v := .int (v 2)) in_X3 hp rfl (Nat.le_of_ble_eq_true rfl) q197 (.inl rfl) rfl dX3_isLike_23 ?_
      refine zr_aload_n dX3_isLike_26 rfl rfl ?_
      refine zr_get (k := 2) (v := .int (w 2)) in_X3 hq rfl (Nat.le_of_ble_eq_true rfl) q197 (.inl rfl) rfl dX3_isLike_27 ?_
      refine zr_icmp_ne (tgt := 69) dX3_isLike_30 (by decide) (fun h2 => ?_) (fun h2 => ?_)
      · refine zr_iconst (v := 0) dX3_isLike_69 (by decide) ?_
        exact key0 (decide_eq_false (fun h => h2 h.2.1.1))
      · refine zr_aload_n dX3_isLike_33 rfl rfl ?_
        refine zr_get (k := 3) (v := .int (v 3)) in_X3 hp rfl (Nat.le_of_ble_eq_true rfl) q202 (.inl rfl) rfl dX3_isLike_34 ?_
        refine zr_aload_n dX3_isLike_37 rfl rfl ?_
        refine zr_get (k := 3) (v := .int (w 3)) in_X3 hq rfl (Nat.le_of_ble_eq_true rfl) q202 (.inl rfl) rfl dX3_isLike_38 ?_
        refine zr_icmp_ne (tgt := 69) dX3_isLike_41 (by decide) (fun h3 => ?_) (fun h3 => ?_)
        · refine zr_iconst (v := 0) dX3_isLike_69 (by decide) ?_
          exact key0 (decide_eq_false (fun h => h3 h.2.1.2))
        · refine zr_aload_n dX3_isLike_44 rfl rfl ?_
          refine zr_get (k := 5) (v := .ref l1) in_X3 hp rfl (Nat.le_of_ble_eq_true rfl) q208 (.inl rfl) rfl dX3_isLike_45 ?_
          refine zr_call51 (rest := []) (zs_F (As := []) (by omega) okF_J2_size (by decide +kernel) q1595 q162 q164 q56 q166 hf1 rfl rfl rfl (Nat.le_of_ble_eq_true rfl) dX3_isLike_48) (c_size (by omega) a1 a2) ?_
          refine zr_aload_n dX3_isLike_53 rfl rfl ?_
          refine zr_get (k := 5) (v := .ref l2) in_X3 hq rfl (Nat.le_of_ble_eq_true rfl) q208 (.inl rfl) rfl dX3_isLike_54 ?_
          refine zr_call51 (rest := [.int (nI ls.length)]) (zs_F (As := []) (by omega) okF_J2_size (by decide +kernel) q1595 q162 q164 q56 q166 hf2 rfl rfl rfl (Nat.le_of_ble_eq_true rfl) dX3_isLike_57) (c_size (by omega) b1 b2) ?_
          refine zr_icmp_ne (tgt := 69) dX3_isLike_62 (by decide) (fun h4 => ?_) (fun h4 => ?_)
          · refine zr_iconst (v := 0) dX3_isLike_69 (by decide) ?_
            exact key0 (decide_eq_false (fun h => h4 (by rw [h.2.2])))
          · have hlen : ls.length = ms.length := nI_injN hbig hbig2 h4
            have e : pLike v w ls ms = decide (ls = ms) := by
              unfold pLike
              rw [h0, h1, h2, h3]
              simp
            rw [e]
            refine zr_iconst (v := 1) dX3_isLike_65 (by decide) ?_
            refine zr_goto (tgt := 70) dX3_isLike_66 (by decide) ?_
            refine zr_istore_n (ls2 := [(0, .ref p), (1, .ref q), (2, .int 1)]) dX3_isLike_70 rfl (Nat.le_of_ble_eq_true rfl) rfl ?_
            refine zr_iconst (v := 0) dX3_isLike_71 (by decide) ?_
            refine zr_istore_n (ls2 := [(0, .ref p), (1, .ref q), (2, .int 1), (3, .int 0)]) dX3_isLike_72 rfl (Nat.le_of_ble_eq_true rfl) rfl ?_
            exact l_X3_like hd hG hp hq hl hm hlen ⟨rfl, rfl⟩ ls.length 0 true (by omega) (fun _ => rfl) (fun h => by cases h)
