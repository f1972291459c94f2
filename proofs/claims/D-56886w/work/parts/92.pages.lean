/-! ===== pages: its constructor; pages, pageOf (rows printed by tools/p92.py) ===== -/
def pg0 : PgT := (fun _ => false, -1, 0, true, [])
def pgAll (c : zCS) (h : Int32) : PgT := pgWk c h 24 pg0 0 0
def UM (c : zCS) : Nat := ((List.range (kN c)).map (uA c)).sum
def UC (c : zCS) : Nat := UM c * (60 + 2 * UM c) + 100
theorem UM_le {c : zCS} (h : KWf c) (h0 : 0 < kN c) : tsum c (uA c) 24 0 ≤ UM c := tsum_le h (uA c) 24 h0
theorem gU_lt {c : zCS} (hK : KWf c) {h : Int32} : ∀ (f : Nat) (s : PgT) (i : Nat) (y : Int32), i < kN c → (∀ u, u ∈ gU s → u.1 < kN c) → ∀ u, u ∈ gU (pgWk c h f s i y) → u.1 < kN c := by
  have hput : ∀ (s : PgT) (i k : Nat) (y bo : Int32) (hl : Bool), i < kN c → (∀ u, u ∈ gU s → u.1 < kN c) → ∀ u, u ∈ gU (pgPut c h s i k y bo hl) → u.1 < kN c := by
    intro s i k y bo hl hi hs u hu
    have hu' : u ∈ gU s ++ [(i, nI k, (if pgNew c h s i k y bo hl = true then gP s + 1 else gP s))] := hu
    rcases List.mem_append.mp hu' with h1 | h1
    · exact hs u h1
    · rw [List.mem_singleton.mp h1]; exact hi
  intro f
  induction f with
  | zero => intro s i y _ hs; exact hs
  | succ f ih =>
    intro s i y hi hs
    cases ht : kText c i with
    | true =>
      rw [pgWk_t ht]
      have h9 : ∀ (ys : List Nat) (s : PgT), (∀ u, u ∈ gU s → u.1 < kN c) → ∀ u, u ∈ gU (ys.foldl (pgLn c h i y) s) → u.1 < kN c := by
        intro ys
        induction ys with
        | nil => intro s hs; exact hs
        | cons x ys ihy => intro s hs; exact ihy _ (hput s i x _ _ _ hi hs)
      exact h9 _ s hs
    | false =>
      cases he : (kItems c i || (kCh c i).isEmpty) with
      | true =>
        rw [pgWk_i ht he]
        split
        · exact hput s i 0 _ _ _ hi hs
        · exact hs
      | false =>
        rw [pgWk_k ht he]
        have h9 : ∀ (ys : List Nat) (s : PgT), (∀ j, j ∈ ys → j < kN c) → (∀ u, u ∈ gU s → u.1 < kN c) → ∀ u, u ∈ gU (ys.foldl (pgKid c (pgWk c h f) y) s) → u.1 < kN c := by
          intro ys
          induction ys with
          | nil => intro s _ hs; exact hs
          | cons x ys ihy =>
            intro s hy hs
            refine ihy _ (fun j hj => hy j (List.mem_cons_of_mem _ hj)) ?_
            unfold pgKid
            split
            · exact ih s x _ (hy x (List.mem_cons_self ..)) hs
            · exact hs
        exact h9 _ s (fun j hj => (hK.ch hi hj).2.1) hs
def pPages (c : zCS) (h : Int32) : Nat × Value := if btw h 10 400 = true then (if kLw c = -1 then (3, .null) else (0, .int (gP (pgAll c h) + 1))) else (2, .null)
def pIs (c : zCS) (i : Nat) (l : Int32) (u : Nat × Int32 × Int32) : Bool := decide (u.1 = i) && (!kText c i || decide (u.2.1 = l))
def pFind (o : Option (Nat × Int32 × Int32)) : Nat × Value := match o with
  | some u => (0, .int u.2.2)
  | none => (5, .null)
def pPageOf (c : zCS) (h n l : Int32) : Nat × Value := if btw h 10 400 = true then pLaid c n (fun i => pFind ((gU (pgAll c h)).find? (pIs c i l))) else (2, .null)
set_option maxHeartbeats 4000000 in
theorem c_X16_init {G : zG} {σ : zT} {d : Nat} {c : zCS} {h : Int32} {pa : Nat} (hd : 60 ≤ d) (hG : zOk G) (hw : zGd G σ) (hS : CSys G σ c) (h0 : 0 < kN c) (hUM : UM c ≤ 1000) (hp0 : sF σ pa = some (.inr (16, d0_X16))) (hT0 : sT σ pa = 2000) : zCall G I_X16_init d [.ref pa, .ref (kA c 1), .int h] σ ((fun o σ' => ∃ ul bg, o = .inl none ∧ PgS G σ' c h pa ul bg (pgAll c h) ∧ zX G SP σ σ' (UC c))) := by
  refine zCall_of (ls := [(0, .ref pa), (1, .ref (kA c 1)), (2, .int h)]) (by decide) (Nat.le_of_ble_eq_true rfl) rfl ?_
  have hle := hS.le
  have hX0 : zX G SP σ σ 0 := zX.rf _ hw 0
  refine zr_aload_n dX16_init_0 rfl rfl ?_
  refine zr_aload_n dX16_init_1 rfl rfl ?_
  refine zr_putF rfl rfl (k := 6) (fs' := [.int 0, .null, .null, .int 0, .int 0, .int 0, .ref (kA c 1)]) zt_X16 hp0 rfl (Nat.le_of_ble_eq_true rfl) q2000 (.inl rfl) rfl rfl rfl (Nat.le_of_ble_eq_true rfl) rfl dX16_init_2 ?_
  have hz : zX G (fun s => s = 2000) σ (sUp σ pa (.inr (16, [.int 0, .null, .null, .int 0, .int 0, .int 0, .ref (kA c 1)]))) 0 := zX.up hX0.gd hp0 hT0
  have hX0 : zX G SP σ (sUp σ pa (.inr (16, [.int 0, .null, .null, .int 0, .int 0, .int 0, .ref (kA c 1)]))) _ := hX0.trans (hz.mono (fun s hs => by rw [hs]; exact ⟨by omega, by omega⟩))
  have hp0 : sF (sUp σ pa (.inr (16, [.int 0, .null, .null, .int 0, .int 0, .int 0, .ref (kA c 1)]))) pa = some (.inr (16, [.int 0, .null, .null, .int 0, .int 0, .int 0, .ref (kA c 1)])) := sF_upS _ _ _
  have hT0 : sT (sUp σ pa (.inr (16, [.int 0, .null, .null, .int 0, .int 0, .int 0, .ref (kA c 1)]))) pa = 2000 := hT0
  generalize hg1 : sUp σ pa (.inr (16, [.int 0, .null, .null, .int 0, .int 0, .int 0, .ref (kA c 1)])) = s1 at hX0 hp0 hT0  ⊢
  refine zr_aload_n dX16_init_5 rfl rfl ?_
  refine zr_objInit (by omega) q1936 q112 q113 (Nat.le_of_ble_eq_true rfl) dX16_init_6 ?_
  refine zr_aload_n dX16_init_9 rfl rfl ?_
  refine zr_new (ci := 20) (2002) zt_J2 q1937 q115 q56 rfl df_J2 dX16_init_10 ?_
  refine zr_dup dX16_init_13 rfl ?_
  refine zr_callv (rest := [.ref (sZ s1), .ref pa]) (zs_I (As := []) (by omega) ok_J2_init q1938 q117 q56 q118 rfl rfl rfl (Nat.le_of_ble_eq_true rfl) dX16_init_14) (c_J2_init (by omega) hG (sF_newS _ _ _ _)) ?_
  rw [sNew_up]
  have hlt9 : pa ≠ sZ s1 := Nat.ne_of_lt (hX0.gd.1 pa _ hp0)
  have hz := zX.new SP hX0.gd 2002 (by omega) (.inr (20, [.int 0, .ref (zc G 0), .int 0])) 3
  have hp0 : sF (sNew s1 2002 (.inr (20, [.int 0, .ref (zc G 0), .int 0])) 3) pa = _ := (sF_newN _ _ _ _ hlt9).trans hp0
  have hT0 : sT (sNew s1 2002 (.inr (20, [.int 0, .ref (zc G 0), .int 0])) 3) pa = 2000 := (sT_newN _ _ _ _ hlt9).trans hT0
  have hX0 : zX G SP σ (sNew s1 2002 (.inr (20, [.int 0, .ref (zc G 0), .int 0])) 3) _ := hX0.trans hz
  have hul : zL G (sNew s1 2002 (.inr (20, [.int 0, .ref (zc G 0), .int 0])) 3) 2002 (sZ s1) 0 [] := zL.mk s1 2002
  obtain ⟨ul, hu9⟩ : ∃ z, z = sZ s1 := ⟨_, rfl⟩
  rw [← hu9] at hul ⊢
  generalize hgA : sNew s1 2002 (.inr (20, [.int 0, .ref (zc G 0), .int 0])) 3 = sA at hX0 hp0 hT0 hul ⊢
  refine zr_putF rfl rfl (k := 1) (fs' := [.int 0, .ref ul, .null, .int 0, .int 0, .int 0, .ref (kA c 1)]) zt_X16 hp0 rfl (Nat.le_of_ble_eq_true rfl) q1993 (.inl rfl) rfl rfl rfl (Nat.le_of_ble_eq_true rfl) rfl dX16_init_17 ?_
  have hz : zX G (fun s => s = 2000) sA (sUp sA pa (.inr (16, [.int 0, .ref ul, .null, .int 0, .int 0, .int 0, .ref (kA c 1)]))) 0 := zX.up hX0.gd hp0 hT0
  have hX0 : zX G SP σ (sUp sA pa (.inr (16, [.int 0, .ref ul, .null, .int 0, .int 0, .int 0, .ref (kA c 1)]))) _ := hX0.trans (hz.mono (fun s hs => by rw [hs]; exact ⟨by omega, by omega⟩))
  have hul : zL G (sUp sA pa (.inr (16, [.int 0, .ref ul, .null, .int 0, .int 0, .int 0, .ref (kA c 1)]))) 2002 ul 0 [] := hul.upO hp0 (by decide)
  have hp0 : sF (sUp sA pa (.inr (16, [.int 0, .ref ul, .null, .int 0, .int 0, .int 0, .ref (kA c 1)]))) pa = some (.inr (16, [.int 0, .ref ul, .null, .int 0, .int 0, .int 0, .ref (kA c 1)])) := sF_upS _ _ _
  have hT0 : sT (sUp sA pa (.inr (16, [.int 0, .ref ul, .null, .int 0, .int 0, .int 0, .ref (kA c 1)]))) pa = 2000 := hT0
  generalize hg2 : sUp sA pa (.inr (16, [.int 0, .ref ul, .null, .int 0, .int 0, .int 0, .ref (kA c 1)])) = s2 at hX0 hp0 hT0 hul ⊢
  refine zr_aload_n dX16_init_20 rfl rfl ?_
  refine zr_bipush (v := 24) dX16_init_21 (by decide) ?_
  refine zr_newaZ (N' := 24) 2001 q1303 (by decide) (by decide) (by omega) dX16_init_23 ?_
  have hlt9 : pa ≠ sZ s2 := Nat.ne_of_lt (hX0.gd.1 pa _ hp0)
  have hz := zX.new SP hX0.gd 2001 (by omega) (aZ G 24 (fun _ => 0)) 24
  have hul : zL G (sNew s2 2001 (aZ G 24 (fun _ => 0)) 24) 2002 ul 0 [] := hul.new hX0.gd.1 _ _ _
  have hp0 : sF (sNew s2 2001 (aZ G 24 (fun _ => 0)) 24) pa = _ := (sF_newN _ _ _ _ hlt9).trans hp0
  have hT0 : sT (sNew s2 2001 (aZ G 24 (fun _ => 0)) 24) pa = 2000 := (sT_newN _ _ _ _ hlt9).trans hT0
  have hX0 : zX G SP σ (sNew s2 2001 (aZ G 24 (fun _ => 0)) 24) _ := hX0.trans hz
  have hbg : PgB G (sNew s2 2001 (aZ G 24 (fun _ => 0)) 24) (sZ s2) (fun _ => false) := ⟨sF_newS _ _ _ _, sT_newS _ _ _ _⟩
  obtain ⟨bg, hb9⟩ : ∃ z, z = sZ s2 := ⟨_, rfl⟩
  rw [← hb9] at hbg ⊢
  generalize hgB : sNew s2 2001 (aZ G 24 (fun _ => 0)) 24 = sB at hX0 hp0 hT0 hul hbg ⊢
  have hwB := hX0.gd
  refine zr_putF rfl rfl (k := 2) (fs' := [.int 0, .ref ul, .ref bg, .int 0, .int 0, .int 0, .ref (kA c 1)]) zt_X16 hp0 rfl (Nat.le_of_ble_eq_true rfl) q1995 (.inl rfl) rfl rfl rfl (Nat.le_of_ble_eq_true rfl) rfl dX16_init_25 ?_
  have hz : zX G (fun s => s = 2000) sB (sUp sB pa (.inr (16, [.int 0, .ref ul, .ref bg, .int 0, .int 0, .int 0, .ref (kA c 1)]))) 0 := zX.up hX0.gd hp0 hT0
  have hX0 : zX G SP σ (sUp sB pa (.inr (16, [.int 0, .ref ul, .ref bg, .int 0, .int 0, .int 0, .ref (kA c 1)]))) _ := hX0.trans (hz.mono (fun s hs => by rw [hs]; exact ⟨by omega, by omega⟩))
  have hul : zL G (sUp sB pa (.inr (16, [.int 0, .ref ul, .ref bg, .int 0, .int 0, .int 0, .ref (kA c 1)]))) 2002 ul 0 [] := hul.upO hp0 (by decide)
  have hbg := hbg.keep hwB hz (by decide)
  have hp0 : sF (sUp sB pa (.inr (16, [.int 0, .ref ul, .ref bg, .int 0, .int 0, .int 0, .ref (kA c 1)]))) pa = some (.inr (16, [.int 0, .ref ul, .ref bg, .int 0, .int 0, .int 0, .ref (kA c 1)])) := sF_upS _ _ _
  have hT0 : sT (sUp sB pa (.inr (16, [.int 0, .ref ul, .ref bg, .int 0, .int 0, .int 0, .ref (kA c 1)]))) pa = 2000 := hT0
  generalize hg3 : sUp sB pa (.inr (16, [.int 0, .ref ul, .ref bg, .int 0, .int 0, .int 0, .ref (kA c 1)])) = s3 at hX0 hp0 hT0 hul hbg ⊢
  refine zr_aload_n dX16_init_28 rfl rfl ?_
  refine zr_iconst (v := (-1)) dX16_init_29 (by decide) ?_
  have hwB := hX0.gd
  refine zr_put (k := 3) (fs' := [.int 0, .ref ul, .ref bg, .int (-1), .int 0, .int 0, .ref (kA c 1)]) zt_X16 hp0 rfl (Nat.le_of_ble_eq_true rfl) q1996 (.inl rfl) rfl rfl rfl (Nat.le_of_ble_eq_true rfl) rfl dX16_init_30 ?_
  have hz : zX G (fun s => s = 2000) s3 (sUp s3 pa (.inr (16, [.int 0, .ref ul, .ref bg, .int (-1), .int 0, .int 0, .ref (kA c 1)]))) 0 := zX.up hX0.gd hp0 hT0
  have hX0 : zX G SP σ (sUp s3 pa (.inr (16, [.int 0, .ref ul, .ref bg, .int (-1), .int 0, .int 0, .ref (kA c 1)]))) _ := hX0.trans (hz.mono (fun s hs => by rw [hs]; exact ⟨by omega, by omega⟩))
  have hul : zL G (sUp s3 pa (.inr (16, [.int 0, .ref ul, .ref bg, .int (-1), .int 0, .int 0, .ref (kA c 1)]))) 2002 ul 0 [] := hul.upO hp0 (by decide)
  have hbg := hbg.keep hwB hz (by decide)
  have hp0 : sF (sUp s3 pa (.inr (16, [.int 0, .ref ul, .ref bg, .int (-1), .int 0, .int 0, .ref (kA c 1)]))) pa = some (.inr (16, [.int 0, .ref ul, .ref bg, .int (-1), .int 0, .int 0, .ref (kA c 1)])) := sF_upS _ _ _
  have hT0 : sT (sUp s3 pa (.inr (16, [.int 0, .ref ul, .ref bg, .int (-1), .int 0, .int 0, .ref (kA c 1)]))) pa = 2000 := hT0
  generalize hg4 : sUp s3 pa (.inr (16, [.int 0, .ref ul, .ref bg, .int (-1), .int 0, .int 0, .ref (kA c 1)])) = s4 at hX0 hp0 hT0 hul hbg ⊢
  refine zr_aload_n dX16_init_33 rfl rfl ?_
  refine zr_iconst (v := 1) dX16_init_34 (by decide) ?_
  have hwB := hX0.gd
  refine zr_put (k := 5) (fs' := [.int 0, .ref ul, .ref bg, .int (-1), .int 0, .int 1, .ref (kA c 1)]) zt_X16 hp0 rfl (Nat.le_of_ble_eq_true rfl) q1999 (.inl rfl) rfl rfl rfl (Nat.le_of_ble_eq_true rfl) rfl dX16_init_35 ?_
  have hz : zX G (fun s => s = 2000) s4 (sUp s4 pa (.inr (16, [.int 0, .ref ul, .ref bg, .int (-1), .int 0, .int 1, .ref (kA c 1)]))) 0 := zX.up hX0.gd hp0 hT0
  have hX0 : zX G SP σ (sUp s4 pa (.inr (16, [.int 0, .ref ul, .ref bg, .int (-1), .int 0, .int 1, .ref (kA c 1)]))) _ := hX0.trans (hz.mono (fun s hs => by rw [hs]; exact ⟨by omega, by omega⟩))
  have hul : zL G (sUp s4 pa (.inr (16, [.int 0, .ref ul, .ref bg, .int (-1), .int 0, .int 1, .ref (kA c 1)]))) 2002 ul 0 [] := hul.upO hp0 (by decide)
  have hbg := hbg.keep hwB hz (by decide)
  have hp0 : sF (sUp s4 pa (.inr (16, [.int 0, .ref ul, .ref bg, .int (-1), .int 0, .int 1, .ref (kA c 1)]))) pa = some (.inr (16, [.int 0, .ref ul, .ref bg, .int (-1), .int 0, .int 1, .ref (kA c 1)])) := sF_upS _ _ _
  have hT0 : sT (sUp s4 pa (.inr (16, [.int 0, .ref ul, .ref bg, .int (-1), .int 0, .int 1, .ref (kA c 1)]))) pa = 2000 := hT0
  generalize hg5 : sUp s4 pa (.inr (16, [.int 0, .ref ul, .ref bg, .int (-1), .int 0, .int 1, .ref (kA c 1)])) = s5 at hX0 hp0 hT0 hul hbg ⊢
  refine zr_aload_n dX16_init_38 rfl rfl ?_
  refine zr_iload_n dX16_init_39 rfl rfl ?_
  have hwB := hX0.gd
  refine zr_putF rfl rfl (k := 0) (fs' := [.int h, .ref ul, .ref bg, .int (-1), .int 0, .int 1, .ref (kA c 1)]) zt_X16 hp0 rfl (Nat.le_of_ble_eq_true rfl) q1992 (.inl rfl) rfl rfl rfl (Nat.le_of_ble_eq_true rfl) rfl dX16_init_40 ?_
  have hz : zX G (fun s => s = 2000) s5 (sUp s5 pa (.inr (16, [.int h, .ref ul, .ref bg, .int (-1), .int 0, .int 1, .ref (kA c 1)]))) 0 := zX.up hX0.gd hp0 hT0
  have hX0 : zX G SP σ (sUp s5 pa (.inr (16, [.int h, .ref ul, .ref bg, .int (-1), .int 0, .int 1, .ref (kA c 1)]))) _ := hX0.trans (hz.mono (fun s hs => by rw [hs]; exact ⟨by omega, by omega⟩))
  have hul : zL G (sUp s5 pa (.inr (16, [.int h, .ref ul, .ref bg, .int (-1), .int 0, .int 1, .ref (kA c 1)]))) 2002 ul 0 [] := hul.upO hp0 (by decide)
  have hbg := hbg.keep hwB hz (by decide)
  have hp0 : sF (sUp s5 pa (.inr (16, [.int h, .ref ul, .ref bg, .int (-1), .int 0, .int 1, .ref (kA c 1)]))) pa = some (.inr (16, [.int h, .ref ul, .ref bg, .int (-1), .int 0, .int 1, .ref (kA c 1)])) := sF_upS _ _ _
  have hT0 : sT (sUp s5 pa (.inr (16, [.int h, .ref ul, .ref bg, .int (-1), .int 0, .int 1, .ref (kA c 1)]))) pa = 2000 := hT0
  generalize hg6 : sUp s5 pa (.inr (16, [.int h, .ref ul, .ref bg, .int (-1), .int 0, .int 1, .ref (kA c 1)])) = s6 at hX0 hp0 hT0 hul hbg ⊢
  refine zr_aload_n dX16_init_43 rfl rfl ?_
  refine zr_aload_n dX16_init_44 rfl rfl ?_
  have hS1 := hS.keep hw hX0 SP_C
  have hP1 : PgS G s6 c h pa ul bg pg0 := ⟨⟨hp0, hT0⟩, hbg, 0, [], hul, rfl, fun j q u h => by cases h⟩
  obtain ⟨fl_b, hflb⟩ := hS1.bxL.A
  have hM := UM_le hS.2.2.2 h0
  refine zr_getN (k := 0) (v := .ref (kA c 2)) in_X1 hS1.one rfl (Nat.le_of_ble_eq_true rfl) q808 (.inl rfl) rfl dX16_init_45 ?_
  refine zr_iconst (v := 0) dX16_init_48 (by decide) ?_
  refine zr_call51 (rest := [.ref pa]) (zs_F (As := [.int 0]) (by omega) okF_J2_get (by decide +kernel) q1940 q1106 q959 q56 q960 hflb rfl rfl rfl (Nat.le_of_ble_eq_true rfl) dX16_init_49) (c_J2_get (i := 0) (by omega) hG hS1.bxL (CSys.bxa h0)) ?_
  refine zr_castS (hS1.bx h0) rfl q1941 dX16_init_54 ?_
  refine zr_iconst (v := 0) dX16_init_57 (by decide) ?_
  obtain ⟨_, σ2, ⟨rfl, hP2, hU2, hX2⟩, hC2⟩ := c_X16_walk (c := c) (h := h) (pa := pa) (ul := ul) (bg := bg) (M := UM c) hG hUM 24 (d - 1) (by omega) s6 pg0 0 0 hX0.gd hS1 h0 (by omega) hP1 (by show 0 + _ ≤ _; omega)
  refine zr_callv (rest := []) (zs_V (As := [.ref (kA c (rB 0)), .int 0]) (by omega) ok_X16_walk q1942 q1944 qs32 q101 q1945 rfl (.new hp0) rfl rfl rfl (Nat.le_of_ble_eq_true rfl) dX16_init_58) hC2 ?_
  have hMM := Nat.mul_le_mul_right (60 + 2 * UM c) hM
  exact zr_vret rfl dX16_init_61 (⟨ul, bg, rfl, hP2, (hX0.trans hX2).le (by unfold UC; omega)⟩)
set_option maxHeartbeats 4000000 in
theorem c_X1_pages {G : zG} {σ : zT} {d : Nat} {c : zCS} {h : Int32} (hd : 70 ≤ d) (hG : zOk G) (hw : zGd G σ) (hS : CSys G σ c) (h0 : 0 < kN c) (hUM : UM c ≤ 1000) : zCall G I_X1_pages d [.ref (kA c 1), .int h] σ ((fun o σ' => oR o (pPages c h) ∧ zX G SP σ σ' (UC c + 20))) := by
  refine zCall_of (ls := [(0, .ref (kA c 1)), (1, .int h)]) (by decide) (Nat.le_of_ble_eq_true rfl) rfl ?_
  have hle := hS.le
  obtain ⟨fl_hfl, hfl⟩ := hS.bxL.A
  refine zr_iload_n dX1_pages_0 rfl rfl ?_
  refine zr_bipush (v := 10) dX1_pages_1 (by decide) ?_
  refine zr_sipush (v := 400) dX1_pages_3 (by decide) ?_
  refine zr_call1 (rest := []) (zs_S (As := [.int h, .int 10, .int 400]) (by omega) ok_X1_isBetween q1633 q1634 q53 q1635 rfl rfl (Nat.le_of_ble_eq_true rfl) dX1_pages_6) c_X1_isBetween ?_
  by_cases hb : btw h 10 400 = true
  · refine zr_eqi (z := 1) (by rw [hb]; rfl) ?_
    refine zr_callv (rest := []) (zs_S (As := [.int 1]) (by omega) ok_X1_requireArgument q1644 q1645 q53 q1646 rfl rfl (Nat.le_of_ble_eq_true rfl) dX1_pages_9) c_requireArgument1 ?_
    refine zr_aload_n dX1_pages_12 rfl rfl ?_
    refine zr_get (k := 1) (v := .int (kLw c)) in_X1 hS.one rfl (Nat.le_of_ble_eq_true rfl) q810 (.inl rfl) rfl dX1_pages_13 ?_
    refine zr_iconst (v := (-1)) dX1_pages_16 (by decide) ?_
    refine zr_icmp_eq (tgt := 24) dX1_pages_17 (by decide) (fun h1 => ?_) (fun h1 => ?_)
    · refine zr_iconst (v := 0) dX1_pages_24 (by decide) ?_
      rw [show pPages c h = (3, .null) from (if_pos hb).trans (if_pos h1)]
      obtain ⟨_, σ1, ⟨q, rfl, hX⟩, hC⟩ := c_requireState0 (d := d - 1) (by omega) hG hw
      refine zr_callX (rest := []) (zs_S (As := [.int 0]) (by omega) ok_X1_requireState q1652 q1653 q53 q1654 rfl rfl (Nat.le_of_ble_eq_true rfl) dX1_pages_25) hC ?_
      exact zx_out (by decide) ⟨oR_x (by decide), hX.in.le (by omega)⟩
    · rw [show pPages c h = (0, .int (gP (pgAll c h) + 1)) from (if_pos hb).trans (if_neg h1)]
      refine zr_iconst (v := 1) dX1_pages_20 (by decide) ?_
      refine zr_goto (tgt := 25) dX1_pages_21 (by decide) ?_
      refine zr_callv (rest := []) (zs_S (As := [.int 1]) (by omega) ok_X1_requireState q1652 q1653 q53 q1654 rfl rfl (Nat.le_of_ble_eq_true rfl) dX1_pages_25) c_requireState1 ?_
      refine zr_new (ci := 16) (2000) zt_X16 q1931 q1932 q101 rfl df_X16 dX1_pages_28 ?_
      have hzz := zX.new SP hw 2000 (by omega) (.inr (16, d0_X16)) 7
      obtain ⟨_, σ1, ⟨ul, bg, rfl, hP, hX⟩, hC⟩ := c_X16_init (d := d - 1) (h := h) (by omega) hG hzz.gd (hS.keep hw hzz SP_C) h0 hUM (sF_newS _ _ _ _) (sT_newS _ _ _ _)
      refine zr_dup dX1_pages_31 rfl ?_
      refine zr_aload_n dX1_pages_32 rfl rfl ?_
      refine zr_iload_n dX1_pages_33 rfl rfl ?_
      refine zr_callv (rest := [.ref (sZ σ)]) (zs_I (As := [.ref (kA c 1), .int h]) (by omega) ok_X16_init q1933 q1934 q101 q1935 rfl rfl rfl (Nat.le_of_ble_eq_true rfl) dX1_pages_34) hC ?_
      obtain ⟨pa, hpa9⟩ : ∃ z, z = sZ σ := ⟨_, rfl⟩
      rw [← hpa9] at hP ⊢
      have hX01 := hzz.trans hX
      have hp1 : zAt G σ1 pa (.inr (16, [.int h, .ref ul, .ref bg, .int (gP (pgAll c h)), .int (gT (pgAll c h)), .int (bI (gI (pgAll c h))), .ref (kA c 1)])) := .new hP.1.1
      refine zr_getN (k := 3) (v := .int (gP (pgAll c h))) in_X16 hp1 rfl (Nat.le_of_ble_eq_true rfl) q1997 (.inl rfl) rfl dX1_pages_37 ?_
      refine zr_iconst (v := 1) dX1_pages_40 (by decide) ?_
      refine zr_iadd dX1_pages_41 ?_
      exact zr_iret rfl rfl dX1_pages_42 (⟨oR_ok, hX01.le (by omega)⟩)
  · have hb0 : btw h 10 400 = false := by simpa using hb
    rw [show pPages c h = (2, .null) from if_neg hb, hb0]
    obtain ⟨_, σ1, ⟨q, rfl, hX⟩, hC⟩ := c_requireArgument0 (d := d - 1) (by omega) hG hw
    show zR _ _ _ _ _ _ _ _ _ [.int 0] _ _
    refine zr_callX (rest := []) (zs_S (As := [.int 0]) (by omega) ok_X1_requireArgument q1644 q1645 q53 q1646 rfl rfl (Nat.le_of_ble_eq_true rfl) dX1_pages_9) hC ?_
    exact zx_out (by decide) ⟨oR_x (by decide), hX.in.le (by omega)⟩
theorem rbq {G : zG} {σ : zT} {c : zCS} (hS : CSys G σ c) {i j : Nat} (hi : i < kN c) (hj : j < kN c) (h : some (kA c (rB j)) = some (kA c (rB i))) : j = i := by
  rcases Decidable.em (j = i) with e | e
  · exact e
  · exact absurd (Option.some.inj h) (rB_ne hS hj hi e)
set_option maxHeartbeats 4000000 in
theorem l_X1_pageOf {G : zG} {σ : zT} {d : Nat} {c : zCS} {l mod : Int32} {ul i it m : Nat} {us : List (Nat × Int32 × Int32)} {xs : List Nat} {Q : zO → zT → Prop} (hd : 14 ≤ d) (hG : zOk G) (hw : zGd G σ) (hS : CSys G σ c) (hi : i < kN c) (hit : sZ σ ≤ it) (hL : zL G σ 2002 ul mod xs) (hxl : xs.length = us.length) (hxs : ∀ (j q : Nat) (u : Nat × Int32 × Int32), xs[j]? = some q → us[j]? = some u → sF σ q = some (.inr (17, [.ref (kA c (rB u.1)), .int u.2.1, .int u.2.2])) ∧ sT σ q = 2004) (hus : ∀ u, u ∈ us → u.1 < kN c) : ∀ (ys : List (Nat × Int32 × Int32)) (k : Nat) (lr : Int32) (σ1 : zT), us.drop k = ys → k ≤ us.length → zX G S0 σ σ1 m → sF σ1 it = some (.inr (21, [.int (nI k), .int lr, .int mod, .ref ul])) → (∀ o σ2, oR o (pFind (ys.find? (pIs c i l))) → zX G S0 σ σ2 (m + 10) → Q o σ2) → zR G yX1_pageOf cX1_pageOf 7 (Option.some Jvm.ClassFile.FieldType.int) [] d 38 [(3, .int l), (4, .ref (kA c (rB i))), (5, .ref it)] [] σ1 Q := by
  intro ys
  induction ys with
  | nil =>
    intro k lr σ1 hy hk hX hI kQ
    have hL1 := hX.L hw hL (fun h => h) (fun h => h)
    have hkl := drop_nil hy hk
    refine zr_aload dX1_pageOf_38 rfl ?_
    refine zr_call51 (rest := []) (zs_F (As := []) (by omega) okF_J23_hasNext (by decide +kernel) q916 q927 q929 q84 q931 (.new hI) rfl rfl rfl (Nat.le_of_ble_eq_true rfl) dX1_pageOf_40) (c_hasNext0 hL1 hI (by omega)) ?_
    refine zr_if_eq (tgt := 96) dX1_pageOf_45 (by decide) (fun _ => ?_) (fun h9 => absurd (rfl) h9)
    refine zr_make0 (E := RJ27) (names := ["java/lang/RuntimeException", "java/lang/Exception"]) (ci := 28) 0 (by omega) hG.1 (by decide +kernel) (List.all_eq_true.mp (by decide +kernel)) (by decide) q1882 q89 zat_J27 (List.all_eq_true.mp (by decide +kernel)) dX1_pageOf_96 dX1_pageOf_99 dX1_pageOf_100 rfl (Nat.le_of_ble_eq_true rfl) ?_
    have hXn := hX.trans (zX.new S0 hX.gd 0 (by omega) (.inr (28, [])) 6)
    refine zr_athrow (.new (sF_newS _ _ _ _)) rfl dX1_pageOf_103 ?_
    exact zx_out (by decide) (kQ _ _ (oR_x (k := 5) (by decide)) (hXn.le (by omega)))
  | cons u ys ih =>
    intro k lr σ1 hy hk hX hI kQ
    have hL1 := hX.L hw hL (fun h => h) (fun h => h)
    obtain ⟨hx, hy2, hkl, hm⟩ := drop_cons hy
    obtain ⟨q, hq⟩ : ∃ q, xs[k]? = some q := ⟨_, List.getElem?_eq_getElem (by omega)⟩
    obtain ⟨hqf, hqt⟩ := hxs k q u hq hx
    have hX2 := hX.upN (gs := [.int (nI (k + 1)), .int (nI k), .int mod, .ref ul]) hI hit
    have hI2 : sF (sUp σ1 it (.inr (21, [.int (nI (k + 1)), .int (nI k), .int mod, .ref ul]))) it = _ := sF_upS _ _ _
    generalize hσ2 : sUp σ1 it (.inr (21, [.int (nI (k + 1)), .int (nI k), .int mod, .ref ul])) = σ2 at hX2 hI2
    have hS2 := hS.keep0 hw hX2
    have hqz : zAt G σ2 q (.inr (17, [.ref (kA c (rB u.1)), .int u.2.1, .int u.2.2])) := .new (hX2.f hw hqf (fun h => h))
    have hu := hus u hm
    have hfs : ∀ b, pIs c i l u = b → List.find? (pIs c i l) (u :: ys) = (if b = true then some u else ys.find? (pIs c i l)) := fun b hb => by
      subst hb
      rw [List.find?_cons]
      cases pIs c i l u <;> rfl
    refine zr_aload dX1_pageOf_38 rfl ?_
    refine zr_call51 (rest := []) (zs_F (As := []) (by omega) okF_J23_hasNext (by decide +kernel) q916 q927 q929 q84 q931 (.new hI) rfl rfl rfl (Nat.le_of_ble_eq_true rfl) dX1_pageOf_40) (c_hasNext1 hL1 hI (by omega)) ?_
    refine zr_if_eq (tgt := 96) dX1_pageOf_45 (by decide) (fun h9 => absurd h9 (by decide)) (fun _ => ?_)
    refine zr_aload dX1_pageOf_48 rfl ?_
    refine zr_call51 (rest := []) (zs_F (As := []) (by omega) okF_J23_next (by decide +kernel) q942 q1044 q1046 q84 q1048 (.new hI) rfl rfl rfl (Nat.le_of_ble_eq_true rfl) dX1_pageOf_50) (c_J23_next (by omega) hG hL1 hI hq) ?_
    rw [hσ2]
    refine zr_castS hqz rfl q2023 dX1_pageOf_55 ?_
    refine zr_astore (ls2 := [(3, .int l), (4, .ref (kA c (rB i))), (5, .ref it), (6, .ref q)]) dX1_pageOf_58 (Nat.le_of_ble_eq_true rfl) rfl ?_
    refine zr_aload dX1_pageOf_60 rfl ?_
    refine zr_call1 (rest := []) (zs_V (As := []) (by omega) ok_X17_box q2024 q2025 q2026 q102 q2027 rfl hqz rfl rfl rfl (Nat.le_of_ble_eq_true rfl) dX1_pageOf_62) (c_X17_box hqz) ?_
    refine zr_aload dX1_pageOf_65 rfl ?_
    refine zr_acmp_ne (rx := (some ((kA c (rB u.1))))) (ry := (some ((kA c (rB i))))) (tgt := 93) dX1_pageOf_67 (by decide) (fun h1 => ?_) (fun h1 => ?_)
    · refine zr_goto (tgt := 38) dX1_pageOf_93 (by decide) ?_
      refine zr_sub (ls2 := [(3, .int l), (4, .ref (kA c (rB i))), (5, .ref it)]) [0, 1, 2] rfl ?_
      rw [hfs false (by unfold pIs; rw [decide_eq_false (fun e => h1 (by rw [e])), Bool.false_and]), if_neg (by decide)] at kQ
      exact ih (k + 1) _ σ2 hy2 hkl hX2 hI2 kQ
    · have hui : u.1 = i := rbq hS2 hi hu (by first | exact h1 | exact Decidable.not_not.mp h1)
      refine zr_aload dX1_pageOf_70 rfl ?_
      refine zr_call1 (rest := []) (zs_V (As := []) (by omega) ok_X2_isText q1146 q1147 q1148 q57 q1149 rfl (hS2.bx hi) rfl rfl rfl (Nat.le_of_ble_eq_true rfl) dX1_pageOf_72) (c_X2_isText (by omega) hS2 hi) ?_
      refine zr_ifeqB (tgt := 87) dX1_pageOf_75 (by decide) (fun h2 => ?_) (fun h2 => ?_)
      · refine zr_aload dX1_pageOf_87 rfl ?_
        refine zr_call1 (rest := []) (zs_V (As := []) (by omega) ok_X17_page q2032 q2033 q2034 q102 q2035 rfl hqz rfl rfl rfl (Nat.le_of_ble_eq_true rfl) dX1_pageOf_89) (c_X17_page hqz) ?_
        rw [hfs true (by unfold pIs; rw [decide_eq_true hui, h2]; rfl), if_pos rfl] at kQ
        exact zr_iret rfl rfl dX1_pageOf_92 (kQ _ σ2 oR_ok (hX2.le (by omega)))
      · refine zr_aload dX1_pageOf_78 rfl ?_
        refine zr_call1 (rest := []) (zs_V (As := []) (by omega) ok_X17_line q2028 q2029 q2030 q102 q2031 rfl hqz rfl rfl rfl (Nat.le_of_ble_eq_true rfl) dX1_pageOf_80) (c_X17_line hqz) ?_
        refine zr_iload_n dX1_pageOf_83 rfl rfl ?_
        refine zr_icmp_ne (tgt := 93) dX1_pageOf_84 (by decide) (fun h3 => ?_) (fun h3 => ?_)
        · refine zr_goto (tgt := 38) dX1_pageOf_93 (by decide) ?_
          refine zr_sub (ls2 := [(3, .int l), (4, .ref (kA c (rB i))), (5, .ref it)]) [0, 1, 2] rfl ?_
          rw [hfs false (by unfold pIs; rw [h2, decide_eq_false h3]; simp), if_neg (by decide)] at kQ
          exact ih (k + 1) _ σ2 hy2 hkl hX2 hI2 kQ
        · refine zr_aload dX1_pageOf_87 rfl ?_
          refine zr_call1 (rest := []) (zs_V (As := []) (by omega) ok_X17_page q2032 q2033 q2034 q102 q2035 rfl hqz rfl rfl rfl (Nat.le_of_ble_eq_true rfl) dX1_pageOf_89) (c_X17_page hqz) ?_
          rw [hfs true (by unfold pIs; rw [decide_eq_true hui, decide_eq_true (show u.2.1 = l by first | exact h3 | exact Decidable.not_not.mp h3)]; simp), if_pos rfl] at kQ
          exact zr_iret rfl rfl dX1_pageOf_92 (kQ _ σ2 oR_ok (hX2.le (by omega)))
set_option maxHeartbeats 4000000 in
theorem c_X1_pageOf {G : zG} {σ : zT} {d : Nat} {c : zCS} {h n l : Int32} (hd : 70 ≤ d) (hG : zOk G) (hw : zGd G σ) (hS : CSys G σ c) (h0 : 0 < kN c) (hUM : UM c ≤ 1000) : zCall G I_X1_pageOf d [.ref (kA c 1), .int h, .int n, .int l] σ ((fun o σ' => oR o (pPageOf c h n l) ∧ zX G SP σ σ' (UC c + 60))) := by
  refine zCall_of (ls := [(0, .ref (kA c 1)), (1, .int h), (2, .int n), (3, .int l)]) (by decide) (Nat.le_of_ble_eq_true rfl) rfl ?_
  have hle := hS.le
  obtain ⟨fl_hfl, hfl⟩ := hS.bxL.A
  refine zr_iload_n dX1_pageOf_0 rfl rfl ?_
  refine zr_bipush (v := 10) dX1_pageOf_1 (by decide) ?_
  refine zr_sipush (v := 400) dX1_pageOf_3 (by decide) ?_
  refine zr_call1 (rest := []) (zs_S (As := [.int h, .int 10, .int 400]) (by omega) ok_X1_isBetween q1633 q1634 q53 q1635 rfl rfl (Nat.le_of_ble_eq_true rfl) dX1_pageOf_6) c_X1_isBetween ?_
  by_cases hb : btw h 10 400 = true
  · refine zr_eqi (z := 1) (by rw [hb]; rfl) ?_
    refine zr_callv (rest := []) (zs_S (As := [.int 1]) (by omega) ok_X1_requireArgument q1644 q1645 q53 q1646 rfl rfl (Nat.le_of_ble_eq_true rfl) dX1_pageOf_9) c_requireArgument1 ?_
    rw [show pPageOf c h n l = pLaid c n (fun i => pFind ((gU (pgAll c h)).find? (pIs c i l))) from if_pos hb]
    by_cases hn : btw n 0 (nI (kN c) - 1) = true
    · obtain ⟨i, hi, rfl⟩ := btw_idx (by omega) hn
      by_cases hl : kLw c = -1
      · rw [pLaid_3 hle hi hl]
        obtain ⟨_, σ1, ⟨q, rfl, hX⟩, hC⟩ := c_laid3 (d := d - 1) (by omega) hG hw hS hi hl
        refine zr_aload_n dX1_pageOf_12 rfl rfl ?_
        refine zr_iload_n dX1_pageOf_13 rfl rfl ?_
        refine zr_callX (rest := []) (zs_V (As := [.int (nI i)]) (by omega) ok_X1_laid q1816 q1818 qs29 q53 q1819 rfl hS.one rfl rfl rfl (Nat.le_of_ble_eq_true rfl) dX1_pageOf_14) hC ?_
        exact zx_out (by decide) ⟨oR_x (by decide), hX.in.le (by omega)⟩
      · rw [pLaid_1 hle hi hl]
        refine zr_aload_n dX1_pageOf_12 rfl rfl ?_
        refine zr_iload_n dX1_pageOf_13 rfl rfl ?_
        refine zr_call1 (rest := []) (zs_V (As := [.int (nI i)]) (by omega) ok_X1_laid q1816 q1818 qs29 q53 q1819 rfl hS.one rfl rfl rfl (Nat.le_of_ble_eq_true rfl) dX1_pageOf_14) (c_laid1 (by omega) hG hw hS hi hl) ?_
        refine zr_astore (ls2 := [(0, .ref (kA c 1)), (1, .int h), (2, .int (nI i)), (3, .int l), (4, .ref (kA c (rB i)))]) dX1_pageOf_17 (Nat.le_of_ble_eq_true rfl) rfl ?_
        refine zr_new (ci := 16) (2000) zt_X16 q1931 q1932 q101 rfl df_X16 dX1_pageOf_19 ?_
        have hzz := zX.new SP hw 2000 (by omega) (.inr (16, d0_X16)) 7
        obtain ⟨_, σ1, ⟨ul, bg, rfl, hP, hX⟩, hC⟩ := c_X16_init (d := d - 1) (h := h) (by omega) hG hzz.gd (hS.keep hw hzz SP_C) h0 hUM (sF_newS _ _ _ _) (sT_newS _ _ _ _)
        refine zr_dup dX1_pageOf_22 rfl ?_
        refine zr_aload_n dX1_pageOf_23 rfl rfl ?_
        refine zr_iload_n dX1_pageOf_24 rfl rfl ?_
        refine zr_callv (rest := [.ref (sZ σ)]) (zs_I (As := [.ref (kA c 1), .int h]) (by omega) ok_X16_init q1933 q1934 q101 q1935 rfl rfl rfl (Nat.le_of_ble_eq_true rfl) dX1_pageOf_25) hC ?_
        obtain ⟨pa, hpa9⟩ : ∃ z, z = sZ σ := ⟨_, rfl⟩
        rw [← hpa9] at hP ⊢
        have hX01 := hzz.trans hX
        have hp1 : zAt G σ1 pa (.inr (16, [.int h, .ref ul, .ref bg, .int (gP (pgAll c h)), .int (gT (pgAll c h)), .int (bI (gI (pgAll c h))), .ref (kA c 1)])) := .new hP.1.1
        refine zr_getN (k := 1) (v := .ref ul) in_X16 hp1 rfl (Nat.le_of_ble_eq_true rfl) q1994 (.inl rfl) rfl dX1_pageOf_28 ?_
        obtain ⟨hO1, hB1, mod, xs, u1, u2, u3⟩ := hP
        obtain ⟨fl_u, hflu⟩ := u1.A
        have hS1 := hS.keep hw hX01 SP_C
        have hXn := zX.new S0 hX01.gd 0 (by omega) (.inr (21, [.int 0, .int (-1), .int mod, .ref ul])) 4
        have hus := gU_lt hS.2.2.2 (h := h) 24 pg0 0 0 h0 (fun u h => by cases h)
        refine zr_call51 (rest := []) (zs_F (As := []) (by omega) okF_J2_iterator (by decide +kernel) q829 q832 q834 q56 q836 hflu rfl rfl rfl (Nat.le_of_ble_eq_true rfl) dX1_pageOf_31) (c_J2_iterator (by omega) hX01.gd.1 u1) ?_
        refine zr_astore (ls2 := [(0, .ref (kA c 1)), (1, .int h), (2, .int (nI i)), (3, .int l), (4, .ref (kA c (rB i))), (5, .ref (sZ σ1))]) dX1_pageOf_36 (Nat.le_of_ble_eq_true rfl) rfl ?_
        refine zr_sub (ls2 := [(3, .int l), (4, .ref (kA c (rB i))), (5, .ref (sZ σ1))]) [3, 4, 5] rfl ?_
        refine l_X1_pageOf (σ := σ1) (m := 8) (by omega) hG hX01.gd hS1 hi (Nat.le_refl _) u1 u2 u3 hus _ 0 (-1) _ rfl (Nat.zero_le _) hXn (sF_newS _ _ _ _) (fun o σ2 ho x2 => ?_)
        rw [List.drop_zero] at ho
        exact ⟨ho, (hX01.trans x2.in).le (by omega)⟩
    · have hb0 : btw n 0 (nI (kN c) - 1) = false := by simpa using hn
      rw [pLaid_0 hb0]
      obtain ⟨_, σ1, ⟨q, rfl, hX⟩, hC⟩ := c_laid0 (d := d - 1) (by omega) hG hw hS hb0
      refine zr_aload_n dX1_pageOf_12 rfl rfl ?_
      refine zr_iload_n dX1_pageOf_13 rfl rfl ?_
      refine zr_callX (rest := []) (zs_V (As := [.int n]) (by omega) ok_X1_laid q1816 q1818 qs29 q53 q1819 rfl hS.one rfl rfl rfl (Nat.le_of_ble_eq_true rfl) dX1_pageOf_14) hC ?_
      exact zx_out (by decide) ⟨oR_x (by decide), hX.in.le (by omega)⟩
  · have hb0 : btw h 10 400 = false := by simpa using hb
    rw [show pPageOf c h n l = (2, .null) from if_neg hb, hb0]
    obtain ⟨_, σ1, ⟨q, rfl, hX⟩, hC⟩ := c_requireArgument0 (d := d - 1) (by omega) hG hw
    show zR _ _ _ _ _ _ _ _ _ [.int 0] _ _
    refine zr_callX (rest := []) (zs_S (As := [.int 0]) (by omega) ok_X1_requireArgument q1644 q1645 q53 q1646 rfl rfl (Nat.le_of_ble_eq_true rfl) dX1_pageOf_9) hC ?_
    exact zx_out (by decide) ⟨oR_x (by decide), hX.in.le (by omega)⟩
