/-! ===== the plain law: the two layouts of a box, whole ===== -/
theorem lay3_at (chk : Bool) (i : Nat) (w : Int32) (s : zCS × Int32) {F : Nat → Prop} (hF : F i) : (∀ z, z ≠ i → sm s.1 (cLay3 chk i w s).1 z) ∧ (∀ k, k ≠ 4 → kP (cLay3 chk i w s).1 i k = kP s.1 i k) ∧ kP (cLay3 chk i w s).1 i 4 = kP s.1 i 3 ∧ kLn (cLay3 chk i w s).1 i = kLn s.1 i ∧ (chk = false → kF (cLay3 chk i w s).1 i 25 = w) ∧ KEq s.1 (cLay3 chk i w s).1 ∧ Fr F s.1 (cLay3 chk i w s).1 := by
  unfold cLay3
  cases chk with
  | true =>
    rw [if_pos rfl]
    exact ⟨fun z hz => sm.P _ 4 _ hz, fun k hk => kP_n _ _ _ hk, kP_s _ _ _ _, rfl, fun h => (by cases h), KEq.setP _ _ _ _, Fr.P _ 4 _ hF⟩
  | false =>
    rw [if_neg Bool.false_ne_true]
    exact ⟨fun z hz => (sm.P _ 4 _ hz).trans (sm.F _ _ hz), fun k hk => kP_n s.1 i (kP s.1 i 3) hk, kP_s s.1 i 4 _, rfl, fun _ => kF_s _ i 25 w, (KEq.setP _ _ _ _).trans (KEq.setF _ _ _), (Fr.P _ 4 _ hF).trans (Fr.F _ _ hF)⟩
/-- a box laid anew -/
theorem lay_un {S : zCS} {chk : Bool} {f1 f2 i : Nat} {L : LayT} {L' : LM} {Fl : FlT} {C' : CM} (hW : WS S) (hL : LOK S chk f1 f2 L L') (hF : FLK S chk f1 f2 Fl C') (hKL : ∀ s j w, KEq s.1 (L s j w).1) (hKF : ∀ s fs i x y, KEq s.1 (Fl s fs i x y).1.1) (hR : RLP S f2 L') (hRC : RCP S f2 C') (hT : TXP S f2 C') (hi : i < kN S) (hcx : mCtx S i = true) (hN1 : kN S ≤ f1 + 1 + i) (hN2 : kN S ≤ f2 + 1 + i)
    (c : zCS) (n : Int32) (m : zCS) (ct w : Int32) (b : Bool) (hc : SS S c) (hm : SS S m) (hwb : WB i w) (hci : chk = false → CInv S c i) :
    (LPp S (cLay3 chk i w (cLay2 L Fl (kSetP c i 2 w, n) i)).1 (mLays L' C' (m, ct) i w b).1 i ∧ kP (cLay3 chk i w (cLay2 L Fl (kSetP c i 2 w, n) i)).1 i 2 = w ∧ kP (cLay3 chk i w (cLay2 L Fl (kSetP c i 2 w, n) i)).1 i 3 = kP (mLays L' C' (m, ct) i w b).1 i 3 ∧ kP (cLay3 chk i w (cLay2 L Fl (kSetP c i 2 w, n) i)).1 i 4 = kP (mLays L' C' (m, ct) i w b).1 i 3 ∧ (kText S i = true → LE S (kLn (cLay3 chk i w (cLay2 L Fl (kSetP c i 2 w, n) i)).1 i) (kLn (mLays L' C' (m, ct) i w b).1 i) i) ∧ (0 ≤ (kP (mLays L' C' (m, ct) i w b).1 i 3).toInt ∧ (kP (mLays L' C' (m, ct) i w b).1 i 3).toInt ≤ HB S i)) ∧
    (chk = false → kF (cLay3 chk i w (cLay2 L Fl (kSetP c i 2 w, n) i)).1 i 25 = w ∧ ∀ j, j ∈ kItemsOf S i → KQ S c (cLay3 chk i w (cLay2 L Fl (kSetP c i 2 w, n) i)).1 j ∧ CInv S (cLay3 chk i w (cLay2 L Fl (kSetP c i 2 w, n) i)).1 j) ∧
    (KEq c (cLay3 chk i w (cLay2 L Fl (kSetP c i 2 w, n) i)).1 ∧ Fr (Dm S i) c (cLay3 chk i w (cLay2 L Fl (kSetP c i 2 w, n) i)).1 ∧ (kP (cLay3 chk i w (cLay2 L Fl (kSetP c i 2 w, n) i)).1 i 0 = kP c i 0 ∧ kP (cLay3 chk i w (cLay2 L Fl (kSetP c i 2 w, n) i)).1 i 1 = kP c i 1)) ∧
    (chk = false → mAnew m i w b = true → C1 S c m i → CTd n (cLay2 L Fl (kSetP c i 2 w, n) i).2 (ct + 1) (mLays L' C' (m, ct) i w b).2) := by
  have h0 : MQe m (mL1 m i w) := MQe.L1 m i w
  have hmz : ∀ z, z ≠ i → sm m (mL1 m i w) z := fun z hz => ((sm.P m 4 w hz).trans (sm.F _ 0 hz)).trans (sm.P _ 2 w hz)
  have hcz : ∀ z, z ≠ i → sm c (kSetP c i 2 w) z := fun z hz => sm.P c 2 w hz
  have hiz : ∀ j, j ∈ kItemsOf S i → ∀ z, Dm S j z → z ≠ i := fun j hj z hz e => not_self hW hi hj (e ▸ hz)
  have e2 : kP (mL1 m i w) i 2 = w := kP_s _ _ _ _
  have hcon := con_ok hW hL hF hKL hKF hR hRC hT hi hcx hN1 hN2 (kSetP c i 2 w) n (mL1 m i w) (ct + (if mAnew m i w b = true then 1 else 0)) (mAnew m i w b) (hc.setP i 2 w) (hm.K h0.1) ((kP_s _ _ _ _).trans e2.symm) (by rw [kP_s]; exact hwb) (fun h9 j hj z hz hkz => by
    obtain ⟨p1, p2, -, -⟩ := items_mem hW hi hj
    rw [(hcz z (hiz j hj z hz)).2.1] at hkz
    exact ((hci h9) z (Dm.down p2 p1 hz) hkz).st (fun y hy _ => hcz y (hiz j hj y (hz.trans hy))) (hcz z (hiz j hj z hz)).sl)
  have hrc := RK.Con hW hi hR hRC hN2 (mL1 m i w, ct + (if mAnew m i w b = true then 1 else 0)) [] 0 0 (mAnew m i w b) (hm.K h0.1)
  have eT : mLays L' C' (m, ct) i w b = mLay2 (mCon L' C' (mL1 m i w, ct + (if mAnew m i w b = true then 1 else 0)) [] i 0 0 (mAnew m i w b)) i := rfl
  rw [eT]
  clear eT
  generalize hTT : mCon L' C' (mL1 m i w, ct + (if mAnew m i w b = true then 1 else 0)) [] i 0 0 (mAnew m i w b) = T at hcon hrc ⊢
  generalize hRR : cLay2 L Fl (kSetP c i 2 w, n) i = R at hcon ⊢
  obtain ⟨⟨a1, a2, a3⟩, a4, a5, ⟨a6, a7, a8, a9⟩, a10⟩ := hcon
  obtain ⟨l1, l2, l3, l4, l5, l6, l7⟩ := lay3_at chk i w R (F := Dm S i) (Dm.rf S i)
  generalize (cLay3 chk i w R).1 = C at l1 l2 l3 l4 l5 l6 l7 ⊢
  have t3 : kP (mLay2 T i).1 i 3 = mHv T.1.1.1 T.1.2 i T.2 := kP_s T.1.1.1 i 3 _
  have tz : ∀ z, z ≠ i → sm T.1.1.1 (mLay2 T i).1 z := fun z hz => sm.P _ 3 _ hz
  have tl : kLn (mLay2 T i).1 i = kLn T.1.1.1 i := rfl
  have hsl : sl R.1 C i → True := fun _ => trivial
  refine ⟨⟨a1.st (fun z _ hne => l1 z hne) (fun z _ hne => tz z hne) (Or.inl hcx), ((l2 2 (by decide)).trans (a8 2 (by decide))).trans (kP_s _ _ _ _), ((l2 3 (by decide)).trans a2).trans t3.symm, (l3.trans a2).trans t3.symm, fun ht => by rw [l4, tl]; exact a3 ht, by rw [t3]; exact a4⟩, fun h9 => ⟨l5 h9, fun j hj => ?_⟩, ⟨((KEq.setP c i 2 w).trans a6).trans l6, ((Fr.P c 2 w (Dm.rf S i)).trans a7).trans l7, ((l2 0 (by decide)).trans (a8 0 (by decide))).trans (kP_n _ _ _ (by decide)), ((l2 1 (by decide)).trans (a8 1 (by decide))).trans (kP_n _ _ _ (by decide))⟩, fun h9 ha hC1 => ?_⟩
  · obtain ⟨p1, p2, p3, p4⟩ := items_mem hW hi hj
    obtain ⟨k1, k2⟩ := a5 h9 j hj
    exact ⟨k1.st (fun z hz => (hcz z (hiz j hj z hz)).sl) (fun z hz => (l1 z (hiz j hj z hz)).sl), k2.st hW p4 (fun z hz _ => l1 z (hiz j hj z hz)) (l1 j (hiz j hj j (Dm.rf S j))).sl⟩
  · have h8 := a10 h9 ha (fun j hj z hz => by
      obtain ⟨p1, p2, p3, p4⟩ := items_mem hW hi hj
      exact (hC1 z (Dm.down p2 p1 hz)).st (hcz z (hiz j hj z hz)).sl (hmz z (hiz j hj z hz)).sl)
    rw [ha] at h8
    exact h8
theorem KQ.ctx {S c C : zCS} {i : Nat} (hW : WS S) (hcx : mCtx S i = true) (h : kF C i 25 = kP C i 2 ∧ kF C i 25 ≠ -1) (hq : ∀ q, q ∈ kItemsOf S i → KQ S c C q) : KQ S c C i := by
  intro x hx
  by_cases e : x = i
  · subst e; exact ⟨fun _ => h, fun h9 => by rw [hcx] at h9; cases h9⟩
  · obtain ⟨q, p1, p2, p3⟩ := hx.child e
    exact hq q (mem_items hW p1 p2) x p3
theorem CInv.ctx {S C : zCS} {i : Nat} (hW : WS S) (h : CI S C i) (hq : ∀ q, q ∈ kItemsOf S i → CInv S C q) : CInv S C i := by
  intro x hx hk
  by_cases e : x = i
  · subst e; exact h
  · obtain ⟨q, p1, p2, p3⟩ := hx.child e
    exact hq q (mem_items hW p1 p2) x p3 hk
theorem txp_all {S : zCS} : ∀ f, TXP S f (mLF f).2 := by
  intro f
  cases f with
  | zero => intro s ps i x y b _ h1 h2; omega
  | succ f => exact txp_ok
theorem lay_ok {S : zCS} {chk : Bool} (hW : WS S) {f1 : Nat} (ih : ∀ f2, LOK S chk f1 f2 (cLF chk f1).1 (mLF f2).1 ∧ FLK S chk f1 f2 (cLF chk f1).2 (mLF f2).2) (f2 : Nat) : LOK S chk (f1 + 1) (f2 + 1) (cLF chk (f1 + 1)).1 (mLF (f2 + 1)).1 := by
  intro c n m ct i w b hc hm hi hN1 hN2 hcx hwb hci
  have hKL : ∀ s j w, KEq s.1 ((cLF chk f1).1 s j w).1 := fun s j w => ((NQ.LF chk f1).1 s j w).1
  have hKF : ∀ s fs i x y, KEq s.1 ((cLF chk f1).2 s fs i x y).1.1 := fun s fs i x y => ((NQ.LF chk f1).2 s fs i x y).1
  have eC : (cLF chk (f1 + 1)).1 (c, n) i w = if chk = false ∧ kF c i 25 = w then (kSetP c i 3 (kP c i 4), n) else cLay3 chk i w (cLay2 (cLF chk f1).1 (cLF chk f1).2 (kSetP c i 2 w, n + 1) i) := rfl
  have hwne := hwb.ne
  rw [eC]
  by_cases hca : chk = false ∧ kF c i 25 = w
  · rw [if_pos hca]
    obtain ⟨hk9, hk25⟩ := hca
    obtain ⟨b1, b2, b3, b4⟩ := hci hk9 i (Dm.rf S i) (by rw [hk25]; exact hwne)
    rw [hk25] at b4
    obtain ⟨g1, g2, g3, g4, g5⟩ := b4 m ct b (f2 + 1) hm hN2
    have hz : ∀ z, z ≠ i → sm c (kSetP c i 3 (kP c i 4)) z := fun z hz => sm.P c 3 _ hz
    have hsl : sl c (kSetP c i 3 (kP c i 4)) i := sl.P c i i 3 _ (by decide) (by decide)
    refine ⟨⟨g1.st (fun z _ hne => hz z hne) (fun z _ _ => sm.rf _ z) (Or.inl hcx), hsl.1.1.trans g2, (kP_s _ _ _ _).trans g3, fun ht => by rw [hsl.2.2]; exact g4 ht, g5, fun _ => ⟨fun x hx => ?_, (hci hk9).st hW hi (fun z _ hne => hz z hne) hsl⟩⟩, Fr.P c 3 _ (Dm.rf S i), ⟨kP_n _ _ _ (by decide), kP_n _ _ _ (by decide)⟩, KEq.setP _ _ _ _, fun _ hb hC1 => ?_⟩
    · by_cases e : x = i
      · subst e
        refine ⟨fun _ => ⟨?_, ?_⟩, fun h => by rw [hcx] at h; cases h⟩
        · rw [hsl.2.1, hsl.1.1, hk25, g2]
        · rw [hsl.2.1, hk25]; exact hwne
      · refine ⟨fun h => ?_, fun _ => (hz x e).2.1⟩
        rw [(hz x e).2.1, (hz x e).1]
        exact b3 x hx e h
    · have hC := hC1 i (Dm.rf S i)
      have hno : mAnew m i w b = false := by
        rcases hC with h | ⟨h1, h2, h3⟩
        · rw [hk25] at h; exact absurd h.1 hwne
        · unfold mAnew
          rw [h2, h3, hk25]
          simp
      have hrc := (RK.Con hW hi (RK.all hW f2).1 (RK.all hW f2).2 (show kN S ≤ f2 + 1 + i from hN2) (mL1 m i w, ct + (if mAnew m i w b = true then 1 else 0)) [] 0 0 (mAnew m i w b) (hm.K (MQe.L1 m i w).1)).2.2.2.2 hno
      have e9 : ((mLF (f2 + 1)).1 (m, ct) i w b).2 = ct := by
        show (mCon (mLF f2).1 (mLF f2).2 (mL1 m i w, ct + (if mAnew m i w b = true then 1 else 0)) [] i 0 0 (mAnew m i w b)).1.1.2 = ct
        rw [hrc]
        show ct + (if mAnew m i w b = true then 1 else 0) = ct
        rw [if_neg (by rw [hno]; exact Bool.false_ne_true), Int32.add_zero]
      rw [e9]
      exact CTd.rf n ct
  · rw [if_neg hca]
    have hun : ∀ (m : zCS) (ct : Int32) (b : Bool) (f2 : Nat), SS S m → kN S ≤ f2 + 1 + i → _ := fun m ct b f2 hm hN2 => lay_un hW (ih f2).1 (ih f2).2 hKL hKF (RK.all hW f2).1 (RK.all hW f2).2 (txp_all f2) hi hcx hN1 hN2 c (n + 1) m ct w b hc hm hwb hci
    obtain ⟨⟨u1, u2, u3, u4, u5, u6⟩, u7, ⟨u8, u9, u10⟩, u11⟩ := hun m ct b f2 hm hN2
    refine ⟨⟨u1, u2, u3, u5, u6, fun hk9 => ⟨KQ.ctx hW hcx ?_ (fun q hq => ((u7 hk9).2 q hq).1), CInv.ctx hW ?_ (fun q hq => ((u7 hk9).2 q hq).2)⟩⟩, u9, u10, u8, fun hk9 hb hC1 => ?_⟩
    · rw [(u7 hk9).1, u2]; exact ⟨rfl, hwne⟩
    · have e25 := (u7 hk9).1
      refine ⟨hcx, by rw [e25]; exact hwb, fun z hz hne hcz => ?_, fun m ct b f hm hf => ?_⟩
      · obtain ⟨q, p1, p2, p3⟩ := hz.child hne
        exact (((u7 hk9).2 q (mem_items hW p1 p2)).1 z p3).1 hcz
      · cases f with
        | zero => omega
        | succ f =>
          rw [e25]
          obtain ⟨⟨v1, v2, v3, v4, v5, v6⟩, -, -, -⟩ := hun m ct b f hm hf
          exact ⟨v1, v2, v4, v5, v6⟩
    · have hC := hC1 i (Dm.rf S i)
      have ha : mAnew m i w b = true := by
        unfold mAnew
        rw [hb]
        rcases hC with h | ⟨h1, h2, h3⟩
        · simp [h.2]
        · have : kP m i 4 ≠ w := fun e => hca ⟨hk9, h3.symm.trans e⟩
          simp [this]
      exact CTd.trans ⟨1, rfl, rfl⟩ (u11 hk9 ha hC1)
/-- the two layouts go together -/
theorem LF_ok {S : zCS} (chk : Bool) (hW : WS S) : ∀ f1 f2, LOK S chk f1 f2 (cLF chk f1).1 (mLF f2).1 ∧ FLK S chk f1 f2 (cLF chk f1).2 (mLF f2).2 := by
  intro f1
  induction f1 with
  | zero => exact fun f2 => ⟨fun c n m ct j w b _ _ h1 h2 => by omega, fun c n m ct fs i x y b U _ _ h1 h2 => by omega⟩
  | succ f1 ih =>
    intro f2
    cases f2 with
    | zero => exact ⟨fun c n m ct j w b _ _ h1 _ h2 => by omega, fun c n m ct fs i x y b U _ _ h1 _ h2 => by omega⟩
    | succ f2 => exact ⟨lay_ok hW ih f2, flow_ok hW (ih f2).1 (ih f2).2 (RK.all hW f2).1 (RK.all hW f2).2 (txp_all f2)⟩
