/-! ===== the plain law: the flow of a block ===== -/
def sW (S : zCS) (l : List Nat) : Nat := (l.map (fun j => 1 + sz S j)).sum
theorem sW_cons (S : zCS) (j : Nat) (l : List Nat) : sW S (j :: l) = (1 + sz S j) + sW S l := by unfold sW; rw [List.map_cons, List.sum_cons]
theorem PB.mono {V W : Int} {y : Int32} {t : Int32 × Int32 × Int32} (h : PB V y t) (hv : V ≤ W) : PB W y t := ⟨⟨by have := h.1.1; omega, by have := h.1.2; omega⟩, h.2⟩
/-- the children were treated -/
def KD (S : zCS) (chk : Bool) (c : zCS) (n : Int32) (m : zCS) (ct : Int32) (fs : List F5) (l : List Nat) (y : Int32) (b : Bool) (V : Int) (R : FwT) (T : BT) : Prop :=
  (KEq c R.1.1.1 ∧ Fr (fun z => ∃ j, j ∈ l ∧ kLifted S j = false ∧ Dm S j z) c R.1.1.1 ∧ ∀ j, j ∈ l → kLifted S j = false → ChOK S chk c R.1.1.1 T.1.1.1 j) ∧ (R.1.2.map toP = T.1.2 ∧ R.1.2.length ≤ fs.length + sW S l ∧ ∀ z, z ∈ R.1.2 → FOk (V + 1000 * (sW S l : Nat)) z) ∧ (R.2.1 = y + T.2.1 ∧ R.2.2.1 = T.2.2.1 ∧ R.2.2.2 = T.2.2.2) ∧ PB (V + 1000 * (sW S l : Nat)) y T.2 ∧ (chk = false → b = true → (∀ j, j ∈ l → kLifted S j = false → C1 S c m j) → CTd n R.1.1.2 ct T.1.1.2) ∧ MQe m T.1.1.1 ∧ Fr (fun z => ∃ j, j ∈ l ∧ kLifted S j = false ∧ Dm S j z) m T.1.1.1
theorem KD.lift {S : zCS} {chk : Bool} {c : zCS} {n : Int32} {m : zCS} {ct : Int32} {fs : List F5} {j : Nat} {l : List Nat} {y : Int32} {b : Bool} {V : Int} {R : FwT} {T : BT} (hl : kLifted S j = true) (h : KD S chk c n m ct fs l y b V R T) : KD S chk c n m ct fs (j :: l) y b V R T := by
  obtain ⟨⟨a1, a2, a3⟩, ⟨a4, a5, a6⟩, a7, a8, a9, a10, a11⟩ := h
  have e := sW_cons S j l
  have hm : ∀ z, (∃ q, q ∈ l ∧ kLifted S q = false ∧ Dm S q z) → ∃ q, q ∈ j :: l ∧ kLifted S q = false ∧ Dm S q z := fun z ⟨q, h1, h2⟩ => ⟨q, List.mem_cons_of_mem _ h1, h2⟩
  refine ⟨⟨a1, a2.mono hm, fun q hq hq2 => ?_⟩, ⟨a4, by omega, fun z hz => (a6 z hz).mono (by omega)⟩, a7, a8.mono (by omega), fun h1 h2 h3 => a9 h1 h2 (fun q hq => h3 q (List.mem_cons_of_mem _ hq)), a10, a11.mono hm⟩
  rcases List.mem_cons.mp hq with e1 | hq
  · rw [e1, hl] at hq2; cases hq2
  · exact a3 q hq hq2
theorem kids_ok {S : zCS} {chk : Bool} {f1 f2 i : Nat} {L : LayT} {L' : LM} {Fl : FlT} {C' : CM} (hW : WS S) (hi : i < kN S) (hk : kF S i 2 = 98) (hL : LOK S chk f1 f2 L L') (hF : FLK S chk f1 f2 Fl C') (hR : RLP S f2 L') (hRC : RCP S f2 C') (hT : TXP S f2 C') (hN1 : kN S ≤ f1 + 1 + i) (hN2 : kN S ≤ f2 + 1 + i) (x y inner : Int32) (b : Bool) :
    ∀ (l : List Nat) (c : zCS) (n : Int32) (m : zCS) (ct : Int32) (fs : List F5) (pl g lo : Int32) (V : Int), SS S c → SS S m → l.Nodup → (∀ j, j ∈ l → j ∈ kCh S i) → kP c i 2 = kP m i 2 → WB i (kP c i 2) → ((mCtx S i = true ∧ x = 0 ∧ y = 0) ∨ (mCtx S i = false ∧ kP m i 0 = x ∧ kP m i 1 = y)) → kInner m i = inner → 0 ≤ V → V + 1000 * (sW S l : Nat) ≤ 900000 → (∀ z, z ∈ fs → FOk V z) → (-V ≤ y.toInt ∧ y.toInt ≤ V) → PB V y (pl, g, lo) → fs.length + sW S l ≤ 24 → (chk = false → ∀ j, j ∈ l → kLifted S j = false → CInv S c j) →
    KD S chk c n m ct fs l y b V (l.foldl (fwS L Fl i x y) (((c, n), fs), y + pl, g, lo)) (l.foldl (mBkS L' C' (x + kF S i 12) inner y b) (((m, ct), fs.map toP), pl, g, lo)) := by
  intro l
  induction l with
  | nil =>
    intro c n m ct fs pl g lo V hc hm _ _ _ _ _ _ hV0 hV hfs hy hpb _ _
    refine ⟨⟨KEq.rf c, Fr.rf _ _, fun j hj => absurd hj List.not_mem_nil⟩, ⟨rfl, Nat.le_add_right _ _, fun z hz => (hfs z hz).mono ?_⟩, ⟨rfl, rfl, rfl⟩, hpb.mono ?_, fun _ _ _ => CTd.rf n ct, MQe.rf m, Fr.rf _ _⟩
    · omega
    · omega
  | cons j l ih =>
    intro c n m ct fs pl g lo V hc hm hnd hsub hw2 hwb hxy hin hV0 hV hfs hy hpb hlen hci
    obtain ⟨hnj, hnl⟩ := List.nodup_cons.mp hnd
    have hs1 := sW_cons S j l
    rw [List.foldl_cons, List.foldl_cons]
    cases hlf : kLifted S j with
    | true =>
      have hlc : kLifted c j = true := (congrFun hc.lifted j).trans hlf
      have e1 : fwS L Fl i x y (((c, n), fs), y + pl, g, lo) j = (((c, n), fs), y + pl, g, lo) := by
        have h1 : ¬ kFloat c j = true := by unfold kFloat; rw [hlc]; simp
        have h2 : ¬ kFlow c j = true := by unfold kFlow; rw [hlc]; simp
        unfold Pilot.CColumnarPressLaw_law_r6471_6693c1.fwS
        rw [if_neg h1, if_neg h2]
      have e2 : mBkS L' C' (x + kF S i 12) inner y b (((m, ct), fs.map toP), pl, g, lo) j = (((m, ct), fs.map toP), pl, g, lo) := if_pos ((congrFun hm.lifted j).trans hlf)
      rw [e1, e2]
      exact (ih c n m ct fs pl g lo V hc hm hnl (fun q hq => hsub q (List.mem_cons_of_mem _ hq)) hw2 hwb hxy hin hV0 (by omega) hfs hy hpb (by omega) (fun h9 q hq => hci h9 q (List.mem_cons_of_mem _ hq))).lift hlf
    | false =>
      have pj := (hW.1.ch hi (hsub j List.mem_cons_self)).2.2
      have hji := mem_items hW pj hlf
      have jN := (items_mem hW hi hji).2.2.2
      have hst := step_ok hW hi hk hji hL hF hR hRC hT hN1 hN2 c n m ct fs x y pl g lo b hc hm hw2 hwb hxy hV0 (by omega) hfs hy hpb (by omega) (fun h9 => hci h9 j List.mem_cons_self hlf)
      rw [hin] at hst
      generalize fwS L Fl i x y (((c, n), fs), y + pl, g, lo) j = R at hst ⊢
      generalize mBkS L' C' (x + kF S i 12) inner y b (((m, ct), fs.map toP), pl, g, lo) j = T at hst ⊢
      obtain ⟨⟨⟨c1, n1⟩, fs1⟩, a1, a2, a3⟩ := R
      obtain ⟨⟨⟨m1, ct1⟩, ps1⟩, pl1, g1, l1⟩ := T
      obtain ⟨⟨s1, s2, s3⟩, ⟨s4, s5, s6⟩, ⟨s7, s8, s9⟩, s10, s11, s12, s13⟩ := hst
      have s4' : fs1.map toP = ps1 := s4
      have s7' : a1 = y + pl1 := s7
      have s8' : a2 = g1 := s8
      have s9' : a3 = l1 := s9
      subst s4' s7' s8' s9'
      have s1' : KEq c c1 := s1
      have s2' : Fr (Dm S j) c c1 := s2
      have s3' : ChOK S chk c c1 m1 j := s3
      have s5' : fs1.length ≤ fs.length + (1 + sz S j) := s5
      have s11' : chk = false → b = true → C1 S c m j → CTd n n1 ct ct1 := s11
      have s12' : MQe m m1 := s12
      have s13' : Fr (Dm S j) m m1 := s13
      clear s1 s2 s3 s5 s11 s12 s13 s4 s7 s8 s9
      have hns := not_self hW hi hji
      have hci1 := s2' i hns
      have hmi1 := s13' i hns
      have hq2 : ∀ q, q ∈ l → kLifted S q = false → q ∈ kItemsOf S i ∧ q < kN S := fun q hq hlq => by
        have pq := (hW.1.ch hi (hsub q (List.mem_cons_of_mem _ hq))).2.2
        have hqi := mem_items hW pq hlq
        exact ⟨hqi, (items_mem hW hi hqi).2.2.2⟩
      have hdis : ∀ q, q ∈ l → kLifted S q = false → ∀ z, Dm S q z → ¬ Dm S j z := fun q hq hlq z hz h2 => by
        obtain ⟨g1, g2⟩ := hq2 q hq hlq
        have := Dm.same hW.1 (Dm.lt hW g2 hz) hz h2 (items_mem hW hi g1).1 pj
        exact hnj (this ▸ hq)
      have hI := ih c1 n1 m1 ct1 fs1 pl1 a2 a3 (V + 1000 * ((1 + sz S j : Nat) : Int)) (hc.K s1') (hm.K s12'.1) hnl (fun q hq => hsub q (List.mem_cons_of_mem _ hq)) ((hci1.1 2).trans (hw2.trans (hmi1.1 2).symm)) (by rw [hci1.1 2]; exact hwb) (hxy.imp id (fun ⟨h1, h2, h3⟩ => ⟨h1, (hmi1.1 0).trans h2, (hmi1.1 1).trans h3⟩)) ((inner_eq (hm.K s12'.1) hm (hmi1.1 2)).trans hin) (by omega) (by omega) s6 (by omega) s10 (by omega) (fun h9 q hq hlq => (hci h9 q (List.mem_cons_of_mem _ hq) hlq).st hW (hq2 q hq hlq).2 (fun z hz _ => s2' z (hdis q hq hlq z hz)) (s2' q (hdis q hq hlq q (Dm.rf S q))).sl)
      generalize l.foldl (fwS L Fl i x y) (((c1, n1), fs1), y + pl1, a2, a3) = R at hI ⊢
      generalize l.foldl (mBkS L' C' (x + kF S i 12) inner y b) (((m1, ct1), fs1.map toP), pl1, a2, a3) = T at hI ⊢
      obtain ⟨⟨i1, i2, i3⟩, ⟨i4, i5, i6⟩, i7, i8, i9, i10, i11⟩ := hI
      have hjz : ∀ z, Dm S j z → ¬ ∃ q, q ∈ l ∧ kLifted S q = false ∧ Dm S q z := fun z hz ⟨q, h1, h2, h3⟩ => hdis q h1 h2 z h3 hz
      have hmo : ∀ z, (∃ q, q ∈ l ∧ kLifted S q = false ∧ Dm S q z) → ∃ q, q ∈ j :: l ∧ kLifted S q = false ∧ Dm S q z := fun z ⟨q, h1, h2⟩ => ⟨q, List.mem_cons_of_mem _ h1, h2⟩
      have hmj : ∀ z, Dm S j z → ∃ q, q ∈ j :: l ∧ kLifted S q = false ∧ Dm S q z := fun z hz => ⟨j, List.mem_cons_self, hlf, hz⟩
      have hni : ¬ ∃ q, q ∈ l ∧ kLifted S q = false ∧ Dm S q i := fun ⟨q, h1, h2, h3⟩ => not_self hW hi (hq2 q h1 h2).1 h3
      refine ⟨⟨s1'.trans i1, (s2'.mono hmj).trans (i2.mono hmo), fun q hq hlq => ?_⟩, ⟨i4, by omega, fun z hz => (i6 z hz).mono (by omega)⟩, i7, i8.mono (by omega), fun h9 hb hC1 => (s11' h9 hb (hC1 j List.mem_cons_self hlf)).trans (i9 h9 hb (fun q hq hlq z hz => (hC1 q (List.mem_cons_of_mem _ hq) hlq z hz).st (s2' z (hdis q hq hlq z hz)).sl (s13' z (hdis q hq hlq z hz)).sl)), s12'.trans i10, (s13'.mono hmj).trans (i11.mono hmo)⟩
      rcases List.mem_cons.mp hq with e1 | hq
      · rw [e1]
        exact s3'.st hW jN pj (fun z _ => sl.rf c z) (fun z hz => i2 z (hjz z hz)) (fun z hz => i11 z (hjz z hz)) (Or.inr ⟨(i11 i hni).1 0, (i11 i hni).1 1⟩)
      · exact (i3 q hq hlq).st hW (hq2 q hq hlq).2 (items_mem hW hi (hq2 q hq hlq).1).1 (fun z hz => (s2' z (hdis q hq hlq z hz)).sl) (fun z _ => sm.rf _ z) (fun z _ => sm.rf _ z) (Or.inr ⟨rfl, rfl⟩)
