/-! ===== the plain law: a run of items of a row or grid ===== -/
theorem LQ.st2 {S c d C C' M M' : zCS} (hW : WS S) {chk : Bool} {i : Nat} {w : Int32} (hi : i < kN S) (hc : mCtx S i = true) (h : LQ S chk c C M i w) (h0 : ∀ x, Dm S i x → sl d c x) (h1 : ∀ x, Dm S i x → x ≠ i → sm C C' x) (h1i : sl C C' i) (h3 : kP C' i 3 = kP C i 3) (h2 : ∀ x, Dm S i x → x ≠ i → sm M M' x) (h4 : kP M' i 3 = kP M i 3) (h5 : kLn M' i = kLn M i) : LQ S chk d C' M' i w := by
  obtain ⟨a1, a2, a3, a4, a5, a6⟩ := h
  refine ⟨a1.st h1 h2 (Or.inl hc), h1i.1.1.trans a2, by rw [h3, h4]; exact a3, fun ht => by rw [h1i.2.2, h5]; exact a4 ht, by rw [h4]; exact a5, fun hk => ⟨(a6 hk).1.st h0 (fun x hx => ?_), (a6 hk).2.st hW hi h1 h1i⟩⟩
  by_cases e : x = i
  · rw [e]; exact h1i
  · exact (h1 x hx e).sl
theorem i32_a (a b c : Int32) : a - (b + c) = a - b - c := by
  rw [Int32.sub_eq_add_neg, Int32.sub_eq_add_neg, Int32.sub_eq_add_neg, Int32.neg_add, Int32.sub_eq_add_neg, Int32.add_assoc]
theorem i32_b (a b c : Int32) : b + a + c = a + (b + c) := by rw [Int32.add_comm b a, Int32.add_assoc]
/-- where an item of a run begins -/
def xp (dx : Nat × Nat → Int32) : List (Nat × Nat) → Int32 → Nat → Int32
  | [], x, _ => x
  | q :: r, x, j => if q.2 = j then x else xp dx r (x + dx q) j
theorem xp_hd (dx : Nat × Nat → Int32) (q : Nat × Nat) (r : List (Nat × Nat)) (x : Int32) : xp dx (q :: r) x q.2 = x := if_pos rfl
theorem xp_tl (dx : Nat × Nat → Int32) {q : Nat × Nat} (r : List (Nat × Nat)) (x : Int32) {j : Nat} (h : q.2 ≠ j) : xp dx (q :: r) x j = xp dx r (x + dx q) j := if_neg h
theorem xp_shift {dx dx' : Nat × Nat → Int32} : ∀ (rs : List Nat) (k r : Nat) (x : Int32) (j : Nat), (∀ t e, rs[t]? = some e → dx (k + t, e) = dx' (r + t, e)) → xp dx (nums rs k) x j = xp dx' (nums rs r) x j := by
  intro rs
  induction rs with
  | nil => intro k r x j _; rfl
  | cons e rs ih =>
    intro k r x j h
    show (if e = j then x else xp dx (nums rs (k + 1)) (x + dx (k, e)) j) = if e = j then x else xp dx' (nums rs (r + 1)) (x + dx' (r, e)) j
    have h0 := h 0 e rfl
    rw [Nat.add_zero, Nat.add_zero] at h0
    rw [h0, ih (k + 1) (r + 1) _ j (fun t e9 h9 => by
      have := h (t + 1) e9 h9
      rw [show k + (t + 1) = k + 1 + t by omega, show r + (t + 1) = r + 1 + t by omega] at this
      exact this)]
/-- an item that was laid: here and there -/
def RI (S : zCS) (chk : Bool) (c C M : zCS) (j : Nat) (w x y : Int32) : Prop := LQ S chk c C M j w ∧ kP M j 2 = w ∧ kP C j 0 = x + kF S j 10 ∧ kP C j 1 = y + kUpper S j
theorem RI.st {S c d C C' M M' : zCS} (hW : WS S) {chk : Bool} {j : Nat} {w x y : Int32} (hj : j < kN S) (hc : mCtx S j = true) (h : RI S chk c C M j w x y) (h0 : ∀ x, Dm S j x → sl d c x) (h1 : ∀ x, Dm S j x → sm C C' x) (h2 : ∀ x, Dm S j x → sm M M' x) : RI S chk d C' M' j w x y := by
  obtain ⟨a1, a2, a3, a4⟩ := h
  have c1 := h1 j (Dm.rf S j)
  have m1 := h2 j (Dm.rf S j)
  exact ⟨a1.st2 hW hj hc h0 (fun x hx _ => h1 x hx) c1.sl (c1.1 3) (fun x hx _ => h2 x hx) (m1.1 3) m1.2.2, (m1.1 2).trans a2, (c1.1 0).trans a3, (c1.1 1).trans a4⟩
theorem run_ok {S : zCS} {chk : Bool} {f1 f2 i : Nat} {L : LayT} {L' : LM} (hW : WS S) (hi : i < kN S) (hk : kItems S i = true) (hL : LOK S chk f1 f2 L L') (hR : RLP S f2 L') (hN1 : kN S ≤ f1 + 1 + i) (hN2 : kN S ≤ f2 + 1 + i)
    (wd dx : Nat × Nat → Int32) (top : Int32) (fA : (zCS × Int32) × Int32 × Int32 → Nat × Nat → (zCS × Int32) × Int32 × Int32) (gB : Nat → Int32) (b : Bool)
    (hfA : ∀ s q, SS S s.1.1 → fA s q = ((cPut (L s.1 q.2 (wd q)).1 q.2 s.2.1 top, (L s.1 q.2 (wd q)).2), s.2.1 + dx q, imax s.2.2 (kP (L s.1 q.2 (wd q)).1 q.2 3 + kEnds S q.2))) :
    ∀ (rs : List Nat) (k0 r0 : Nat) (c : zCS) (n : Int32) (m : zCS) (ct x h : Int32), SS S c → SS S m → rs.Nodup → (∀ j, j ∈ rs → j ∈ kItemsOf S i) → (∀ t j, rs[t]? = some j → gB (r0 + t) = wd (k0 + t, j)) → (∀ q, q ∈ nums rs k0 → WB q.2 (wd q)) → (chk = false → ∀ j, j ∈ rs → CInv S c j) → 0 ≤ h.toInt →
    ((nums rs k0).foldl fA ((c, n), x, h)).2.2 = ((nums rs r0).foldl (mR1 L' b gB) ((m, ct), h)).2 ∧ (KEq c ((nums rs k0).foldl fA ((c, n), x, h)).1.1 ∧ MQe m ((nums rs r0).foldl (mR1 L' b gB) ((m, ct), h)).1.1) ∧
    (Fr (fun z => ∃ j, j ∈ rs ∧ Dm S j z) c ((nums rs k0).foldl fA ((c, n), x, h)).1.1 ∧ Fr (fun z => ∃ j, j ∈ rs ∧ Dm S j z) m ((nums rs r0).foldl (mR1 L' b gB) ((m, ct), h)).1.1) ∧
    (∀ q, q ∈ nums rs k0 → RI S chk c ((nums rs k0).foldl fA ((c, n), x, h)).1.1 ((nums rs r0).foldl (mR1 L' b gB) ((m, ct), h)).1.1 q.2 (wd q) (xp dx (nums rs k0) x q.2) top) ∧
    (0 ≤ ((nums rs r0).foldl (mR1 L' b gB) ((m, ct), h)).2.toInt ∧ ((nums rs r0).foldl (mR1 L' b gB) ((m, ct), h)).2.toInt ≤ max h.toInt (1000 * ((rs.map (fun j => 1 + sz S j)).sum : Nat))) ∧
    (chk = false → b = true → (∀ j, j ∈ rs → C1 S c m j) → CTd n ((nums rs k0).foldl fA ((c, n), x, h)).1.2 ct ((nums rs r0).foldl (mR1 L' b gB) ((m, ct), h)).1.2) := by
  intro rs
  induction rs with
  | nil => intro k0 r0 c n m ct x h hc hm _ _ _ _ _ h0; exact ⟨rfl, ⟨KEq.rf c, MQe.rf m⟩, ⟨Fr.rf _ _, Fr.rf _ _⟩, fun q hq => absurd hq List.not_mem_nil, ⟨h0, by show h.toInt ≤ max h.toInt _; omega⟩, fun _ _ _ => CTd.rf n ct⟩
  | cons j rs ih =>
    intro k0 r0 c n m ct x h hc hm hn hrs hg hwb hci h0
    obtain ⟨hnj, hnr⟩ := List.nodup_cons.mp hn
    obtain ⟨pj, lj, ij, jN⟩ := items_mem hW hi (hrs j List.mem_cons_self)
    have hcx := ctx_item pj lj hk
    have hw := hwb (k0, j) List.mem_cons_self
    have hg0 := hg 0 j rfl
    rw [Nat.add_zero, Nat.add_zero] at hg0
    obtain ⟨q1, q2, q3, q4, q5⟩ := hL c n m ct j (wd (k0, j)) b hc hm jN (by omega) (by omega) hcx hw (fun hk9 => hci hk9 j List.mem_cons_self)
    obtain ⟨r1, r2, r3, r4, r5, r6⟩ := hR (m, ct) j (wd (k0, j)) b hm jN (by omega) hcx
    have eA : (nums (j :: rs) k0).foldl fA ((c, n), x, h) = (nums rs (k0 + 1)).foldl fA ((cPut (L (c, n) j (wd (k0, j))).1 j x top, (L (c, n) j (wd (k0, j))).2), x + dx (k0, j), imax h (kP (L (c, n) j (wd (k0, j))).1 j 3 + kEnds S j)) := by
      show (nums rs (k0 + 1)).foldl fA (fA ((c, n), x, h) (k0, j)) = _
      rw [hfA ((c, n), x, h) (k0, j) hc]
    have eB : (nums (j :: rs) r0).foldl (mR1 L' b gB) ((m, ct), h) = (nums rs (r0 + 1)).foldl (mR1 L' b gB) (L' (m, ct) j (wd (k0, j)) b, imax h (mOver (L' (m, ct) j (wd (k0, j)) b).1 j 8 + kP (L' (m, ct) j (wd (k0, j)) b).1 j 3 + mOver (L' (m, ct) j (wd (k0, j)) b).1 j 9)) := by
      show (nums rs (r0 + 1)).foldl (mR1 L' b gB) (mR1 L' b gB ((m, ct), h) (r0, j)) = _
      unfold mR1
      rw [hg0]
    rw [eA, eB]
    generalize hR1 : L (c, n) j (wd (k0, j)) = R at q1 q2 q3 q4 q5 ⊢
    generalize hT1 : L' (m, ct) j (wd (k0, j)) b = T at q1 q5 r1 r2 r3 r4 r5 r6 ⊢
    have hsR : SS S R.1 := hc.K q4
    have hsT : SS S T.1 := hm.K r1.1
    have hP0 : Fr (fun z => z = j) R.1 (cPut R.1 j x top) := (Fr.P (F := fun z => z = j) R.1 0 _ rfl).trans (Fr.P (F := fun z => z = j) _ 1 _ rfl)
    have hPl : ∀ z, sl R.1 (cPut R.1 j x top) z := fun z => (sl.P _ j z 0 _ (by decide) (by decide)).trans (sl.P _ j z 1 _ (by decide) (by decide))
    have hPm : ∀ z, z ≠ j → sm R.1 (cPut R.1 j x top) z := fun z hz => hP0 z hz
    have hsC : SS S (cPut R.1 j x top) := hsR.K (KEq.Put _ _ _ _)
    have hup : kUpper R.1 j = kUpper S j := congrFun hsR.upper j
    have e0 : kP (cPut R.1 j x top) j 0 = x + kF S j 10 := by
      show kP (kSetP (kSetP R.1 j 0 (x + kF R.1 j 10)) j 1 (top + kUpper R.1 j)) j 0 = _
      rw [kP_n _ _ _ (by decide), kP_s, hsR.f j 10 rfl]
    have e1 : kP (cPut R.1 j x top) j 1 = top + kUpper S j := by
      show kP (kSetP (kSetP R.1 j 0 (x + kF R.1 j 10)) j 1 (top + kUpper R.1 j)) j 1 = _
      rw [kP_s, hup]
    have e3 : kP (cPut R.1 j x top) j 3 = kP R.1 j 3 := (kP_n _ _ _ (by decide)).trans (kP_n _ _ _ (by decide))
    have hfl := flow_item pj lj hk
    have hhi : imax h (kP R.1 j 3 + kEnds S j) = imax h (mOver T.1 j 8 + kP T.1 j 3 + mOver T.1 j 9) := by
      rw [hsT.over, hsT.under, q1.2.2.1]
      unfold kEnds
      rw [upper_ctx hfl, lower_ctx hfl, i32_b]
    have hob := over_b hW.1 jN
    have hHB := q1.2.2.2.2.1
    have hsz := sz_le hW.1 jN
    have hti : (kP R.1 j 3 + kEnds S j).toInt = (kP T.1 j 3).toInt + ((mOver S j 8).toInt + (mOver S j 9).toInt) := by
      unfold HB at hHB
      have ee : (kEnds S j).toInt = (mOver S j 8).toInt + (mOver S j 9).toInt := by
        unfold kEnds
        rw [upper_ctx hfl, lower_ctx hfl, ti_add (by omega) (by omega)]
      rw [q1.2.2.1, ti_add (by omega) (by omega), ee]
    have hDj : ∀ z, z < kN S → Dm S j z → ∀ j2, j2 ∈ rs → ¬ Dm S j2 z := fun z hz hd j2 hj2 hd2 => by
      have := Dm.same hW.1 hz hd hd2 pj (items_mem hW hi (hrs j2 (List.mem_cons_of_mem _ hj2))).1
      exact hnj (this ▸ hj2)
    have hrN : ∀ j2, j2 ∈ rs → j2 < kN S := fun j2 h2 => (items_mem hW hi (hrs j2 (List.mem_cons_of_mem _ h2))).2.2.2
    have hcf : Fr (Dm S j) c (cPut R.1 j x top) := q2.trans (hP0.mono (fun z hz => hz ▸ Dm.rf S j))
    obtain ⟨i1, ⟨i2, i2m⟩, ⟨i3, i3m⟩, i4, i5, i6⟩ := ih (k0 + 1) (r0 + 1) (cPut R.1 j x top) R.2 T.1 T.2 (x + dx (k0, j)) (imax h (mOver T.1 j 8 + kP T.1 j 3 + mOver T.1 j 9)) hsC hsT hnr (fun j2 h2 => hrs j2 (List.mem_cons_of_mem _ h2)) (fun t e he => by
      have := hg (t + 1) e he
      rw [show r0 + (t + 1) = r0 + 1 + t by omega, show k0 + (t + 1) = k0 + 1 + t by omega] at this
      exact this) (fun q hq => hwb q (List.mem_cons_of_mem _ hq)) (fun hk9 j2 h2 => (hci hk9 j2 (List.mem_cons_of_mem _ h2)).st hW (hrN j2 h2) (fun y hy _ => hcf y (fun hd => hDj y (Dm.lt hW (hrN j2 h2) hy) hd j2 h2 hy)) (hcf j2 (fun hd => hDj j2 (hrN j2 h2) hd j2 h2 (Dm.rf S j2))).sl) (by rw [← hhi, ti_max]; omega)
    rw [hhi]
    generalize hA9 : (nums rs (k0 + 1)).foldl fA ((cPut R.1 j x top, R.2), x + dx (k0, j), imax h (mOver T.1 j 8 + kP T.1 j 3 + mOver T.1 j 9)) = A at i1 i2 i3 i4 i6 ⊢
    generalize hB9 : (nums rs (r0 + 1)).foldl (mR1 L' b gB) ((T.1, T.2), imax h (mOver T.1 j 8 + kP T.1 j 3 + mOver T.1 j 9)) = B at i1 i2m i3m i4 i5 i6 ⊢
    have hAj : ∀ z, Dm S j z → sm (cPut R.1 j x top) A.1.1 z := fun z hz => i3 z (fun ⟨j2, h2, h3⟩ => hDj z (Dm.lt hW jN hz) hz j2 h2 h3)
    have hBj : ∀ z, Dm S j z → sm T.1 B.1.1 z := fun z hz => i3m z (fun ⟨j2, h2, h3⟩ => hDj z (Dm.lt hW jN hz) hz j2 h2 h3)
    refine ⟨i1, ⟨(q4.trans (KEq.Put _ _ _ _)).trans i2, r1.trans i2m⟩, ⟨(hcf.mono (fun z hz => ⟨j, List.mem_cons_self, hz⟩)).trans (i3.mono (fun z ⟨j2, a, d⟩ => ⟨j2, List.mem_cons_of_mem _ a, d⟩)), (r2.mono (fun z hz => ⟨j, List.mem_cons_self, hz⟩)).trans (i3m.mono (fun z ⟨j2, a, d⟩ => ⟨j2, List.mem_cons_of_mem _ a, d⟩))⟩, fun q hq => ?_, ?_, fun hk9 hb9 hC1 => ?_⟩
    · rcases List.mem_cons.mp hq with e9 | hq
      · rw [e9]
        show RI S chk c A.1.1 B.1.1 j (wd (k0, j)) (xp dx ((k0, j) :: nums rs (k0 + 1)) x j) top
        rw [show xp dx ((k0, j) :: nums rs (k0 + 1)) x j = x from xp_hd dx (k0, j) _ x]
        have h1 : RI S chk c (cPut R.1 j x top) T.1 j (wd (k0, j)) x top := ⟨q1.st2 hW jN hcx (fun z _ => sl.rf c z) (fun z hz hne => hPm z hne) (hPl j) e3 (fun z _ _ => sm.rf _ z) rfl rfl, r3, e0, e1⟩
        exact h1.st hW jN hcx (fun z _ => sl.rf c z) hAj hBj
      · have hjq := nums_mem hq
        have hq0 := i4 q hq
        show RI S chk c A.1.1 B.1.1 q.2 (wd q) (xp dx ((k0, j) :: nums rs (k0 + 1)) x q.2) top
        rw [xp_tl dx _ x (show (k0, j).2 ≠ q.2 from fun e => hnj (by have e' : j = q.2 := e; rw [e']; exact hjq))]
        have hpq := items_mem hW hi (hrs q.2 (List.mem_cons_of_mem _ hjq))
        exact hq0.st hW hpq.2.2.2 (ctx_item hpq.1 hpq.2.1 hk) (fun z hz => (hcf z (fun hd => hDj z (Dm.lt hW hpq.2.2.2 hz) hd q.2 hjq hz)).sl) (fun z _ => sm.rf _ z) (fun z _ => sm.rf _ z)
    · rw [List.map_cons, List.sum_cons]
      rw [← hhi, ti_max, hti] at i5
      unfold HB at hHB
      omega
    · have hc0 := q5 hk9 hb9 (hC1 j List.mem_cons_self)
      refine hc0.trans (i6 hk9 hb9 (fun j2 h2 z hz => ?_))
      have hz9 := hC1 j2 (List.mem_cons_of_mem _ h2) z hz
      have hnd : ¬ Dm S j z := fun hd => hDj z (Dm.lt hW (hrN j2 h2) hz) hd j2 h2 hz
      exact hz9.st (hcf z hnd).sl (r2 z hnd).sl
/-- stretching, on both sides -/
theorem strs_at {S : zCS} {h : Int32} : ∀ (rs : List Nat) (c : zCS), SS S c → rs.Nodup → (∀ j, j ∈ rs → kFlow S j = false) → KEq c (cStrs c rs h) ∧ (∀ z, z ∉ rs → sm c (cStrs c rs h) z) ∧ (∀ z, sl c (cStrs c rs h) z ∧ kP (cStrs c rs h) z 0 = kP c z 0 ∧ kP (cStrs c rs h) z 1 = kP c z 1) ∧ ∀ j, j ∈ rs → kP (cStrs c rs h) j 3 = if kF S j 7 = -1 then imax (kP c j 3) (h - mOver S j 8 - mOver S j 9) else kP c j 3 := by
  intro rs
  induction rs with
  | nil => intro c _ _ _; exact ⟨KEq.rf c, fun z _ => sm.rf c z, fun z => ⟨sl.rf c z, rfl, rfl⟩, fun j hj => absurd hj List.not_mem_nil⟩
  | cons a rs ih =>
    intro c hc hn hf
    obtain ⟨hna, hnr⟩ := List.nodup_cons.mp hn
    obtain ⟨i1, i2, i3, i4⟩ := ih (cStr c a h) (hc.K (KEq.Str _ _ _)) hnr (fun j hj => hf j (List.mem_cons_of_mem _ hj))
    have hs : cStr c a h = if kF S a 7 = -1 then kSetP c a 3 (imax (kP c a 3) (h - mOver S a 8 - mOver S a 9)) else c := by
      unfold cStr
      rw [hc.f a 7 rfl, congrFun hc.ends a]
      unfold kEnds
      rw [upper_ctx (hf a List.mem_cons_self), lower_ctx (hf a List.mem_cons_self), i32_a]
    have hsa : ∀ z, z ≠ a → sm c (cStr c a h) z := fun z hz => by
      rw [hs]
      split
      · exact sm.P _ 3 _ hz
      · exact sm.rf _ _
    have hsl : ∀ z, sl c (cStr c a h) z ∧ kP (cStr c a h) z 0 = kP c z 0 ∧ kP (cStr c a h) z 1 = kP c z 1 := fun z => by
      rw [hs]
      split
      · refine ⟨sl.P _ a z 3 _ (by decide) (by decide), ?_, ?_⟩
        · by_cases e : z = a
          · rw [e]; exact kP_n _ _ _ (by decide)
          · exact kP_a _ _ _ _ e
        · by_cases e : z = a
          · rw [e]; exact kP_n _ _ _ (by decide)
          · exact kP_a _ _ _ _ e
      · exact ⟨sl.rf _ _, rfl, rfl⟩
    refine ⟨(KEq.Str c a h).trans i1, fun z hz => ?_, fun z => ⟨(hsl z).1.trans (i3 z).1, (i3 z).2.1.trans (hsl z).2.1, (i3 z).2.2.trans (hsl z).2.2⟩, fun j hj => ?_⟩
    · exact (hsa z (fun e => hz (e ▸ List.mem_cons_self))).trans (i2 z (fun hm => hz (List.mem_cons_of_mem _ hm)))
    · rcases List.mem_cons.mp hj with e | hj
      · rw [e]
        have h1 : kP (cStrs c (a :: rs) h) a 3 = kP (cStr c a h) a 3 := (i2 a hna).1 3
        rw [h1, hs]
        split
        · exact kP_s _ _ _ _
        · rfl
      · have h1 := i4 j hj
        have hja : j ≠ a := fun e => hna (e ▸ hj)
        rw [(hsa j hja).1 3] at h1
        exact h1
theorem R2_at {S : zCS} (hK : KWf S) {h : Int32} : ∀ (rs : List Nat) (c : zCS), SS S c → rs.Nodup → (∀ j, j ∈ rs → j < kN S) → (∀ z, z ∉ rs → sm c (rs.foldl (mR2 h) c) z) ∧ (∀ z, sl c (rs.foldl (mR2 h) c) z ∧ kP (rs.foldl (mR2 h) c) z 0 = kP c z 0 ∧ kP (rs.foldl (mR2 h) c) z 1 = kP c z 1) ∧ ∀ j, j ∈ rs → kP (rs.foldl (mR2 h) c) j 3 = if kF S j 7 = -1 then imax (kP c j 3) (h - mOver S j 8 - mOver S j 9) else kP c j 3 := by
  intro rs
  induction rs with
  | nil => intro c _ _ _; exact ⟨fun z _ => sm.rf c z, fun z => ⟨sl.rf c z, rfl, rfl⟩, fun j hj => absurd hj List.not_mem_nil⟩
  | cons a rs ih =>
    intro c hc hn hf
    obtain ⟨hna, hnr⟩ := List.nodup_cons.mp hn
    obtain ⟨i2, i3, i4⟩ := ih (mR2 h c a) (hc.K (MQe.R2 _ _ _).1) hnr (fun j hj => hf j (List.mem_cons_of_mem _ hj))
    have hs : mR2 h c a = if kF S a 7 = -1 then kSetP c a 3 (imax (kP c a 3) (h - mOver S a 8 - mOver S a 9)) else c := by
      unfold mR2
      rw [hc.f a 7 rfl, hc.over, hc.under]
      have h9 := (f7_neg hK (hf a List.mem_cons_self)).2
      by_cases e : kF S a 7 = -1
      · rw [if_pos e, if_pos (h9.mp e)]
      · rw [if_neg e, if_neg (fun q => e (h9.mpr q))]
    have hsa : ∀ z, z ≠ a → sm c (mR2 h c a) z := fun z hz => by
      rw [hs]
      split
      · exact sm.P _ 3 _ hz
      · exact sm.rf _ _
    have hsl : ∀ z, sl c (mR2 h c a) z ∧ kP (mR2 h c a) z 0 = kP c z 0 ∧ kP (mR2 h c a) z 1 = kP c z 1 := fun z => by
      rw [hs]
      split
      · refine ⟨sl.P _ a z 3 _ (by decide) (by decide), ?_, ?_⟩
        · by_cases e : z = a
          · rw [e]; exact kP_n _ _ _ (by decide)
          · exact kP_a _ _ _ _ e
        · by_cases e : z = a
          · rw [e]; exact kP_n _ _ _ (by decide)
          · exact kP_a _ _ _ _ e
      · exact ⟨sl.rf _ _, rfl, rfl⟩
    refine ⟨fun z hz => ?_, fun z => ⟨(hsl z).1.trans (i3 z).1, (i3 z).2.1.trans (hsl z).2.1, (i3 z).2.2.trans (hsl z).2.2⟩, fun j hj => ?_⟩
    · exact (hsa z (fun e => hz (e ▸ List.mem_cons_self))).trans (i2 z (fun hm => hz (List.mem_cons_of_mem _ hm)))
    · rcases List.mem_cons.mp hj with e | hj
      · rw [e]
        have h1 : kP ((a :: rs).foldl (mR2 h) c) a 3 = kP (mR2 h c a) a 3 := (i2 a hna).1 3
        rw [h1, hs]
        split
        · exact kP_s _ _ _ _
        · rfl
      · have h1 := i4 j hj
        have hja : j ≠ a := fun e => hna (e ▸ hj)
        rw [(hsa j hja).1 3] at h1
        exact h1
/-- the reference puts a run's items in their places -/
theorem pos_at {S : zCS} (wd dx : Nat × Nat → Int32) (top : Int32) (fG : zCS × Int32 → Nat × Nat → zCS × Int32) (hfG : ∀ p q, SS S p.1 → kP p.1 q.2 2 = wd q → fG p q = (kSetP (kSetP p.1 q.2 0 (p.2 + kF S q.2 10)) q.2 1 (top + mOver S q.2 8), p.2 + dx q)) : ∀ (rs : List Nat) (k : Nat) (c : zCS) (x : Int32), SS S c → rs.Nodup → (∀ q, q ∈ nums rs k → kP c q.2 2 = wd q) →
    (∀ z, z ∉ rs → sm c ((nums rs k).foldl fG (c, x)).1 z) ∧ (∀ z, sl c ((nums rs k).foldl fG (c, x)).1 z ∧ kP ((nums rs k).foldl fG (c, x)).1 z 3 = kP c z 3) ∧ ∀ j, j ∈ rs → kP ((nums rs k).foldl fG (c, x)).1 j 0 = xp dx (nums rs k) x j + kF S j 10 ∧ kP ((nums rs k).foldl fG (c, x)).1 j 1 = top + mOver S j 8 := by
  intro rs
  induction rs with
  | nil => intro k c x _ _ _; exact ⟨fun z _ => sm.rf c z, fun z => ⟨sl.rf c z, rfl⟩, fun j hj => absurd hj List.not_mem_nil⟩
  | cons a rs ih =>
    intro k c x hc hn hw
    obtain ⟨hna, hnr⟩ := List.nodup_cons.mp hn
    have e1 := hfG (c, x) (k, a) hc (hw (k, a) List.mem_cons_self)
    have eF : (nums (a :: rs) k).foldl fG (c, x) = (nums rs (k + 1)).foldl fG (kSetP (kSetP c a 0 (x + kF S a 10)) a 1 (top + mOver S a 8), x + dx (k, a)) := by
      show (nums rs (k + 1)).foldl fG (fG (c, x) (k, a)) = _
      rw [e1]
    rw [eF]
    have hsa : ∀ z, z ≠ a → sm c (kSetP (kSetP c a 0 (x + kF S a 10)) a 1 (top + mOver S a 8)) z := fun z hz => (sm.P _ 0 _ hz).trans (sm.P _ 1 _ hz)
    have hsl : ∀ z, sl c (kSetP (kSetP c a 0 (x + kF S a 10)) a 1 (top + mOver S a 8)) z := fun z => (sl.P _ a z 0 _ (by decide) (by decide)).trans (sl.P _ a z 1 _ (by decide) (by decide))
    have h3 : ∀ z, kP (kSetP (kSetP c a 0 (x + kF S a 10)) a 1 (top + mOver S a 8)) z 3 = kP c z 3 := fun z => by
      by_cases e : z = a
      · rw [e]; exact (kP_n _ _ _ (by decide)).trans (kP_n _ _ _ (by decide))
      · exact (hsa z e).1 3
    obtain ⟨i1, i2, i3⟩ := ih (k + 1) (kSetP (kSetP c a 0 (x + kF S a 10)) a 1 (top + mOver S a 8)) (x + dx (k, a)) ((hc.setP a 0 _).setP a 1 _) hnr (fun q hq => by rw [(hsl q.2).1.1]; exact hw q (List.mem_cons_of_mem _ hq))
    refine ⟨fun z hz => (hsa z (fun e => hz (e ▸ List.mem_cons_self))).trans (i1 z (fun hm => hz (List.mem_cons_of_mem _ hm))), fun z => ⟨(hsl z).trans (i2 z).1, (i2 z).2.trans (h3 z)⟩, fun j hj => ?_⟩
    rcases List.mem_cons.mp hj with e | hj
    · rw [e]
      show _ = xp dx ((k, a) :: nums rs (k + 1)) x a + _ ∧ _
      rw [show xp dx ((k, a) :: nums rs (k + 1)) x a = x from xp_hd dx (k, a) _ x, (i1 a hna).1, (i1 a hna).1]
      exact ⟨(kP_n _ _ _ (by decide)).trans (kP_s _ _ _ _), kP_s _ _ _ _⟩
    · have hja : j ≠ a := fun e => hna (e ▸ hj)
      show _ = xp dx ((k, a) :: nums rs (k + 1)) x j + _ ∧ _
      rw [xp_tl dx _ x (show (k, a).2 ≠ j from Ne.symm hja)]
      exact i3 j hj
