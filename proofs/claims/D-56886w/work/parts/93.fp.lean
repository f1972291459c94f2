/-! ===== quotients of whole numbers are no NaN ===== -/
/-- a pattern below the infinities, of either sign: no NaN -/
def fpOk (f : FP.Core.Fmt) (n : Nat) : Prop := ∃ (s : Bool) (m : Nat), n = s.toNat * (f.exps * f.tails) + m ∧ m ≤ (f.exps - 1) * f.tails
theorem fp_asm (f : FP.Core.Fmt) (s : Bool) {e t : Nat} (he : e < f.exps - 1) (ht : t < f.tails) : fpOk f (FP.Core.assemble f s e t) := by
  refine ⟨s, e * f.tails + t, ?_, ?_⟩
  · unfold FP.Core.assemble
    rw [Nat.add_mul, Nat.mul_assoc, Nat.add_assoc]
  · have h := Nat.mul_le_mul_right f.tails (show e + 1 ≤ f.exps - 1 from he)
    rw [Nat.add_mul, Nat.one_mul] at h
    omega
theorem fp_asmI (f : FP.Core.Fmt) (s : Bool) : fpOk f (FP.Core.assemble f s (f.exps - 1) 0) := by
  refine ⟨s, (f.exps - 1) * f.tails, ?_, Nat.le_refl _⟩
  unfold FP.Core.assemble
  rw [Nat.add_mul, Nat.mul_assoc, Nat.add_zero]
/-- what is asked of a format -/
def fpG (f : FP.Core.Fmt) : Prop := f.qmax - f.qmin + 1 < ((f.exps : Nat) : Int) - 1 ∧ 2 ^ f.p = 2 * f.tails ∧ 1 < f.exps ∧ f.qmin ≤ -((f.p : Int) - 1) ∧ 33 ≤ f.qmax ∧ 1 ≤ f.p
theorem fpG32 : fpG FP.Core.b32 := by unfold fpG; decide
theorem fpG64 : fpG FP.Core.b64 := by unfold fpG; decide
theorem fp_tp (f : FP.Core.Fmt) : 0 < f.tails := Nat.two_pow_pos _
theorem fp_fin {f : FP.Core.Fmt} (hf : fpG f) (s : Bool) {c : Nat} {q : Int} (hc : c < 2 ^ f.p) (h1 : f.qmin ≤ q) (h2 : q ≤ f.qmax) : fpOk f (FP.Core.encode f (.fin s c q)) := by
  obtain ⟨g1, g2, g3, -⟩ := hf
  have ht := fp_tp f
  show fpOk f (if c < f.tails then FP.Core.assemble f s 0 c else FP.Core.assemble f s ((q - f.qmin).toNat + 1) (c - f.tails))
  split
  · exact fp_asm f s (by omega) (by assumption)
  · exact fp_asm f s (by omega) (by omega)
theorem fp_bound {f : FP.Core.Fmt} (hf : fpG f) (s : Bool) {c : Nat} {q : Int} (hc : c < 2 ^ f.p) (h1 : f.qmin ≤ q) : fpOk f (FP.Core.encode f (FP.Core.bound f s c q)) := by
  unfold FP.Core.bound
  split
  · exact fp_fin hf s hc h1 (by assumption)
  · exact fp_asmI f s
theorem fp_round {f : FP.Core.Fmt} (hf : fpG f) (s : Bool) (a b : Nat) (e : Int) : fpOk f (FP.Core.encode f (FP.Core.roundRatio f s a b e)) := by
  have ht := fp_tp f
  have hq : f.qmin ≤ FP.Core.quantum f a b e := by unfold FP.Core.quantum; omega
  unfold FP.Core.roundRatio
  split
  · exact fp_fin hf s (Nat.two_pow_pos _) (Int.le_refl _) (by have := hf.2.2.2; omega)
  · unfold FP.Core.roundAt FP.Core.settle
    split
    · exact fp_bound hf s (by assumption) hq
    · exact fp_bound hf s (by rw [hf.2.1]; omega) (by omega)
theorem fp_near (a b : Nat) : a / b ≤ FP.Core.nearest a b := by
  unfold FP.Core.nearest
  split
  · exact Nat.le_refl _
  · split
    · omega
    · omega
theorem fp_lead {n : Nat} (hn : n ≠ 0) : FP.Core.leading n 1 = (n.log2 : Int) := by
  have h1 : (1 : Nat).log2 = 0 := by decide
  have h2 := Nat.log2_self_le hn
  unfold FP.Core.leading
  rw [h1]
  have e1 : ((n.log2 : Int) - ((0 : Nat) : Int)) = (n.log2 : Int) := by omega
  simp only [e1]
  have e2 : ((n.log2 : Int)).toNat = n.log2 := Int.toNat_natCast _
  have e3 : (-(n.log2 : Int)).toNat = 0 := by omega
  rw [e2, e3, if_pos (by rw [Nat.one_mul, Nat.pow_zero, Nat.mul_one]; exact h2)]
theorem fp_whole {f : FP.Core.Fmt} (hf : fpG f) (s : Bool) {n : Nat} (hn : n ≠ 0) (hb : n < 2 ^ 32) : ∃ c q, FP.Core.roundRatio f s n 1 0 = .fin s c q ∧ f.tails ≤ c ∧ c < 2 ^ f.p ∧ f.qmin ≤ q ∧ q ≤ f.qmax := by
  obtain ⟨g1, g2, g3, g4, g5, g6⟩ := hf
  have ht := fp_tp f
  have hk : n.log2 < 32 := (Nat.log2_lt hn).mpr hb
  have hs := Nat.log2_self_le hn
  have hq : FP.Core.quantum f n 1 0 = (n.log2 : Int) - ((f.p : Int) - 1) := by
    unfold FP.Core.quantum
    rw [fp_lead hn]
    omega
  have hge : f.tails ≤ FP.Core.nearest (FP.Core.unitsNum n 0 ((n.log2 : Int) - ((f.p : Int) - 1))) (FP.Core.unitsDen 1 0 ((n.log2 : Int) - ((f.p : Int) - 1))) := by
    refine Nat.le_trans ?_ (fp_near _ _)
    unfold FP.Core.unitsNum FP.Core.unitsDen
    by_cases hle : n.log2 ≤ f.p - 1
    · have e1 : ((0 : Int) - ((n.log2 : Int) - ((f.p : Int) - 1))).toNat = f.p - 1 - n.log2 := by omega
      have e2 : (((n.log2 : Int) - ((f.p : Int) - 1)) - 0).toNat = 0 := by omega
      rw [e1, e2, Nat.pow_zero, Nat.mul_one, Nat.div_one]
      show 2 ^ (f.p - 1) ≤ _
      have e3 : 2 ^ (f.p - 1) = 2 ^ n.log2 * 2 ^ (f.p - 1 - n.log2) := by rw [← Nat.pow_add]; congr 1; omega
      rw [e3]
      exact Nat.mul_le_mul_right _ hs
    · have e1 : ((0 : Int) - ((n.log2 : Int) - ((f.p : Int) - 1))).toNat = 0 := by omega
      have e2 : (((n.log2 : Int) - ((f.p : Int) - 1)) - 0).toNat = n.log2 - (f.p - 1) := by omega
      rw [e1, e2, Nat.pow_zero, Nat.mul_one, Nat.one_mul, Nat.le_div_iff_mul_le (Nat.two_pow_pos _)]
      show 2 ^ (f.p - 1) * _ ≤ _
      rw [← Nat.pow_add, show f.p - 1 + (n.log2 - (f.p - 1)) = n.log2 by omega]
      exact hs
  unfold FP.Core.roundRatio
  rw [if_neg hn, hq]
  unfold FP.Core.roundAt FP.Core.settle
  split
  · refine ⟨_, (n.log2 : Int) - ((f.p : Int) - 1), ?_, hge, by assumption, ?_, ?_⟩
    · unfold FP.Core.bound; rw [if_pos (by omega)]
    · omega
    · omega
  · refine ⟨f.tails, (n.log2 : Int) - ((f.p : Int) - 1) + 1, ?_, Nat.le_refl _, by omega, ?_, ?_⟩
    · unfold FP.Core.bound; rw [if_pos (by omega)]
    · omega
    · omega
theorem fp_fE (f : FP.Core.Fmt) (s : Bool) {e t : Nat} (he : e < f.exps) (ht : t < f.tails) : FP.Core.fieldE f (FP.Core.assemble f s e t) = e := by
  unfold FP.Core.fieldE FP.Core.assemble
  rw [Nat.mul_comm, Nat.mul_add_div (fp_tp f), Nat.div_eq_of_lt ht, Nat.add_zero, Nat.mul_add_mod_self_right, Nat.mod_eq_of_lt he]
/-- a whole number but zero, as a number of the format: finite and not zero -/
theorem fp_dec {f : FP.Core.Fmt} (hf : fpG f) (s : Bool) {n : Nat} (hn : n ≠ 0) (hb : n < 2 ^ 32) : ∃ t d r, FP.Core.decode f (FP.Core.encode f (FP.Core.roundRatio f s n 1 0)) = .fin t d r ∧ d ≠ 0 := by
  obtain ⟨c, q, e, h1, h2, h3, h4⟩ := fp_whole hf s hn hb
  obtain ⟨g1, g2, g3, g4, g5, g6⟩ := hf
  have ht := fp_tp f
  rw [e]
  have e2 : FP.Core.encode f (.fin s c q) = FP.Core.assemble f s ((q - f.qmin).toNat + 1) (c - f.tails) := by
    show (if c < f.tails then _ else _) = _
    rw [if_neg (by omega)]
  have e3 : FP.Core.fieldE f (FP.Core.assemble f s ((q - f.qmin).toNat + 1) (c - f.tails)) = (q - f.qmin).toNat + 1 := fp_fE f s (by omega) (by omega)
  rw [e2]
  unfold FP.Core.decode
  rw [e3, if_neg (by omega), if_neg (by omega)]
  exact ⟨_, _, _, rfl, by omega⟩
theorem fp_int {f : FP.Core.Fmt} (hf : fpG f) (a : Int32) : ∃ t d r, FP.Core.decode f (FP.Core.fromInt f a.toInt) = .fin t d r ∧ (a ≠ 0 → d ≠ 0) := by
  have h1 := a.toInt_lt
  have h2 := a.le_toInt
  have h3 : FP.Core.fromInt f a.toInt = FP.Core.encode f (FP.Core.roundRatio f (decide (a.toInt < 0)) a.toInt.natAbs 1 0) := rfl
  by_cases h0 : a = 0
  · subst h0
    have ht := fp_tp f
    have e1 : FP.Core.fromInt f (0 : Int32).toInt = FP.Core.assemble f false 0 0 := by
      show FP.Core.encode f (FP.Core.roundRatio f false 0 1 0) = _
      unfold FP.Core.roundRatio
      rw [if_pos rfl]
      show (if 0 < f.tails then _ else _) = _
      rw [if_pos ht]
    rw [e1]
    unfold FP.Core.decode
    rw [fp_fE f false (by have := hf.2.2.1; omega) ht, if_neg (by have := hf.2.2.1; omega), if_pos rfl]
    exact ⟨_, _, _, rfl, fun h => absurd rfl h⟩
  · have hne : a.toInt ≠ 0 := fun e => h0 (Int32.toInt_inj.mp (e.trans (by decide)))
    obtain ⟨t, d, r, e, hd⟩ := fp_dec hf (decide (a.toInt < 0)) (n := a.toInt.natAbs) (by omega) (by omega)
    rw [h3]
    exact ⟨t, d, r, e, fun _ => hd⟩
theorem fp_lt32 {n : Nat} (h : fpOk FP.Core.b32 n) : n < 2 ^ 32 ∧ n % 2 ^ 31 ≤ 2139095040 := by
  obtain ⟨s, m, e, hm⟩ := h
  have a1 : FP.Core.b32.exps * FP.Core.b32.tails = 2 ^ 31 := by decide
  have a2 : (FP.Core.b32.exps - 1) * FP.Core.b32.tails = 2139095040 := by decide
  rw [a1] at e
  rw [a2] at hm
  cases s
  · have e' : n = 0 * 2 ^ 31 + m := e; omega
  · have e' : n = 1 * 2 ^ 31 + m := e; omega
theorem fp_lt64 {n : Nat} (h : fpOk FP.Core.b64 n) : n < 2 ^ 64 ∧ n % 2 ^ 63 ≤ 9218868437227405312 := by
  obtain ⟨s, m, e, hm⟩ := h
  have a1 : FP.Core.b64.exps * FP.Core.b64.tails = 2 ^ 63 := by decide
  have a2 : (FP.Core.b64.exps - 1) * FP.Core.b64.tails = 9218868437227405312 := by decide
  rw [a1] at e
  rw [a2] at hm
  cases s
  · have e' : n = 0 * 2 ^ 63 + m := e; omega
  · have e' : n = 1 * 2 ^ 63 + m := e; omega
theorem fp_n32 (x : UInt32) : vf_n32 x ↔ x.toNat % 2 ^ 31 ≤ 2139095040 := by
  unfold vf_n32
  rw [UInt32.le_iff_toNat_le, UInt32.toNat_and]
  have h : UInt32.toNat 0x7fffffff = 2 ^ 31 - 1 := by decide
  rw [h, Nat.and_two_pow_sub_one_eq_mod]
  exact Iff.rfl
theorem fp_n64 (x : UInt64) : vf_n64 x ↔ x.toNat % 2 ^ 63 ≤ 9218868437227405312 := by
  unfold vf_n64
  rw [UInt64.le_iff_toNat_le, UInt64.toNat_and]
  have h : UInt64.toNat 0x7fffffffffffffff = 2 ^ 63 - 1 := by decide
  rw [h, Nat.and_two_pow_sub_one_eq_mod]
  exact Iff.rfl
theorem fp_div {f : FP.Core.Fmt} (hf : fpG f) (a : Int32) {b : Int32} (hb : b ≠ 0) : fpOk f (FP.Core.div f (FP.Core.fromInt f a.toInt) (FP.Core.fromInt f b.toInt)) := by
  obtain ⟨s, c, q, e1, -⟩ := fp_int hf a
  obtain ⟨t, d, r, e2, hd⟩ := fp_int hf b
  unfold FP.Core.div
  rw [e1, e2]
  show fpOk f (FP.Core.encode f (if d = 0 then _ else _))
  rw [if_neg (hd hb)]
  exact fp_round hf _ _ _ _
theorem fp_i2f (a : Int32) : (FP.i2f a).toNat = FP.Core.fromInt FP.Core.b32 a.toInt := by
  have h := (fp_lt32 (fp_round fpG32 (decide (a.toInt < 0)) a.toInt.natAbs 1 0)).1
  exact Nat.mod_eq_of_lt h
theorem fp_i2d (a : Int32) : (FP.i2d a).toNat = FP.Core.fromInt FP.Core.b64 a.toInt := by
  have h := (fp_lt64 (fp_round fpG64 (decide (a.toInt < 0)) a.toInt.natAbs 1 0)).1
  exact Nat.mod_eq_of_lt h
theorem nn32 (a : Int32) {b : Int32} (hb : b ≠ 0) : vf_n32 (FP.fdiv (FP.i2f a) (FP.i2f b)) := by
  have h := fp_lt32 (fp_div fpG32 a hb)
  rw [fp_n32]
  have e : (FP.fdiv (FP.i2f a) (FP.i2f b)).toNat = FP.Core.div FP.Core.b32 (FP.Core.fromInt FP.Core.b32 a.toInt) (FP.Core.fromInt FP.Core.b32 b.toInt) := by
    rw [← fp_i2f, ← fp_i2f] at h ⊢
    exact Nat.mod_eq_of_lt h.1
  rw [e]
  exact h.2
theorem nn64 (a : Int32) {b : Int32} (hb : b ≠ 0) : vf_n64 (FP.ddiv (FP.i2d a) (FP.i2d b)) := by
  have h := fp_lt64 (fp_div fpG64 a hb)
  rw [fp_n64]
  have e : (FP.ddiv (FP.i2d a) (FP.i2d b)).toNat = FP.Core.div FP.Core.b64 (FP.Core.fromInt FP.Core.b64 a.toInt) (FP.Core.fromInt FP.Core.b64 b.toInt) := by
    rw [← fp_i2d, ← fp_i2d] at h ⊢
    exact Nat.mod_eq_of_lt h.1
  rw [e]
  exact h.2
theorem nnf2d {x : UInt32} (h : vf_n32 x) : vf_n64 (FP.f2d x) := by
  rw [fp_n32] at h
  have h1 : FP.Core.decode FP.Core.b32 x.toNat ≠ .nan := by
    have hE : FP.Core.fieldE FP.Core.b32 x.toNat = x.toNat / 8388608 % 256 := rfl
    have hT : FP.Core.fieldT FP.Core.b32 x.toNat = x.toNat % 8388608 := rfl
    have hx : FP.Core.b32.exps - 1 = 255 := by decide
    unfold FP.Core.decode
    rw [hE, hT, hx]
    split
    · rw [if_pos (by omega)]; exact nofun
    · split <;> exact nofun
  have h2 : FP.Core.fIsNaN x = false := decide_eq_false h1
  have h3 : FP.f2d x = FP.Core.f2d x := by unfold FP.f2d; rw [h2]; rfl
  have h4 : fpOk FP.Core.b64 (FP.Core.convert FP.Core.b32 FP.Core.b64 x.toNat) := by
    unfold FP.Core.convert
    cases e : FP.Core.decode FP.Core.b32 x.toNat with
    | nan => exact absurd e h1
    | inf s => exact fp_asmI _ s
    | fin s c q => exact fp_round fpG64 s c 1 q
  have h5 := fp_lt64 h4
  rw [fp_n64, h3]
  have e : (FP.Core.f2d x).toNat = FP.Core.convert FP.Core.b32 FP.Core.b64 x.toNat := Nat.mod_eq_of_lt h5.1
  rw [e]
  exact h5.2
