/-! rows of zR: arrays .. (tools/mkarr.py) -/
section zArr
variable {G : zG} {y : MethodName} {cc : ByteArray} {nL : Nat} {ret : Option FieldType} {hh : List (Nat × Nat × Nat × Nat)} {d pc : Nat} {ls : List (Nat × Value)} {st : List Value} {σ : zT} {Q : zO → zT → Prop}
/-- checkcast: to the class itself, to another that it may be cast to, of null -/
theorem zr_castS {a ci idx : Nat} {fs : List Value} {C : String} {T : u_T} {N : Nat} (ha : zAt G σ a (.inr (ci, fs))) (hc : zcl[ci]? = some (C, T, N)) (hl : Cond.classLink y.cls idx C ∈ lw_all) (hd : decode cc pc = .ok (.checkcast idx, 3)) (k : zR G y cc nL ret hh d (pc + 3) ls (.ref a :: st) σ Q) : zR G y cc nL ret hh d pc ls (.ref a :: st) σ Q :=
  zR.lift (fun p l e R s m args below meth c H locs cells slots arr Q0 M hl9 hR k => va_castS M.x M.b M.own (M.ws _ hl) (M.K.1.1 ci _ hc).2 (va_recv M.K.1 (hR.P ha) hc (q0 := 0) rfl) hd k) k
theorem zr_castY {a ci idx : Nat} {fs : List Value} {C nm : String} {T : u_T} {N : Nat} (ha : zAt G σ a (.inr (ci, fs))) (hc : zcl[ci]? = some (C, T, N)) (hl : Cond.classLink y.cls idx nm ∈ lw_all) (hw : Cond.castable C nm ∈ lw_tbl) (hd : decode cc pc = .ok (.checkcast idx, 3)) (k : zR G y cc nL ret hh d (pc + 3) ls (.ref a :: st) σ Q) : zR G y cc nL ret hh d pc ls (.ref a :: st) σ Q :=
  zR.lift (fun p l e R s m args below meth c H locs cells slots arr Q0 M hl9 hR k => va_castY M.x M.b M.own (M.ws _ hl) (M.K.2.1 _ hw rfl) (va_recv M.K.1 (hR.P ha) hc (q0 := 0) rfl) hd k) k
theorem zr_castN {idx : Nat} (hd : decode cc pc = .ok (.checkcast idx, 3)) (k : zR G y cc nL ret hh d (pc + 3) ls (.null :: st) σ Q) : zR G y cc nL ret hh d pc ls (.null :: st) σ Q :=
  zR.lift (fun p l e R s m args below meth c H locs cells slots arr Q0 M hl9 hR k => lv_castN M.x M.b hd k) k
/-- to an array's own class -/
theorem zr_castI {a n idx : Nat} {f : Nat → Int32} (ha : zAt G σ a (aI G n f)) (hl : Cond.classLink y.cls idx "[I" ∈ lw_all) (hd : decode cc pc = .ok (.checkcast idx, 3)) (k : zR G y cc nL ret hh d (pc + 3) ls (.ref a :: st) σ Q) : zR G y cc nL ret hh d pc ls (.ref a :: st) σ Q :=
  zR.lift (fun p l e R s m args below meth c H locs cells slots arr Q0 M hl9 hR k => va_castA M.x M.b M.own (M.ws _ hl) (hR.P ha) 0 rfl (M.K.1.2 0 _ (zty_at G 0 (Nat.le_of_ble_eq_true rfl))).2 hd k) k
theorem zr_castO {a n idx : Nat} {f : Nat → Option Nat} (ha : zAt G σ a (aO G n f)) (hl : Cond.classLink y.cls idx "[Ljava/lang/Object;" ∈ lw_all) (hd : decode cc pc = .ok (.checkcast idx, 3)) (k : zR G y cc nL ret hh d (pc + 3) ls (.ref a :: st) σ Q) : zR G y cc nL ret hh d pc ls (.ref a :: st) σ Q :=
  zR.lift (fun p l e R s m args below meth c H locs cells slots arr Q0 M hl9 hR k => va_castA M.x M.b M.own (M.ws _ hl) (hR.P ha) 0 rfl (va_nmO (M.K.1.2 4 _ (zty_at G 4 (Nat.le_of_ble_eq_true rfl))).2 rfl) hd k) k
/-- instanceof the class itself: by its castable word -/
theorem zr_instY {a ci idx : Nat} {fs : List Value} {C nm : String} {T : u_T} {N : Nat} (ha : zAt G σ a (.inr (ci, fs))) (hc : zcl[ci]? = some (C, T, N)) (hl : Cond.classLink y.cls idx nm ∈ lw_all) (hw : Cond.castable C nm ∈ lw_tbl) (hd : decode cc pc = .ok (.instanceof idx, 3)) (k : zR G y cc nL ret hh d (pc + 3) ls (.int 1 :: st) σ Q) : zR G y cc nL ret hh d pc ls (.ref a :: st) σ Q :=
  zR.lift (fun p l e R s m args below meth c H locs cells slots arr Q0 M hl9 hR k => va_instY M.x M.b M.own (M.ws _ hl) (M.K.2.1 _ hw rfl) (va_recv M.K.1 (hR.P ha) hc (q0 := 0) rfl) hd k) k
theorem zSt_S {p : Program} {l : Launch} {R : Room} {s : State} {m : MethodId} {args : Array Value} {meth : Method} {c : Code} {H : Heap} {C n t : String} {v : Value} (M : zM G y cc nL ret hh d p l R s m args meth c) (hR : zRel G σ H) (hB : (zH G).size = zB G) (h : va_Z C n t v (zb G) s (zH G)) : va_Z C n t v (zb G) s s.heap :=
  h.kept (fun a ha hq => M.h0 a (by omega))
theorem zS_va {p : Program} {l : Launch} {R : Room} {s : State} {m : MethodId} {args : Array Value} {meth : Method} {c : Code} {H : Heap} {locs : List Loc} (M : zM G y cc nL ret hh d p l R s m args meth c) (hR : zRel G σ H) (hsz : s.heap.size ≤ H.size) (hlc : ∀ z ∈ locs, zB G ≤ z.base) : va_S (zb G) s.heap H locs :=
  ⟨hsz, fun q h1 h2 => by
    have h3 : q < zB G := Nat.not_le.mp h2
    rw [hR.2.2.1 q h3, M.h0 q h3], hlc⟩
/-- a static of the start -/
theorem zr_gets {C n t ref : String} {v : Value} {idx : Nat} (hB : (zH G).size = zB G) (hZ : ∀ U, zSt G U → va_Z C n t v (zb G) U (zH G)) (hl : Cond.fieldLink y.cls idx ref n t ∈ lw_all) (hr : zref ref C n t) (hd : decode cc pc = .ok (.getstatic idx, 3)) (k : zR G y cc nL ret hh d (pc + 3) ls (v :: st) σ Q) : zR G y cc nL ret hh d pc ls st σ Q := by
  obtain ⟨o, σ', q, k1, k2, k3⟩ := k
  exact ⟨o, σ', q, k1, k2, fun p l e R s m args below meth c H locs cells slots arr M N9 => va_gets M.x M.b (zSt_S M N9.rel hB (hZ s M.K.2.2.2.1)) (zS_va M N9.rel N9.sz N9.lc) M.own (M.ws _ hl) (hr.found M.ws) hd (k3 p l e R s m args below meth c H locs cells slots arr M N9)⟩
theorem zr_ldc {idx : Nat} {v : Int32} (hw : Cond.constant y.cls idx v ∈ lw_all) (hd : decode cc pc = .ok (.ldc idx, 2)) (k : zR G y cc nL ret hh d (pc + 2) ls (.int v :: st) σ Q) : zR G y cc nL ret hh d pc ls st σ Q :=
  zR.lift (fun p l e R s m args below meth c H locs cells slots arr Q0 M hl9 hR k => lv_ldc M.x M.b M.own (M.ws _ hw) hd k) k
theorem zr_ldcS {idx a : Nat} {tx : String} (hw : ∀ U, zK G U → vk_R y.cls idx tx a U) (hd : decode cc pc = .ok (.ldc idx, 2)) (k : zR G y cc nL ret hh d (pc + 2) ls (.ref a :: st) σ Q) : zR G y cc nL ret hh d pc ls st σ Q :=
  zR.lift (fun p l e R s m args below meth c H locs cells slots arr Q0 M hl9 hR k => va_ldcS M.x M.b M.own (hw s M.K) hd k) k
theorem zr_ldcM {idx mi : Nat} {C : String} (hw : ∀ U, zSt G U → va_Mi C mi U) (hl : Cond.classLink y.cls idx C ∈ lw_all) (hd : decode cc pc = .ok (.ldc idx, 2)) (k : zR G y cc nL ret hh d (pc + 2) ls (.ref mi :: st) σ Q) : zR G y cc nL ret hh d pc ls st σ Q :=
  zR.lift (fun p l e R s m args below meth c H locs cells slots arr Q0 M hl9 hR k => va_ldcM M.x M.b M.own (M.ws _ hl) (hw s M.K.2.2.2.1) hd k) k
end zArr
