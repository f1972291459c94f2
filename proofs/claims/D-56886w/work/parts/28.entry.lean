/-! ===== a contract out of a walk from the entry ===== -/
section zEntry
variable {G : zG} {y : MethodName} {cc : ByteArray} {nL : Nat} {ret : Option FieldType} {d : Nat} {σ σ' : zT} {o : zO}
theorem zM_of {hh : List (Nat × Nat × Nat × Nat)} {p : Program} {l : Launch} {e : Env} {s s₁ : State} {m : MethodId} {args : Array Value} {below : List Frame} {meth : Method} {c : Code} {as : List Value} {ws : List Cond} {mc ms : Nat}
    (B : BodyLoose p l y (headSpec ws (zrm d mc ms)) cc nL ret e s m args below meth c s₁) (hws : ∀ w ∈ lw_all, w ∈ ws) (hml : c.maxLocals = nL) (ht : c.exceptionTable.toList = tableOf hh) (hl : l.stackTraces = false) (hP : zPc G as σ args s) : zM G y cc nL ret hh d p l (headSpec ws (zrm d mc ms)).room s m args meth c := by
  have hts := atoms_spec (ws := ws) B.pre
  exact ⟨B.exec, B.bytes, hml, B.returns, findClass_of_methodNamed B.named, fun w h => hts w (hws w h), B.notSynchronized, ht, hl, (name_of_methodNamed B.named B.method).1, hP.2.2, hP.2.1.2.2.1, by have := hP.2.1.1; have := hP.2.1.2.1; omega, Nat.le_refl _, Nat.le_refl _⟩
theorem zC_of {as : List Value} (hp : plainName y.cls = true) (hlen : (lg_sl as).length ≤ nL) (h : zS G y cc nL ret [] d 0 (lv_args 0 as) [] σ o σ') : zC G (y, cc, nL, ret, none) d as σ o σ' := by
  refine ⟨h.1, h.2.1, fun l mc ms hl hmc hms => ?_⟩
  refine vx_ofW (cc := cc) (maxL := nL) (ret := ret) hp rfl fun p e s m args below meth c s₁ B hml htab hP => ?_
  have M := zM_of (hh := []) B (fun w h => List.mem_cons_of_mem _ h) hml (by
    cases hx : c.exceptionTable.toList with
    | nil => rfl
    | cons a r => exact absurd (by rw [hx]; exact List.mem_cons_self) (htab a)) hl hP
  obtain ⟨ha, hR, hK⟩ := hP
  subst ha
  rw [lg_entry_eq]
  exact h.2.2 p l e _ s m _ below meth c s.heap [] 0 0 _ M ⟨Nat.le_refl _, hR, (fun _ h => absurd h List.not_mem_nil), by show 0 + sZ σ' ≤ mc + sZ σ; omega, by show 0 + sL σ' ≤ ms + sL σ; omega, lv_entry as hlen⟩
theorem zC_ofH {hh : List (Nat × Nat × Nat × Nat)} {as : List Value} (hp : plainName y.cls = true) (hlen : (lg_sl as).length ≤ nL) (h : zS G y cc nL ret hh d 0 (lv_args 0 as) [] σ o σ') : zC G (y, cc, nL, ret, some hh) d as σ o σ' := by
  refine ⟨h.1, h.2.1, fun l mc ms hl hmc hms => ?_⟩
  refine vx_ofWH (cc := cc) (maxL := nL) (ret := ret) (hh := hh) hp rfl fun p e s m args below meth c s₁ B hml hP => ?_
  have htab : c.exceptionTable.toList = tableOf hh := vx_table (x := y) B (bytes := cc) (maxL' := nL) (ret' := ret) (atoms_spec (ws := wsW_ y cc nL ret hh) B.pre _ List.mem_cons_self)
  have M := zM_of (hh := hh) B (fun w h => List.mem_cons_of_mem _ h) hml htab hl hP
  obtain ⟨ha, hR, hK⟩ := hP
  subst ha
  rw [lg_entry_eq]
  exact h.2.2 p l e _ s m _ below meth c s.heap [] 0 0 _ M ⟨Nat.le_refl _, hR, (fun _ h => absurd h List.not_mem_nil), by show 0 + sZ σ' ≤ mc + sZ σ; omega, by show 0 + sL σ' ≤ ms + sL σ; omega, lv_entry as hlen⟩
theorem zCall_of {as : List Value} {Q : zO → zT → Prop} {ls : List (Nat × Value)} (hp : plainName y.cls = true) (hlen : (lg_sl as).length ≤ nL) (hls : lv_args 0 as = ls) (h : zR G y cc nL ret [] d 0 ls [] σ Q) : zCall G (y, cc, nL, ret, none) d as σ Q := by
  subst hls
  obtain ⟨o, σ', q, h⟩ := h
  exact ⟨o, σ', q, zC_of hp hlen h⟩
theorem zCall_ofH {hh : List (Nat × Nat × Nat × Nat)} {as : List Value} {Q : zO → zT → Prop} {ls : List (Nat × Value)} (hp : plainName y.cls = true) (hlen : (lg_sl as).length ≤ nL) (hls : lv_args 0 as = ls) (h : zR G y cc nL ret hh d 0 ls [] σ Q) : zCall G (y, cc, nL, ret, some hh) d as σ Q := by
  subst hls
  obtain ⟨o, σ', q, h⟩ := h
  exact ⟨o, σ', q, zC_ofH hp hlen h⟩
end zEntry
