/-! ===== ends, calls, throws of zR ===== -/
section zCalls
variable {G : zG} {y : MethodName} {cc : ByteArray} {nL : Nat} {ret : Option FieldType} {hh : List (Nat × Nat × Nat × Nat)} {d pc : Nat} {ls : List (Nat × Value)} {st : List Value} {σ σ1 : zT} {Q : zO → zT → Prop}
theorem zr_iret {v : Int32} {ty : FieldType} (hr : ret = some ty) (hn : narrow ty (.int v) = .int v) (hd : decode cc pc = .ok (.ireturn, 1)) (hq : Q (.inl (some (.int v))) σ) : zR G y cc nL ret hh d pc ls [.int v] σ Q :=
  ⟨_, σ, hq, Nat.le_refl _, Nat.le_refl _, fun p l e R s m args below meth c H locs cells slots arr M N => by
    have h1 := N.c
    have h2 := N.sl
    refine W.widen (k := R.cells) (n := R.slots) (by omega) (by omega) (vx_ret ?_)
    exact W.zret M.x M.b (M.r.trans hr) hn (fun t ht _ => ⟨_, rfl, rfl, by rw [ht]; exact N.rel⟩) N.lc hd M.lk⟩
theorem zr_lret {v : Int64} (hr : ret = some .long) (hd : decode cc pc = .ok (.lreturn, 1)) (hq : Q (.inl (some (.long v))) σ) : zR G y cc nL ret hh d pc ls [.long v] σ Q :=
  ⟨_, σ, hq, Nat.le_refl _, Nat.le_refl _, fun p l e R s m args below meth c H locs cells slots arr M N => by
    have h1 := N.c
    have h2 := N.sl
    refine W.widen (k := R.cells) (n := R.slots) (by omega) (by omega) (vx_ret ?_)
    exact W.lret M.x M.b (M.r.trans hr) (fun t ht _ => ⟨_, rfl, rfl, by rw [ht]; exact N.rel⟩) N.lc hd M.lk⟩
theorem zr_fret {v : UInt32} (hr : ret = some .float) (hd : decode cc pc = .ok (.freturn, 1)) (hq : Q (.inl (some (.float v))) σ) : zR G y cc nL ret hh d pc ls [.float v] σ Q :=
  ⟨_, σ, hq, Nat.le_refl _, Nat.le_refl _, fun p l e R s m args below meth c H locs cells slots arr M N => by
    have h1 := N.c
    have h2 := N.sl
    refine W.widen (k := R.cells) (n := R.slots) (by omega) (by omega) (vx_ret ?_)
    exact W.fret M.x M.b (M.r.trans hr) (fun t ht _ => ⟨_, rfl, rfl, by rw [ht]; exact N.rel⟩) N.lc hd M.lk⟩
theorem zr_dret {v : UInt64} (hr : ret = some .double) (hd : decode cc pc = .ok (.dreturn, 1)) (hq : Q (.inl (some (.double v))) σ) : zR G y cc nL ret hh d pc ls [.double v] σ Q :=
  ⟨_, σ, hq, Nat.le_refl _, Nat.le_refl _, fun p l e R s m args below meth c H locs cells slots arr M N => by
    have h1 := N.c
    have h2 := N.sl
    refine W.widen (k := R.cells) (n := R.slots) (by omega) (by omega) (vx_ret ?_)
    exact W.dret M.x M.b (M.r.trans hr) (fun t ht _ => ⟨_, rfl, rfl, by rw [ht]; exact N.rel⟩) N.lc hd M.lk⟩
theorem zr_vret (hr : ret = none) (hd : decode cc pc = .ok (.return_, 1)) (hq : Q (.inl none) σ) : zR G y cc nL ret hh d pc ls [] σ Q :=
  ⟨_, σ, hq, Nat.le_refl _, Nat.le_refl _, fun p l e R s m args below meth c H locs cells slots arr M N => by
    have h1 := N.c
    have h2 := N.sl
    refine W.widen (k := R.cells) (n := R.slots) (by omega) (by omega) (vx_ret ?_)
    exact W.vret M.x M.b (M.r.trans hr) (fun t ht _ => ⟨_, rfl, rfl, by rw [ht]; exact N.rel⟩) N.lc hd M.lk⟩
theorem zr_aret {v : Value} {rt : FieldType} (hr : ret = some rt) (hrt : (∃ n, rt = .object n) ∨ ∃ t, rt = .array t) (hv : v = .null ∨ ∃ a, v = .ref a) (hd : decode cc pc = .ok (.areturn, 1)) (hq : Q (.inl (some v)) σ) : zR G y cc nL ret hh d pc ls [v] σ Q :=
  ⟨_, σ, hq, Nat.le_refl _, Nat.le_refl _, fun p l e R s m args below meth c H locs cells slots arr M N => by
    have h1 := N.c
    have h2 := N.sl
    refine W.widen (k := R.cells) (n := R.slots) (by omega) (by omega) (vx_ret ?_)
    exact W.aret M.x M.b (M.r.trans hr) hrt hv (fun t ht _ => ⟨_, rfl, rfl, by rw [ht]; exact N.rel⟩) N.lc hd M.lk⟩
/-- a call can be made here: of the method I, with the values as, over rest (len: 3, of an interface's call 5) -/
def zSite (G : zG) (y : MethodName) (cc : ByteArray) (nL : Nat) (ret : Option FieldType) (hh : List (Nat × Nat × Nat × Nat)) (d pc : Nat) (ls : List (Nat × Value)) (I : zI) (as rest st : List Value) (σ : zT) : Prop :=
  ∀ (p : Program) (l : Launch) (e : Env) (R : Room) (s : State) (m : MethodId) (args : Array Value) (below : List Frame) (meth : Method) (c : Code) (H : Heap) (locs : List Loc) (cells slots : Nat) (arr : Array Slot) (mc ms : Nat) (Qc : Array Value → State → Outcome → State → Prop) (XC : Addr → String → State → State → Prop),
    zM G y cc nL ret hh d p l R s m args meth c → zRel G σ H → lv_has arr nL ls → vx_Met l I.1 (zws I) (zrm (d - 1) mc ms) (zPc G as σ) Qc XC mc ms (zb G) → cells + mc ≤ R.cells ∧ slots + ms ≤ R.slots →
    vx_Run p l e R s m args below meth c H locs cells slots mc ms (F0 m pc arr st) rest (Qc as.toArray) XC (zb G)
def zSite5 (G : zG) (y : MethodName) (cc : ByteArray) (nL : Nat) (ret : Option FieldType) (hh : List (Nat × Nat × Nat × Nat)) (d pc : Nat) (ls : List (Nat × Value)) (I : zI) (as rest st : List Value) (σ : zT) : Prop :=
  ∀ (p : Program) (l : Launch) (e : Env) (R : Room) (s : State) (m : MethodId) (args : Array Value) (below : List Frame) (meth : Method) (c : Code) (H : Heap) (locs : List Loc) (cells slots : Nat) (arr : Array Slot) (mc ms : Nat) (Qc : Array Value → State → Outcome → State → Prop) (XC : Addr → String → State → State → Prop),
    zM G y cc nL ret hh d p l R s m args meth c → zRel G σ H → lv_has arr nL ls → vx_Met l I.1 (zws I) (zrm (d - 1) mc ms) (zPc G as σ) Qc XC mc ms (zb G) → cells + mc ≤ R.cells ∧ slots + ms ≤ R.slots →
    vx_Run5 p l e R s m args below meth c H locs cells slots mc ms (F0 m pc arr st) rest (Qc as.toArray) XC (zb G)
theorem zr_call {I : zI} {as rest : List Value} {v : Option Value} (hS : zSite G y cc nL ret hh d pc ls I as rest st σ) (hC : zC G I (d - 1) as σ (.inl v) σ1) (k : zR G y cc nL ret hh d (pc + 3) ls (v.toList ++ rest) σ1 Q) : zR G y cc nL ret hh d pc ls st σ Q := by
  obtain ⟨o, σ', q, h1, h2, h3⟩ := k
  obtain ⟨c1, c2, c3⟩ := hC
  refine ⟨o, σ', q, Nat.le_trans c1 h1, Nat.le_trans c2 h2, fun p l e R s m args below meth c H locs cells slots arr M N => ?_⟩
  have n1 := N.c
  have n2 := N.sl
  have run := hS p l e R s m args below meth c H locs cells slots arr (sZ σ1 - sZ σ) (sL σ1 - sL σ) _ _ M N.rel N.hl (c3 l _ _ M.tr (by omega) (by omega)) ⟨by omega, by omega⟩
  intro T hT X
  rcases run T hT X with ⟨v', st0, t, T', L, e0, X', hL, e1, e2, ⟨v2, a1, a2, a3⟩, st1⟩ | ⟨q', st0, t, T', L, E, ce, e0, X', hL, e1, e2, ⟨hx, -⟩, -⟩
  · cases a1
    cases a2
    have hsz : T'.heap.size = sZ σ1 := by rw [e1]; exact a3.1
    obtain ⟨t2, b1, b2⟩ := h3 p l e R s m args below meth c T'.heap (locs ++ L) _ _ arr M ⟨by have := N.sz; have := N.rel.1; omega, by rw [e1]; exact a3, fun z hz => (List.mem_append.mp hz).elim (N.lc z) (hL z), by omega, by omega, N.hl⟩ T' rfl X'
    exact ⟨t2, st1 t2 b1, b2⟩
  · cases hx
theorem zr_callX {I : zI} {as rest : List Value} {E : String} {q : Nat} (hS : zSite G y cc nL ret hh d pc ls I as rest st σ) (hC : zC G I (d - 1) as σ (.inr (E, q)) σ1) (k : zRx G y cc nL ret hh d pc ls E q σ1 Q) : zR G y cc nL ret hh d pc ls st σ Q := by
  obtain ⟨o, σ', q0, h1, h2, h3⟩ := k
  obtain ⟨c1, c2, c3⟩ := hC
  refine ⟨o, σ', q0, Nat.le_trans c1 h1, Nat.le_trans c2 h2, fun p l e R s m args below meth c H locs cells slots arr M N => ?_⟩
  have n1 := N.c
  have n2 := N.sl
  have run := hS p l e R s m args below meth c H locs cells slots arr (sZ σ1 - sZ σ) (sL σ1 - sL σ) _ _ M N.rel N.hl (c3 l _ _ M.tr (by omega) (by omega)) ⟨by omega, by omega⟩
  intro T hT X
  rcases run T hT X with ⟨v', st0, t, T', L, e0, X', hL, e1, e2, ⟨v2, a1, a2, a3⟩, st1⟩ | ⟨q', st0, t, T', L, E', ce, e0, X', hL, e1, e2, ⟨hx, a3⟩, hce, hcv, hcl, st1⟩
  · cases a1
  · cases hx
    have hsz : T'.heap.size = sZ σ1 := by rw [e1]; exact a3.1
    obtain ⟨t2, b1, b2⟩ := h3 p l e R s m args below meth c T'.heap (locs ++ L) _ _ arr rest ce M ⟨by have := N.sz; have := N.rel.1; omega, by rw [e1]; exact a3, fun z hz => (List.mem_append.mp hz).elim (N.lc z) (hL z), by omega, by omega, N.hl⟩ (by rw [e1]; exact hce) hcv hcl T' rfl X'
    exact ⟨t2, st1.trans b1, b2⟩
theorem zr_call5 {I : zI} {as rest : List Value} {v : Option Value} (hS : zSite5 G y cc nL ret hh d pc ls I as rest st σ) (hC : zC G I (d - 1) as σ (.inl v) σ1) (k : zR G y cc nL ret hh d (pc + 5) ls (v.toList ++ rest) σ1 Q) : zR G y cc nL ret hh d pc ls st σ Q := by
  obtain ⟨o, σ', q, h1, h2, h3⟩ := k
  obtain ⟨c1, c2, c3⟩ := hC
  refine ⟨o, σ', q, Nat.le_trans c1 h1, Nat.le_trans c2 h2, fun p l e R s m args below meth c H locs cells slots arr M N => ?_⟩
  have n1 := N.c
  have n2 := N.sl
  have run := hS p l e R s m args below meth c H locs cells slots arr (sZ σ1 - sZ σ) (sL σ1 - sL σ) _ _ M N.rel N.hl (c3 l _ _ M.tr (by omega) (by omega)) ⟨by omega, by omega⟩
  intro T hT X
  rcases run T hT X with ⟨v', st0, t, T', L, e0, X', hL, e1, e2, ⟨v2, a1, a2, a3⟩, st1⟩ | ⟨q', st0, t, T', L, E, ce, e0, X', hL, e1, e2, ⟨hx, -⟩, -⟩
  · cases a1
    cases a2
    have hsz : T'.heap.size = sZ σ1 := by rw [e1]; exact a3.1
    obtain ⟨t2, b1, b2⟩ := h3 p l e R s m args below meth c T'.heap (locs ++ L) _ _ arr M ⟨by have := N.sz; have := N.rel.1; omega, by rw [e1]; exact a3, fun z hz => (List.mem_append.mp hz).elim (N.lc z) (hL z), by omega, by omega, N.hl⟩ T' rfl X'
    exact ⟨t2, st1 t2 b1, b2⟩
  · cases hx
/-- what is asked of a method's name and locals: n parameters -/
def zdd (y : MethodName) (L n : Nat) : Prop := (y.cls ≠ "java/lang/invoke/MethodHandle" ∧ y.cls ≠ "java/lang/invoke/VarHandle" ∧ (parseMethodDescriptor y.desc).map (fun d => d.parameters.length) = some n) ∧ L ≤ 45
theorem zPc_blind (G : zG) (as : List Value) (σ : zT) : FrameBlind (zPc G as σ) := fun a _ g mk q => ⟨q.1, q.2.1, q.2.2.calling g mk a⟩
section sites
variable {p : Program} {l : Launch} {R : Room} {s : State} {m : MethodId} {args : Array Value} {meth : Method} {c : Code} {H : Heap}
theorem zPreS (M : zM G y cc nL ret hh d p l R s m args meth c) (hR : zRel G σ H) (as : List Value) : PreS s H (zPc G as σ) as :=
  ⟨zPc_blind _ _ _, fun U hU hW => ⟨rfl, by rw [hU]; exact hR, M.K.warm hW⟩⟩
theorem zPreV (M : zM G y cc nL ret hh d p l R s m args meth c) (hR : zRel G σ H) {b : Nat} (As : List Value) {ci : Nat} {fs : List Value} {C : String} {T : u_T} {N : Nat} (hb : zAt G σ b (.inr (ci, fs))) (hc : zcl[ci]? = some (C, T, N)) : PreV s H C b (zPc G (.ref b :: As) σ) As :=
  ⟨zPc_blind _ _ _, va_recv M.K.1 (hR.P hb) hc (q0 := 0) rfl, fun U hU hW => ⟨rfl, by rw [hU]; exact hR, M.K.warm hW⟩⟩
theorem zrm_ok (M : zM G y cc nL ret hh d p l R s m args meth c) (h1 : 1 ≤ d) {L mc ms : Nat} (hL : L ≤ 45) : (zrm (d - 1) mc ms).frames + 1 ≤ R.frames ∧ 8 + (L + 11) + (zrm (d - 1) mc ms).locals ≤ R.locals := by
  have a := M.fr
  have b := M.lo
  refine ⟨?_, ?_⟩
  · show d - 1 + 1 ≤ R.frames
    omega
  · show 8 + (L + 11) + 64 * (d - 1) ≤ R.locals
    omega
end sites
/-- virtual, on a receiver of just that class -/
theorem zs_V {y2 : MethodName} {b2 : ByteArray} {L2 n idx ci N b : Nat} {r2 : Option FieldType} {As rest fs : List Value} {C : String} {T : u_T} (hd1 : 1 ≤ d) (hok : zdd y2 L2 n) (h1 : Cond.methodLink y.cls idx y2 ∈ lw_all) (h2 : Cond.instanceMethod y2 ∈ lw_all) (h3 : Cond.selects C y2 y2 ∈ lw_all) (h4 : Cond.initialized C ∈ lw_all) (h5 : Cond.code y2 b2 L2 r2 ∈ lw_all)
    (hC : y2.cls = C) (hb : zAt G σ b (.inr (ci, fs))) (hc : zcl[ci]? = some (C, T, N)) (hn : As.length = n) (hst : st = As.reverse ++ .ref b :: rest) (hw : (rest.map fun v => v.category).sum ≤ 8) (hdg : decode cc pc = .ok (.invokevirtual idx, 3)) :
    zSite G y cc nL ret hh d pc ls (y2, b2, L2, r2, none) (.ref b :: As) rest st σ :=
  fun p l e R s m args below meth c H locs cells slots arr mc ms Qc XC M hR hl hM hf =>
    vx_runV ⟨M.x, M.b, M.ml, M.own, M.ws⟩ hM (cwV n M.ws (lw_V h1 h2 h3 h4 h5) rfl rfl rfl ⟨hC, hok.1⟩ (zrm_ok M hd1 hok.2)) (zPreV M hR As hb hc) rfl hn hl.1 hst (lv_room hw) hdg hf
/-- .. of a method with handlers -/
theorem zs_VX {y2 : MethodName} {b2 : ByteArray} {L2 n idx ci N b : Nat} {r2 : Option FieldType} {h9 : List (Nat × Nat × Nat × Nat)} {As rest fs : List Value} {C : String} {T : u_T} (hd1 : 1 ≤ d) (hok : zdd y2 L2 n) (h1 : Cond.methodLink y.cls idx y2 ∈ lw_all) (h2 : Cond.instanceMethod y2 ∈ lw_all) (h3 : Cond.selects C y2 y2 ∈ lw_all) (h4 : Cond.initialized C ∈ lw_all) (h5 : Cond.codeWith y2 b2 L2 r2 h9 ∈ lw_all)
    (hC : y2.cls = C) (hb : zAt G σ b (.inr (ci, fs))) (hc : zcl[ci]? = some (C, T, N)) (hn : As.length = n) (hst : st = As.reverse ++ .ref b :: rest) (hw : (rest.map fun v => v.category).sum ≤ 8) (hdg : decode cc pc = .ok (.invokevirtual idx, 3)) :
    zSite G y cc nL ret hh d pc ls (y2, b2, L2, r2, some h9) (.ref b :: As) rest st σ :=
  fun p l e R s m args below meth c H locs cells slots arr mc ms Qc XC M hR hl hM hf =>
    vx_runVX ⟨M.x, M.b, M.ml, M.own, M.ws⟩ hM (vx_cwVW n M.ws (lw_VW h1 h2 h3 h4 h5) rfl rfl rfl ⟨hC, hok.1⟩ (zrm_ok M hd1 hok.2)) (zPreV M hR As hb hc) rfl hn hl.1 hst (lv_room hw) hdg hf
/-- static -/
theorem zs_S {y2 : MethodName} {b2 : ByteArray} {L2 n idx : Nat} {r2 : Option FieldType} {As rest : List Value} (hd1 : 1 ≤ d) (hok : zdd y2 L2 n) (h1 : Cond.methodLink y.cls idx y2 ∈ lw_all) (h2 : Cond.static y2 ∈ lw_all) (h3 : Cond.initialized y2.cls ∈ lw_all) (h4 : Cond.code y2 b2 L2 r2 ∈ lw_all)
    (hn : As.length = n) (hst : st = As.reverse ++ rest) (hw : (rest.map fun v => v.category).sum ≤ 8) (hdg : decode cc pc = .ok (.invokestatic idx, 3)) :
    zSite G y cc nL ret hh d pc ls (y2, b2, L2, r2, none) As rest st σ :=
  fun p l e R s m args below meth c H locs cells slots arr mc ms Qc XC M hR hl hM hf =>
    vx_runS ⟨M.x, M.b, M.ml, M.own, M.ws⟩ hM (va_cwS n M.ws (lw_S h1 h2 h3 h4) rfl rfl rfl hok.1 (zrm_ok M hd1 hok.2)) (zPreS M hR As) rfl hn hl.1 hst (lv_room hw) hdg hf
theorem zs_SX {y2 : MethodName} {b2 : ByteArray} {L2 n idx : Nat} {r2 : Option FieldType} {h9 : List (Nat × Nat × Nat × Nat)} {As rest : List Value} (hd1 : 1 ≤ d) (hok : zdd y2 L2 n) (h1 : Cond.methodLink y.cls idx y2 ∈ lw_all) (h2 : Cond.static y2 ∈ lw_all) (h3 : Cond.initialized y2.cls ∈ lw_all) (h4 : Cond.codeWith y2 b2 L2 r2 h9 ∈ lw_all)
    (hn : As.length = n) (hst : st = As.reverse ++ rest) (hw : (rest.map fun v => v.category).sum ≤ 8) (hdg : decode cc pc = .ok (.invokestatic idx, 3)) :
    zSite G y cc nL ret hh d pc ls (y2, b2, L2, r2, some h9) As rest st σ :=
  fun p l e R s m args below meth c H locs cells slots arr mc ms Qc XC M hR hl hM hf =>
    vx_runSX ⟨M.x, M.b, M.ml, M.own, M.ws⟩ hM (vx_cwSW n M.ws (lw_SW h1 h2 h3 h4) rfl rfl rfl hok.1 (zrm_ok M hd1 hok.2)) (zPreS M hR As) rfl hn hl.1 hst (lv_room hw) hdg hf
/-- a constructor -/
theorem zs_I {y2 : MethodName} {b2 : ByteArray} {L2 n idx b : Nat} {As rest : List Value} (hd1 : 1 ≤ d) (hok : zdd y2 L2 n) (h1 : Cond.methodLink y.cls idx y2 ∈ lw_all) (h2 : Cond.instanceMethod y2 ∈ lw_all) (h3 : Cond.initialized y2.cls ∈ lw_all) (h4 : Cond.code y2 b2 L2 none ∈ lw_all) (hy : y2.name = "<init>")
    (hn : As.length = n) (hst : st = As.reverse ++ .ref b :: rest) (hw : (rest.map fun v => v.category).sum ≤ 8) (hdg : decode cc pc = .ok (.invokespecial idx, 3)) :
    zSite G y cc nL ret hh d pc ls (y2, b2, L2, none, none) (.ref b :: As) rest st σ :=
  fun p l e R s m args below meth c H locs cells slots arr mc ms Qc XC M hR hl hM hf =>
    vx_runI ⟨M.x, M.b, M.ml, M.own, M.ws⟩ hM (cwI n M.ws (lw_meth h4) rfl rfl rfl (M.ws _ h3) (M.ws _ h1) (M.ws _ h2) hy hok.1 (zrm_ok M hd1 hok.2)) (zPreS M hR (.ref b :: As)) rfl hn hl.1 hst (lv_room hw) hdg hf
/-- a nest mate's constructor -/
theorem zs_IN {y2 : MethodName} {b2 : ByteArray} {L2 n idx b : Nat} {host : String} {As rest : List Value} (hd1 : 1 ≤ d) (hok : zdd y2 L2 n) (h1 : Cond.methodLinkNest y.cls idx y2 host ∈ lw_tbl) (h2 : Cond.instanceMethod y2 ∈ lw_all) (h3 : Cond.initialized y2.cls ∈ lw_all) (h4 : Cond.code y2 b2 L2 none ∈ lw_all) (hy : y2.name = "<init>")
    (hn : As.length = n) (hst : st = As.reverse ++ .ref b :: rest) (hw : (rest.map fun v => v.category).sum ≤ 8) (hdg : decode cc pc = .ok (.invokespecial idx, 3)) :
    zSite G y cc nL ret hh d pc ls (y2, b2, L2, none, none) (.ref b :: As) rest st σ :=
  fun p l e R s m args below meth c H locs cells slots arr mc ms Qc XC M hR hl hM hf =>
    vx_runIN ⟨M.x, M.b, M.ml, M.own, M.ws⟩ hM ⟨va_cnB n M.ws (lw_meth h4) rfl rfl rfl (M.K.2.1 _ h1 rfl) (M.ws _ h3) hok.1 (zrm_ok M hd1 hok.2), hy, M.ws _ h2⟩ (zPreS M hR (.ref b :: As)) rfl hn hl.1 hst (lv_room hw) hdg hf
/-- a nest mate's private method -/
theorem zs_VN {y2 : MethodName} {b2 : ByteArray} {L2 n idx ci N b : Nat} {r2 : Option FieldType} {host : String} {As rest fs : List Value} {C : String} {T : u_T} (hd1 : 1 ≤ d) (hok : zdd y2 L2 n) (h1 : Cond.methodLinkNest y.cls idx y2 host ∈ lw_tbl) (h2 : Cond.instanceMethod y2 ∈ lw_all) (h3 : Cond.selects C y2 y2 ∈ lw_all) (h4 : Cond.initialized y2.cls ∈ lw_all) (h5 : Cond.code y2 b2 L2 r2 ∈ lw_all)
    (hb : zAt G σ b (.inr (ci, fs))) (hc : zcl[ci]? = some (C, T, N)) (hn : As.length = n) (hst : st = As.reverse ++ .ref b :: rest) (hw : (rest.map fun v => v.category).sum ≤ 8) (hdg : decode cc pc = .ok (.invokevirtual idx, 3)) :
    zSite G y cc nL ret hh d pc ls (y2, b2, L2, r2, none) (.ref b :: As) rest st σ :=
  fun p l e R s m args below meth c H locs cells slots arr mc ms Qc XC M hR hl hM hf =>
    vx_runVN (C := C) ⟨M.x, M.b, M.ml, M.own, M.ws⟩ hM ⟨va_cnB n M.ws (lw_meth h5) rfl rfl rfl (M.K.2.1 _ h1 rfl) (M.ws _ h4) hok.1 (zrm_ok M hd1 hok.2), M.ws _ h2, M.ws _ h3⟩ (zPreV M hR As hb hc) rfl hn hl.1 hst (lv_room hw) hdg hf
/-- a nest mate's private static -/
theorem zs_SN {y2 : MethodName} {b2 : ByteArray} {L2 n idx : Nat} {r2 : Option FieldType} {host : String} {As rest : List Value} (hd1 : 1 ≤ d) (hok : zdd y2 L2 n) (h1 : Cond.methodLinkNest y.cls idx y2 host ∈ lw_tbl) (h2 : Cond.static y2 ∈ lw_all) (h3 : Cond.initialized y2.cls ∈ lw_all) (h4 : Cond.code y2 b2 L2 r2 ∈ lw_all)
    (hn : As.length = n) (hst : st = As.reverse ++ rest) (hw : (rest.map fun v => v.category).sum ≤ 8) (hdg : decode cc pc = .ok (.invokestatic idx, 3)) :
    zSite G y cc nL ret hh d pc ls (y2, b2, L2, r2, none) As rest st σ :=
  fun p l e R s m args below meth c H locs cells slots arr mc ms Qc XC M hR hl hM hf =>
    vx_runSN ⟨M.x, M.b, M.ml, M.own, M.ws⟩ hM ⟨va_cnB n M.ws (lw_meth h4) rfl rfl rfl (M.K.2.1 _ h1 rfl) (M.ws _ h3) hok.1 (zrm_ok M hd1 hok.2), M.ws _ h2, trivial⟩ (zPreS M hR As) rfl hn hl.1 hst (lv_room hw) hdg hf
/-- through an interface -/
theorem zs_F {x2 y2 : MethodName} {b2 : ByteArray} {L2 n idx cnt ci N b : Nat} {r2 : Option FieldType} {As rest fs : List Value} {C : String} {T : u_T} (hd1 : 1 ≤ d) (hok : zdd x2 L2 n) (hF : (C, x2, y2) ∈ zFws) (h1 : Cond.methodLink y.cls idx x2 ∈ lw_all) (h2 : Cond.selects C x2 y2 ∈ lw_all) (h3 : Cond.instanceMethod y2 ∈ lw_all) (h4 : Cond.initialized y2.cls ∈ lw_all) (h5 : Cond.code y2 b2 L2 r2 ∈ lw_all)
    (hb : zAt G σ b (.inr (ci, fs))) (hc : zcl[ci]? = some (C, T, N)) (hn : As.length = n) (hst : st = As.reverse ++ .ref b :: rest) (hw : (rest.map fun v => v.category).sum ≤ 8) (hdg : decode cc pc = .ok (.invokeinterface idx cnt, 5)) :
    zSite5 G y cc nL ret hh d pc ls (y2, b2, L2, r2, none) (.ref b :: As) rest st σ :=
  fun p l e R s m args below meth c H locs cells slots arr mc ms Qc XC M hR hl hM hf =>
    vx_runF (C := C) (M.K.1.1 ci _ hc).2 ⟨M.x, M.b, M.ml, M.own, M.ws⟩ hM (va_cwF n M.ws (lw_app (a := [.methodLink y.cls idx x2, .selects C x2 y2, .instanceMethod y2, .initialized y2.cls]) (fun w hw => by
      simp only [List.mem_cons, List.not_mem_nil, or_false] at hw
      rcases hw with e | e | e | e <;> rw [e] <;> assumption) (lw_meth h5)) rfl rfl rfl (M.K.2.2.1 _ hF) hok.1 (zrm_ok M hd1 hok.2)) (zPreV M hR As hb hc) rfl hn hl.1 hst (lv_room hw) hdg hf
/-- Object's constructor -/
theorem zr_objInit {idx : Nat} {a : Nat} (hd1 : 1 ≤ d) (h1 : Cond.methodLink y.cls idx Lib.objectInit ∈ lw_all) (h2 : Cond.instanceMethod Lib.objectInit ∈ lw_all) (h3 : Cond.code Lib.objectInit ⟨#[0xb1]⟩ 1 none ∈ lw_all) (hw : (st.map fun v => v.category).sum ≤ 8) (hdg : decode cc pc = .ok (.invokespecial idx, 3)) (k : zR G y cc nL ret hh d (pc + 3) ls st σ Q) : zR G y cc nL ret hh d pc ls (.ref a :: st) σ Q :=
  zR.lift (fun p l e R s m args below meth c H locs cells slots arr Q0 M hl hR k => by
    have f := M.fr
    have g := M.lo
    have hz : 2 * (F0 m pc arr st).monitorRoom + (st.map fun v => v.category).sum ≤ 8 := lv_room hw
    exact W.objInit M.x M.b M.own (M.ws _ h1) (M.ws _ h2) (M.ws _ h3) rfl (by rw [M.ml]; exact hl.1) rfl hdg (by omega) (by have hz' : 2 * (F0 m pc arr (.ref a :: st)).monitorRoom + (st.map fun v => v.category).sum ≤ 8 := hz; omega) k) k
/-- Math.max, Math.min -/
def imax (x z : Int32) : Int32 := if x < z then z else x
def imin (x z : Int32) : Int32 := if z < x then z else x
theorem zr_max {idx : Nat} {x z : Int32} (hd1 : 1 ≤ d) (h1 : Cond.methodLink y.cls idx Lib.Math.max.name ∈ lw_all) (h2 : Cond.static Lib.Math.max.name ∈ lw_all) (h3 : Cond.initialized "java/lang/Math" ∈ lw_all) (h4 : Cond.code Lib.Math.max.name Lib.Math.max.code 2 (some .int) ∈ lw_all) (hw : (st.map fun v => v.category).sum ≤ 8) (hdg : decode cc pc = .ok (.invokestatic idx, 3)) (k : zR G y cc nL ret hh d (pc + 3) ls (.int (imax x z) :: st) σ Q) : zR G y cc nL ret hh d pc ls (.int z :: .int x :: st) σ Q := by
  obtain ⟨o, σ', q, k1, k2, k3⟩ := k
  refine ⟨o, σ', q, k1, k2, fun p l e R s m args below meth c H locs cells slots arr M N => ?_⟩
  have f := M.fr
  have g := M.lo
  have n1 := N.c
  have n2 := N.sl
  exact va_mmax M.x M.b (M.ml.trans N.hl.1.symm) M.own (M.ws _ h1) (M.ws _ h2) (M.ws _ h3) (M.ws _ h4) (by omega) (by omega) (by omega) (by omega) hdg (k3 p l e R s m args below meth c H locs cells slots arr M N)
theorem zr_min {idx : Nat} {x z : Int32} (hd1 : 1 ≤ d) (h1 : Cond.methodLink y.cls idx Lib.Math.min.name ∈ lw_all) (h2 : Cond.static Lib.Math.min.name ∈ lw_all) (h3 : Cond.initialized "java/lang/Math" ∈ lw_all) (h4 : Cond.code Lib.Math.min.name Lib.Math.min.code 2 (some .int) ∈ lw_all) (hw : (st.map fun v => v.category).sum ≤ 8) (hdg : decode cc pc = .ok (.invokestatic idx, 3)) (k : zR G y cc nL ret hh d (pc + 3) ls (.int (imin x z) :: st) σ Q) : zR G y cc nL ret hh d pc ls (.int z :: .int x :: st) σ Q := by
  obtain ⟨o, σ', q, k1, k2, k3⟩ := k
  refine ⟨o, σ', q, k1, k2, fun p l e R s m args below meth c H locs cells slots arr M N => ?_⟩
  have f := M.fr
  have g := M.lo
  have n1 := N.c
  have n2 := N.sl
  exact va_mmin M.x M.b (M.ml.trans N.hl.1.symm) M.own (M.ws _ h1) (M.ws _ h2) (M.ws _ h3) (M.ws _ h4) (by omega) (by omega) (by omega) (by omega) hdg (k3 p l e R s m args below meth c H locs cells slots arr M N)
/-- 'throw x' -/
theorem zr_athrow {E : String} {q ci : Nat} {fs : List Value} {T : u_T} {N : Nat} (hq : zAt G σ q (.inr (ci, fs))) (hc : zcl[ci]? = some (E, T, N)) (hdg : decode cc pc = .ok (.athrow, 1)) (k : zRx G y cc nL ret hh d pc ls E q σ Q) : zR G y cc nL ret hh d pc ls (.ref q :: st) σ Q := by
  obtain ⟨o, σ', q0, k1, k2, k3⟩ := k
  refine ⟨o, σ', q0, k1, k2, fun p l e R s m args below meth c H locs cells slots arr M N => ?_⟩
  obtain ⟨r, h1, ce, g1, g2, g3, -⟩ := N.rel.at hq
  have hr : r = (E, T, _) := Option.some.inj (h1.symm.trans hc)
  subst hr
  exact vx_athrow M.x M.b hdg (k3 p l e R s m args below meth c H locs cells slots arr st ce M N g1 g3 (by rw [g2]; exact (M.K.1.1 ci _ hc).2.1))
/-- it isn't caught here -/
theorem zx_out {E : String} {q : Nat} (hout : ∀ x ∈ tableOf hh, covers x pc = false) (hq : Q (.inr (E, q)) σ) : zRx G y cc nL ret hh d pc ls E q σ Q :=
  ⟨_, σ, hq, Nat.le_refl _, Nat.le_refl _, fun p l e R s m args below meth c H locs cells slots arr st ce M N h1 h2 h3 => by
    have n1 := N.c
    have n2 := N.sl
    exact vx_out (by rw [M.ht]; exact hout) M.lk h1 h2 h3 (fun t ht _ => ⟨rfl, by rw [ht]; exact N.rel⟩) N.lc (by omega) (by omega)⟩
/-- it is caught by the entry behind 'pre' of the table -/
theorem zx_catch {E name : String} {q n : Nat} (pre : List ExceptionTableEntry) (x : ExceptionTableEntry) (suf : List ExceptionTableEntry) (hsplit : tableOf hh = pre ++ x :: suf) (hpass : ∀ z ∈ pre, covers z pc = false) (hx : covers x pc = true) (h0 : x.catchType ≠ 0) (hp : x.handlerPc = n)
    (hlink : Cond.classLink y.cls x.catchType name ∈ lw_all) (hcast : Cond.castable E name ∈ lw_tbl) (k : zR G y cc nL ret hh d n ls [.ref q] σ Q) : zRx G y cc nL ret hh d pc ls E q σ Q := by
  obtain ⟨o, σ', q0, k1, k2, k3⟩ := k
  subst hp
  exact ⟨o, σ', q0, k1, k2, fun p l e R s m args below meth c H locs cells slots arr st ce M N h1 h2 h3 =>
    vx_catch M.own pre x suf (M.ht.trans hsplit) (fun z hz => Or.inl (hpass z hz)) hx h0 (M.ws _ hlink) (va_Nw.use rfl (M.K.2.1 _ hcast rfl)) h1 h2 h3 (k3 p l e R s m args below meth c H locs cells slots arr M N)⟩
/-- .. its class passes the entries of pre (that cover pc) for other classes -/
theorem zx_catchP {E name : String} {q n : Nat} (pre : List ExceptionTableEntry) (x : ExceptionTableEntry) (suf : List ExceptionTableEntry) (hsplit : tableOf hh = pre ++ x :: suf) (hpass : ∀ (s : State) (args : Array Value), zK G s → (∀ w ∈ lw_all, w.before args s = true) → ∀ z ∈ pre, covers z pc = false ∨ (z.catchType ≠ 0 ∧ ∃ nm : String, (Cond.classLink y.cls z.catchType nm).before args s = true ∧ va_Nc E nm s)) (hx : covers x pc = true) (h0 : x.catchType ≠ 0) (hp : x.handlerPc = n)
    (hlink : Cond.classLink y.cls x.catchType name ∈ lw_all) (hcast : Cond.castable E name ∈ lw_tbl) (k : zR G y cc nL ret hh d n ls [.ref q] σ Q) : zRx G y cc nL ret hh d pc ls E q σ Q := by
  obtain ⟨o, σ', q0, k1, k2, k3⟩ := k
  subst hp
  exact ⟨o, σ', q0, k1, k2, fun p l e R s m args below meth c H locs cells slots arr st ce M N h1 h2 h3 =>
    vx_catch M.own pre x suf (M.ht.trans hsplit) (hpass s args M.K M.ws) hx h0 (M.ws _ hlink) (va_Nw.use rfl (M.K.2.1 _ hcast rfl)) h1 h2 h3 (k3 p l e R s m args below meth c H locs cells slots arr M N)⟩
end zCalls
