/-! ===== inherited calls; Object.equals; ArrayList.remove; Integer.valueOf (rows printed by tools/p45.py) ===== -/
section zCalls2
variable {G : zG} {y : MethodName} {cc : ByteArray} {nL : Nat} {ret : Option FieldType} {hh : List (Nat × Nat × Nat × Nat)} {d pc : Nat} {ls : List (Nat × Value)} {st : List Value} {σ σ1 : zT} {Q : zO → zT → Prop}
/-- virtual, of a method of Object's that the receiver's class C doesn't override -/
theorem zs_VO {y2 : MethodName} {b2 : ByteArray} {L2 n idx ci N b : Nat} {r2 : Option FieldType} {As rest fs : List Value} {C : String} {T : u_T} (hd1 : 1 ≤ d) (hok : zdd y2 L2 n) (h1 : Cond.methodLink y.cls idx y2 ∈ lw_all) (h2 : Cond.instanceMethod y2 ∈ lw_all) (h3 : Cond.selects C y2 y2 ∈ lw_all) (h4 : Cond.initialized y2.cls ∈ lw_all) (h5 : Cond.code y2 b2 L2 r2 ∈ lw_all)
    (hb : zAt G σ b (.inr (ci, fs))) (hc : zcl[ci]? = some (C, T, N)) (hn : As.length = n) (hst : st = As.reverse ++ .ref b :: rest) (hw : (rest.map fun v => v.category).sum ≤ 8) (hdg : decode cc pc = .ok (.invokevirtual idx, 3)) :
    zSite G y cc nL ret hh d pc ls (y2, b2, L2, r2, none) (.ref b :: As) rest st σ :=
  fun p l e R s m args below meth c H locs cells slots arr mc ms Qc XC M hR hl hM hf =>
    vx_runV ⟨M.x, M.b, M.ml, M.own, M.ws⟩ hM ⟨callB_of n M.ws (lw_meth h5) rfl rfl rfl (M.ws _ h4) (M.ws _ h1) hok.1 (zrm_ok M hd1 hok.2), M.ws _ h2, M.ws _ h3⟩ (zPreV M hR As hb hc) rfl hn hl.1 hst (lv_room hw) hdg hf
/-- virtual, of a method that the receiver's class inherits -/
theorem zs_U {x2 y2 : MethodName} {b2 : ByteArray} {L2 n idx ci N b : Nat} {r2 : Option FieldType} {As rest fs : List Value} {C owner : String} {T : u_T} (hd1 : 1 ≤ d) (hok : (owner ≠ "java/lang/invoke/MethodHandle" ∧ owner ≠ "java/lang/invoke/VarHandle" ∧ (parseMethodDescriptor x2.desc).map (fun d => d.parameters.length) = some n) ∧ L2 ≤ 45) (hyx : y2 = ⟨owner, x2.name, x2.desc⟩) (h1 : Cond.methodLink y.cls idx x2 ∈ lw_all) (h2 : Cond.sameMethod x2.cls owner x2.name x2.desc ∈ lw_all) (h3 : Cond.selects C x2 y2 ∈ lw_all) (h4 : Cond.instanceMethod y2 ∈ lw_all) (h5 : Cond.initialized y2.cls ∈ lw_all) (h6 : Cond.code y2 b2 L2 r2 ∈ lw_all)
    (hb : zAt G σ b (.inr (ci, fs))) (hc : zcl[ci]? = some (C, T, N)) (hn : As.length = n) (hst : st = As.reverse ++ .ref b :: rest) (hw : (rest.map fun v => v.category).sum ≤ 8) (hdg : decode cc pc = .ok (.invokevirtual idx, 3)) :
    zSite G y cc nL ret hh d pc ls (y2, b2, L2, r2, none) (.ref b :: As) rest st σ :=
  fun p l e R s m args below meth c H locs cells slots arr mc ms Qc XC M hR hl hM hf =>
    vx_runU (C := C) ⟨M.x, M.b, M.ml, M.own, M.ws⟩ hM (va_cwU n M.ws (lw_app (a := [.methodLink y.cls idx x2, .sameMethod x2.cls owner x2.name x2.desc, .selects C x2 y2, .instanceMethod y2, .initialized y2.cls]) (fun w hw => by
      simp only [List.mem_cons, List.not_mem_nil, or_false] at hw
      rcases hw with e | e | e | e | e <;> rw [e] <;> assumption) (lw_meth h6)) rfl rfl rfl hyx hok.1 (zrm_ok M hd1 hok.2)) (zPreV M hR As hb hc) rfl hn hl.1 hst (lv_room hw) hdg hf
end zCalls2

set_option maxHeartbeats 4000000 in
theorem c_J18_valueOf {G : zG} {σ : zT} {d : Nat} {n : Nat} (hG : zOk G) (hn : n < 128) : zC G I_J18_valueOf d [.int (nI n)] σ (.inl (some (.ref (zc G (100 + (n + 128)))))) σ := by
  refine zCall.exact (zCall_of (ls := [(0, .int (nI n))]) (by decide) (Nat.le_of_ble_eq_true rfl) rfl ?_)
  refine zr_iload_n dJ18_valueOf_0 rfl rfl ?_
  refine zr_bipush (v := (-128)) dJ18_valueOf_1 (by decide) ?_
  refine zr_icmp_lt (tgt := 23) dJ18_valueOf_3 (by decide) (fun h9 => absurd h9 (Int32.not_lt.mpr (Int32.le_trans (by decide : (-128 : Int32) ≤ 0) (nI_pos' (by omega))))) (fun _ => ?_)
  refine zr_iload_n dJ18_valueOf_6 rfl rfl ?_
  refine zr_gets (v := .int 127) hG.1 (fun U h => h.2.2.2.1) q1702 (.inl rfl) dJ18_valueOf_7 ?_
  refine zr_icmp_gt (tgt := 23) dJ18_valueOf_10 (by decide) (fun h9 => absurd h9 (nI_nlt (a := 127) (by omega) (by omega))) (fun _ => ?_)
  refine zr_gets (v := .ref (zc G 2)) hG.1 (fun U h => h.2.2.1) q1704 (.inl rfl) dJ18_valueOf_13 ?_
  refine zr_iload_n dJ18_valueOf_16 rfl rfl ?_
  refine zr_sipush (v := 128) dJ18_valueOf_17 (by decide) ?_
  refine zr_iadd dJ18_valueOf_20 ?_
  rw [show nI n + 128 = nI (n + 128) from nI_add n 128]
  refine zr_aaldN (v := .ref (zc G (100 + (n + 128)))) (Or.inr hG.2.2.2.1) (vp_in_nI (by omega) (by omega)) (by rw [nI_clamp (by omega)]; rfl) dJ18_valueOf_21 ?_
  exact zr_aret rfl (.inl ⟨_, rfl⟩) (.inr ⟨_, rfl⟩) dJ18_valueOf_22 (⟨rfl, rfl⟩)
/-- the box of a small int -/
def zbx (G : zG) (n : Int32) : Nat := zc G (100 + (n.toNatClampNeg + 128))
theorem zbx_nI (G : zG) {n : Nat} (hn : n < 128) : zbx G (nI n) = zc G (100 + (n + 128)) := by unfold zbx; rw [nI_clamp (by omega)]
theorem zbx_at {G : zG} (hG : zOk G) (σ : zT) {n : Nat} (hn : n < 128) : zAt G σ (zbx G (nI n)) (.inr (0, [.int (nI n)])) := by
  rw [zbx_nI G hn]
  have h := hG.ic σ (k := n + 128) (by omega)
  rw [show nI (n + 128) - 128 = nI n from by rw [show (128 : Int32) = nI 128 from rfl, pk_sub (by omega), Nat.add_sub_cancel]] at h
  exact h

