/-! ===== ArrayList.SubList and its iterator (rows printed by tools/p70.py) ===== -/
section zCalls3
variable {G : zG} {y : MethodName} {cc : ByteArray} {nL : Nat} {ret : Option FieldType} {hh : List (Nat × Nat × Nat × Nat)} {d pc : Nat} {ls : List (Nat × Value)} {st : List Value} {σ : zT}
/-- virtual, where the receiver's class overrides what the named class declares -/
theorem zs_A {x2 y2 : MethodName} {b2 : ByteArray} {L2 n idx ci N b : Nat} {r2 : Option FieldType} {As rest fs : List Value} {C owner : String} {T : u_T} (hd1 : 1 ≤ d) (hok : (owner ≠ "java/lang/invoke/MethodHandle" ∧ owner ≠ "java/lang/invoke/VarHandle" ∧ (parseMethodDescriptor x2.desc).map (fun d => d.parameters.length) = some n) ∧ L2 ≤ 45) (hz : Cond.declares ⟨owner, x2.name, x2.desc⟩ ∈ lw_tbl) (h1 : Cond.methodLink y.cls idx x2 ∈ lw_all) (h2 : Cond.sameMethod x2.cls owner x2.name x2.desc ∈ lw_all) (h3 : Cond.selects C x2 y2 ∈ lw_all) (h4 : Cond.instanceMethod y2 ∈ lw_all) (h5 : Cond.initialized y2.cls ∈ lw_all) (h6 : Cond.code y2 b2 L2 r2 ∈ lw_all)
    (hb : zAt G σ b (.inr (ci, fs))) (hc : zcl[ci]? = some (C, T, N)) (hn : As.length = n) (hst : st = As.reverse ++ .ref b :: rest) (hw : (rest.map fun v => v.category).sum ≤ 8) (hdg : decode cc pc = .ok (.invokevirtual idx, 3)) :
    zSite G y cc nL ret hh d pc ls (y2, b2, L2, r2, none) (.ref b :: As) rest st σ :=
  fun p l e R s m args below meth c H locs cells slots arr mc ms Qc XC M hR hl hM hf =>
    vx_runU (C := C) ⟨M.x, M.b, M.ml, M.own, M.ws⟩ hM (va_cwA n M.ws (lw_app (a := [.methodLink y.cls idx x2, .sameMethod x2.cls owner x2.name x2.desc, .selects C x2 y2, .instanceMethod y2, .initialized y2.cls]) (fun w hw => by
      simp only [List.mem_cons, List.not_mem_nil, or_false] at hw
      rcases hw with e | e | e | e | e <;> rw [e] <;> assumption) (lw_meth h6)) rfl rfl rfl (M.K.2.1 _ hz rfl) hok.1 (zrm_ok M hd1 hok.2)) (zPreV M hR As hb hc) rfl hn hl.1 hst (lv_room hw) hdg hf
end zCalls3
theorem nI_sub {a b : Nat} (h : a ≤ b) : nI b - nI a = nI (b - a) := by
  have e : nI (b - a) + nI a = nI b := by rw [nI_add]; congr 1; omega
  rw [← e, Int32.add_sub_cancel]
/-- the list s is the part of l from off, n long -/
def zSub (G : zG) (σ : zT) (s l off n : Nat) (mod : Int32) : Prop := sF σ s = some (.inr (22, [.int mod, .ref l, .null, .int (nI off), .int (nI n)]))
set_option maxHeartbeats 4000000 in
theorem c_J1_subListRangeCheck {G : zG} {σ : zT} {d : Nat} {a b n : Nat} (hab : a ≤ b) (hbn : b ≤ n) (hn : n ≤ 1000000) : zC G I_J1_subListRangeCheck d [.int (nI a), .int (nI b), .int (nI n)] σ (.inl none) σ := by
  refine zCall.exact (zCall_of (ls := [(0, .int (nI a)), (1, .int (nI b)), (2, .int (nI n))]) (by decide) (Nat.le_of_ble_eq_true rfl) rfl ?_)
  refine zr_iload_n dJ1_subListRangeCheck_0 rfl rfl ?_
  refine zr_if_ge (tgt := 31) dJ1_subListRangeCheck_1 (by decide) (fun _ => ?_) (fun h9 => absurd (nI_pos' (by omega)) h9)
  refine zr_iload_n dJ1_subListRangeCheck_31 rfl rfl ?_
  refine zr_iload_n dJ1_subListRangeCheck_32 rfl rfl ?_
  refine zr_icmp_le (tgt := 63) dJ1_subListRangeCheck_33 (by decide) (fun _ => ?_) (fun h9 => absurd (nI_le hbn (by omega)) h9)
  refine zr_iload_n dJ1_subListRangeCheck_63 rfl rfl ?_
  refine zr_iload_n dJ1_subListRangeCheck_64 rfl rfl ?_
  refine zr_icmp_le (tgt := 109) dJ1_subListRangeCheck_65 (by decide) (fun _ => ?_) (fun h9 => absurd (nI_le hab (by omega)) h9)
  exact zr_vret rfl dJ1_subListRangeCheck_109 (⟨rfl, rfl⟩)
set_option maxHeartbeats 4000000 in
theorem c_J1_init_28 {G : zG} {σ : zT} {d s : Nat} {v1 v2 v3 v4 : Value} (hd : 2 ≤ d) (h0 : sF σ s = some (.inr (22, [.int 0, v1, v2, v3, v4]))) : zC G I_J1_init d [.ref s] σ (.inl none) σ := by
  refine zCall.exact (zCall_of (ls := [(0, .ref s)]) (by decide) (Nat.le_of_ble_eq_true rfl) rfl ?_)
  refine zr_aload_n dJ1_init_0 rfl rfl ?_
  refine zr_callv (rest := []) (zs_I (As := []) (by omega) ok_J0_init q122 q123 q54 q124 rfl rfl rfl (Nat.le_of_ble_eq_true rfl) dJ1_init_1) (c_J0_init (by omega)) ?_
  refine zr_aload_n dJ1_init_4 rfl rfl ?_
  refine zr_iconst (v := 0) dJ1_init_5 (by decide) ?_
  refine zr_put (k := 0) (fs' := [.int 0, v1, v2, v3, v4]) zt_J28 h0 rfl (Nat.le_of_ble_eq_true rfl) q134 (.inl rfl) rfl rfl rfl (Nat.le_of_ble_eq_true rfl) rfl dJ1_init_6 ?_
  rw [sUp_self σ h0]
  exact zr_vret rfl dJ1_init_9 (⟨rfl, rfl⟩)
set_option maxHeartbeats 4000000 in
theorem c_J28_init {G : zG} {σ : zT} {d : Nat} {t l : Nat} {mod : Int32} {xs : List Nat} {s a b : Nat} (hd : 3 ≤ d) (hab : a ≤ b) (hb : b ≤ 1000000) (hL : zL G σ t l mod xs) (h0 : sF σ s = some (.inr (22, d0_J28))) : zC G I_J28_init d [.ref s, .ref l, .int (nI a), .int (nI b)] σ (.inl none) (sUp σ s (.inr (22, [.int mod, .ref l, .null, .int (nI a), .int (nI (b - a))]))) := by
  refine zCall.exact (zCall_of (ls := [(0, .ref s), (1, .ref l), (2, .int (nI a)), (3, .int (nI b))]) (by decide) (Nat.le_of_ble_eq_true rfl) rfl ?_)
  have hn : l ≠ s := hL.ne h0 (by decide)
  obtain ⟨arr, cap, f, h1, -⟩ := hL
  refine zr_aload_n dJ28_init_0 rfl rfl ?_
  refine zr_callv (rest := []) (zs_I (As := []) (by omega) ok_J1_init q1284 q120 q55 q121 rfl rfl rfl (Nat.le_of_ble_eq_true rfl) dJ28_init_1) (c_J1_init_28 (by omega) h0) ?_
  refine zr_aload_n dJ28_init_4 rfl rfl ?_
  refine zr_aload_n dJ28_init_5 rfl rfl ?_
  refine zr_putF rfl rfl (k := 1) (fs' := [.int 0, .ref l, .null, .int 0, .int 0]) zt_J28 h0 rfl (Nat.le_of_ble_eq_true rfl) q1285 (.inl rfl) rfl rfl rfl (Nat.le_of_ble_eq_true rfl) rfl dJ28_init_6 ?_
  refine zr_aload_n dJ28_init_9 rfl rfl ?_
  refine zr_null dJ28_init_10 ?_
  refine zr_putF rfl rfl (k := 2) (fs' := [.int 0, .ref l, .null, .int 0, .int 0]) zt_J28 (sF_upS _ _ _) rfl (Nat.le_of_ble_eq_true rfl) q1287 (.inl rfl) rfl rfl rfl (Nat.le_of_ble_eq_true rfl) rfl dJ28_init_11 ?_
  rw [sUp_sUp]
  refine zr_aload_n dJ28_init_14 rfl rfl ?_
  refine zr_iload_n dJ28_init_15 rfl rfl ?_
  refine zr_putF rfl rfl (k := 3) (fs' := [.int 0, .ref l, .null, .int (nI a), .int 0]) zt_J28 (sF_upS _ _ _) rfl (Nat.le_of_ble_eq_true rfl) q1288 (.inl rfl) rfl rfl rfl (Nat.le_of_ble_eq_true rfl) rfl dJ28_init_16 ?_
  rw [sUp_sUp]
  refine zr_aload_n dJ28_init_19 rfl rfl ?_
  refine zr_iload_n dJ28_init_20 rfl rfl ?_
  refine zr_iload_n dJ28_init_21 rfl rfl ?_
  refine zr_isub dJ28_init_22 ?_
  refine zr_eqi (z := (nI (b - a))) (nI_sub hab) ?_
  refine zr_put (k := 4) (fs' := [.int 0, .ref l, .null, .int (nI a), .int (nI (b - a))]) zt_J28 (sF_upS _ _ _) rfl (Nat.le_of_ble_eq_true rfl) q1290 (.inl rfl) rfl rfl rfl (Nat.le_of_ble_eq_true rfl) rfl dJ28_init_23 ?_
  rw [sUp_sUp]
  refine zr_aload_n dJ28_init_26 rfl rfl ?_
  refine zr_aload_n dJ28_init_27 rfl rfl ?_
  refine zr_get (k := 0) (v := .int mod) in_J2 (.new (by rw [sF_upN _ _ _ hn]; exact h1)) rfl (Nat.le_of_ble_eq_true rfl) q138 (.inr q136) rfl dJ28_init_28 ?_
  refine zr_put (k := 0) (fs' := [.int mod, .ref l, .null, .int (nI a), .int (nI (b - a))]) zt_J28 (sF_upS _ _ _) rfl (Nat.le_of_ble_eq_true rfl) q139 (.inr q140) rfl rfl rfl (Nat.le_of_ble_eq_true rfl) rfl dJ28_init_31 ?_
  rw [sUp_sUp]
  exact zr_vret rfl dJ28_init_34 (⟨rfl, rfl⟩)
set_option maxHeartbeats 4000000 in
theorem c_J2_subList {G : zG} {σ : zT} {d : Nat} {t l : Nat} {mod : Int32} {xs : List Nat} {a b : Nat} (hd : 4 ≤ d) (hw : zWf σ) (hab : a ≤ b) (hb : b ≤ xs.length) (hL : zL G σ t l mod xs) : zC G I_J2_subList d [.ref l, .int (nI a), .int (nI b)] σ (.inl (some (.ref (sZ σ)))) (sNew σ 0 (.inr (22, [.int mod, .ref l, .null, .int (nI a), .int (nI (b - a))])) 5) := by
  refine zCall.exact (zCall_of (ls := [(0, .ref l), (1, .int (nI a)), (2, .int (nI b))]) (by decide) (Nat.le_of_ble_eq_true rfl) rfl ?_)
  have hL0 := hL
  obtain ⟨arr, cap, f, h1, hlt, hc, hc2, hf, ha⟩ := hL
  refine zr_iload_n dJ2_subList_0 rfl rfl ?_
  refine zr_iload_n dJ2_subList_1 rfl rfl ?_
  refine zr_aload_n dJ2_subList_2 rfl rfl ?_
  refine zr_get (k := 2) (v := .int (nI xs.length)) in_J2 (.new h1) rfl (Nat.le_of_ble_eq_true rfl) q133 (.inl rfl) rfl dJ2_subList_3 ?_
  refine zr_callv (rest := []) (zs_SU (As := [.int (nI a), .int (nI b), .int (nI xs.length)]) (by omega) ok_J1_subListRangeCheck q1262 q1263 rfl q1264 q55 q1265 rfl rfl (Nat.le_of_ble_eq_true rfl) dJ2_subList_6) (c_J1_subListRangeCheck hab hb (by omega)) ?_
  refine zr_new (ci := 22) (0) zt_J28 q1280 q176 q90 rfl df_J28 dJ2_subList_9 ?_
  refine zr_dup dJ2_subList_12 rfl ?_
  refine zr_aload_n dJ2_subList_13 rfl rfl ?_
  refine zr_iload_n dJ2_subList_14 rfl rfl ?_
  refine zr_iload_n dJ2_subList_15 rfl rfl ?_
  refine zr_callv (rest := [.ref (sZ σ)]) (zs_I (As := [.ref l, .int (nI a), .int (nI b)]) (by omega) ok_J28_init q1281 q1282 q90 q1283 rfl rfl rfl (Nat.le_of_ble_eq_true rfl) dJ2_subList_16) (c_J28_init (by omega) hab (by omega) (hL0.new hw _ _ _) (sF_newS _ _ _ _)) ?_
  rw [sNew_up]
  exact zr_aret rfl (.inl ⟨_, rfl⟩) (.inr ⟨_, rfl⟩) dJ2_subList_19 (⟨rfl, rfl⟩)
set_option maxHeartbeats 4000000 in
theorem c_J28_checkForComodification {G : zG} {σ : zT} {d : Nat} {t l : Nat} {mod : Int32} {xs : List Nat} {s off n : Nat} (hL : zL G σ t l mod xs) (hs : zSub G σ s l off n mod) (hn : off + n ≤ xs.length)  : zC G I_J28_checkForComodification d [.ref s] σ (.inl none) σ := by
  refine zCall.exact (zCall_of (ls := [(0, .ref s)]) (by decide) (Nat.le_of_ble_eq_true rfl) rfl ?_)
  obtain ⟨arr, cap, f, h1, hlt, hc, hc2, hf, ha⟩ := hL
  refine zr_aload_n dJ28_checkForComodification_0 rfl rfl ?_
  refine zr_get (k := 1) (v := .ref l) in_J28 (.new hs) rfl (Nat.le_of_ble_eq_true rfl) q1285 (.inl rfl) rfl dJ28_checkForComodification_1 ?_
  refine zr_get (k := 0) (v := .int mod) in_J2 (.new h1) rfl (Nat.le_of_ble_eq_true rfl) q138 (.inr q136) rfl dJ28_checkForComodification_4 ?_
  refine zr_aload_n dJ28_checkForComodification_7 rfl rfl ?_
  refine zr_get (k := 0) (v := .int mod) in_J28 (.new hs) rfl (Nat.le_of_ble_eq_true rfl) q139 (.inr q140) rfl dJ28_checkForComodification_8 ?_
  refine zr_icmp_eq (tgt := 22) dJ28_checkForComodification_11 (by decide) (fun _ => ?_) (fun h9 => absurd (rfl) h9)
  exact zr_vret rfl dJ28_checkForComodification_22 (⟨rfl, rfl⟩)
set_option maxHeartbeats 4000000 in
theorem c_J28_size {G : zG} {σ : zT} {d : Nat} {t l : Nat} {mod : Int32} {xs : List Nat} {s off n : Nat} (hL : zL G σ t l mod xs) (hs : zSub G σ s l off n mod) (hn : off + n ≤ xs.length) (hd : 1 ≤ d) : zC G I_J28_size d [.ref s] σ (.inl (some (.int (nI n)))) σ := by
  refine zCall.exact (zCall_of (ls := [(0, .ref s)]) (by decide) (Nat.le_of_ble_eq_true rfl) rfl ?_)
  have hL0 := hL
  obtain ⟨arr, cap, f, h1, hlt, hc, hc2, hf, ha⟩ := hL
  refine zr_aload_n dJ28_size_0 rfl rfl ?_
  refine zr_callv (rest := []) (zs_V (As := []) (by omega) ok_J28_checkForComodification q173 q175 qs0 q90 q177 rfl (.new hs) rfl rfl rfl (Nat.le_of_ble_eq_true rfl) dJ28_size_1) (c_J28_checkForComodification hL0 hs hn) ?_
  refine zr_aload_n dJ28_size_4 rfl rfl ?_
  refine zr_get (k := 4) (v := .int (nI n)) in_J28 (.new hs) rfl (Nat.le_of_ble_eq_true rfl) q1290 (.inl rfl) rfl dJ28_size_5 ?_
  exact zr_iret rfl rfl dJ28_size_8 (⟨rfl, rfl⟩)
set_option maxHeartbeats 4000000 in
theorem c_J28_get {G : zG} {σ : zT} {d : Nat} {t l : Nat} {mod : Int32} {xs : List Nat} {s off n : Nat} (hL : zL G σ t l mod xs) (hs : zSub G σ s l off n mod) (hn : off + n ≤ xs.length) {i x : Nat} (hd : 3 ≤ d) (hG : zOk G) (hi : i < n) (hx : xs[off + i]? = some x) : zC G I_J28_get d [.ref s, .int (nI i)] σ (.inl (some (.ref x))) σ := by
  refine zCall.exact (zCall_of (ls := [(0, .ref s), (1, .int (nI i))]) (by decide) (Nat.le_of_ble_eq_true rfl) rfl ?_)
  have hL0 := hL
  obtain ⟨arr, cap, f, h1, hlt, hc, hc2, hf, ha⟩ := hL
  refine zr_iload_n dJ28_get_0 rfl rfl ?_
  refine zr_aload_n dJ28_get_1 rfl rfl ?_
  refine zr_get (k := 4) (v := .int (nI n)) in_J28 (.new hs) rfl (Nat.le_of_ble_eq_true rfl) q1290 (.inl rfl) rfl dJ28_get_2 ?_
  refine zr_call1 (rest := []) (zs_S (As := [.int (nI i), .int (nI n)]) (by omega) ok_J21_checkIndex q974 q962 q80 q963 rfl rfl (Nat.le_of_ble_eq_true rfl) dJ28_get_5) (c_J21_checkIndex (by omega) hi (by omega)) ?_
  refine zr_pop dJ28_get_8 rfl ?_
  refine zr_aload_n dJ28_get_9 rfl rfl ?_
  refine zr_callv (rest := []) (zs_V (As := []) (by omega) ok_J28_checkForComodification q173 q175 qs0 q90 q177 rfl (.new hs) rfl rfl rfl (Nat.le_of_ble_eq_true rfl) dJ28_get_10) (c_J28_checkForComodification hL0 hs hn) ?_
  refine zr_aload_n dJ28_get_13 rfl rfl ?_
  refine zr_get (k := 1) (v := .ref l) in_J28 (.new hs) rfl (Nat.le_of_ble_eq_true rfl) q1285 (.inl rfl) rfl dJ28_get_14 ?_
  refine zr_aload_n dJ28_get_17 rfl rfl ?_
  refine zr_get (k := 3) (v := .int (nI off)) in_J28 (.new hs) rfl (Nat.le_of_ble_eq_true rfl) q1288 (.inl rfl) rfl dJ28_get_18 ?_
  refine zr_iload_n dJ28_get_21 rfl rfl ?_
  refine zr_iadd dJ28_get_22 ?_
  refine zr_eqi (z := (nI (off + i))) (nI_add off i) ?_
  refine zr_call1 (rest := []) (zs_V (As := [.int (nI (off + i))]) (by omega) ok_J2_elementData q975 q968 q969 q56 q970 rfl (.new h1) rfl rfl rfl (Nat.le_of_ble_eq_true rfl) dJ28_get_23) (c_J2_elementData (by omega) hG hL0 hx) ?_
  exact zr_aret rfl (.inl ⟨_, rfl⟩) (.inr ⟨_, rfl⟩) dJ28_get_26 (⟨rfl, rfl⟩)
set_option maxHeartbeats 4000000 in
theorem c_J28_rangeCheckForAdd {G : zG} {σ : zT} {d : Nat} {t l : Nat} {mod : Int32} {xs : List Nat} {s off n : Nat} (hL : zL G σ t l mod xs) (hs : zSub G σ s l off n mod) (hn : off + n ≤ xs.length)  : zC G I_J28_rangeCheckForAdd d [.ref s, .int 0] σ (.inl none) σ := by
  refine zCall.exact (zCall_of (ls := [(0, .ref s), (1, .int 0)]) (by decide) (Nat.le_of_ble_eq_true rfl) rfl ?_)
  obtain ⟨arr, cap, f, h1, hlt, hc, hc2, hf, ha⟩ := hL
  refine zr_iload_n dJ28_rangeCheckForAdd_0 rfl rfl ?_
  refine zr_if_lt (tgt := 12) dJ28_rangeCheckForAdd_1 (by decide) (fun h9 => absurd h9 (by decide)) (fun _ => ?_)
  refine zr_iload_n dJ28_rangeCheckForAdd_4 rfl rfl ?_
  refine zr_aload_n dJ28_rangeCheckForAdd_5 rfl rfl ?_
  refine zr_get (k := 4) (v := .int (nI n)) in_J28 (.new hs) rfl (Nat.le_of_ble_eq_true rfl) q1290 (.inl rfl) rfl dJ28_rangeCheckForAdd_6 ?_
  refine zr_icmp_le (tgt := 25) dJ28_rangeCheckForAdd_9 (by decide) (fun _ => ?_) (fun h9 => absurd (nI_pos' (by omega)) h9)
  exact zr_vret rfl dJ28_rangeCheckForAdd_25 (⟨rfl, rfl⟩)
set_option maxHeartbeats 4000000 in
theorem c_J26_init {G : zG} {σ : zT} {d : Nat} {t l : Nat} {mod : Int32} {xs : List Nat} {s off n : Nat} (hL : zL G σ t l mod xs) (hs : zSub G σ s l off n mod) (hn : off + n ≤ xs.length) {i : Nat} (hd : 2 ≤ d) (h0 : sF σ i = some (.inr (23, d0_J26))) : zC G I_J26_init d [.ref i, .ref s, .int 0] σ (.inl none) (sUp σ i (.inr (23, [.int 0, .int (-1), .int mod, .int 0, .ref s]))) := by
  refine zCall.exact (zCall_of (ls := [(0, .ref i), (1, .ref s), (2, .int 0)]) (by decide) (Nat.le_of_ble_eq_true rfl) rfl ?_)
  have hne : s ≠ i := sF_ne hs h0 (zE_ne (by decide))
  refine zr_aload_n dJ26_init_0 rfl rfl ?_
  refine zr_aload_n dJ26_init_1 rfl rfl ?_
  refine zr_putF rfl rfl (k := 4) (fs' := [.int 0, .int 0, .int 0, .int 0, .ref s]) zt_J26 h0 rfl (Nat.le_of_ble_eq_true rfl) q902 (.inl rfl) rfl rfl rfl (Nat.le_of_ble_eq_true rfl) rfl dJ26_init_2 ?_
  refine zr_aload_n dJ26_init_5 rfl rfl ?_
  refine zr_iload_n dJ26_init_6 rfl rfl ?_
  refine zr_putF rfl rfl (k := 3) (fs' := [.int 0, .int 0, .int 0, .int 0, .ref s]) zt_J26 (sF_upS _ _ _) rfl (Nat.le_of_ble_eq_true rfl) q901 (.inl rfl) rfl rfl rfl (Nat.le_of_ble_eq_true rfl) rfl dJ26_init_7 ?_
  rw [sUp_sUp]
  refine zr_aload_n dJ26_init_10 rfl rfl ?_
  refine zr_objInit (by omega) q897 q112 q113 (Nat.le_of_ble_eq_true rfl) dJ26_init_11 ?_
  refine zr_aload_n dJ26_init_14 rfl rfl ?_
  refine zr_aload_n dJ26_init_15 rfl rfl ?_
  refine zr_get (k := 3) (v := .int 0) in_J26 (.new (sF_upS _ _ _)) rfl (Nat.le_of_ble_eq_true rfl) q901 (.inl rfl) rfl dJ26_init_16 ?_
  refine zr_put (k := 0) (fs' := [.int 0, .int 0, .int 0, .int 0, .ref s]) zt_J26 (sF_upS _ _ _) rfl (Nat.le_of_ble_eq_true rfl) q898 (.inl rfl) rfl rfl rfl (Nat.le_of_ble_eq_true rfl) rfl dJ26_init_19 ?_
  rw [sUp_sUp]
  refine zr_aload_n dJ26_init_22 rfl rfl ?_
  refine zr_iconst (v := (-1)) dJ26_init_23 (by decide) ?_
  refine zr_put (k := 1) (fs' := [.int 0, .int (-1), .int 0, .int 0, .ref s]) zt_J26 (sF_upS _ _ _) rfl (Nat.le_of_ble_eq_true rfl) q899 (.inl rfl) rfl rfl rfl (Nat.le_of_ble_eq_true rfl) rfl dJ26_init_24 ?_
  rw [sUp_sUp]
  refine zr_aload_n dJ26_init_27 rfl rfl ?_
  refine zr_aload_n dJ26_init_28 rfl rfl ?_
  refine zr_get (k := 4) (v := .ref s) in_J26 (.new (sF_upS _ _ _)) rfl (Nat.le_of_ble_eq_true rfl) q902 (.inl rfl) rfl dJ26_init_29 ?_
  refine zr_get (k := 0) (v := .int mod) in_J28 (.new (by rw [sF_upN _ _ _ hne]; exact hs)) rfl (Nat.le_of_ble_eq_true rfl) q141 (.inr q140) rfl dJ26_init_32 ?_
  refine zr_put (k := 2) (fs' := [.int 0, .int (-1), .int mod, .int 0, .ref s]) zt_J26 (sF_upS _ _ _) rfl (Nat.le_of_ble_eq_true rfl) q900 (.inl rfl) rfl rfl rfl (Nat.le_of_ble_eq_true rfl) rfl dJ26_init_35 ?_
  rw [sUp_sUp]
  exact zr_vret rfl dJ26_init_38 (⟨rfl, rfl⟩)
set_option maxHeartbeats 4000000 in
theorem c_J28_listIterator {G : zG} {σ : zT} {d : Nat} {t l : Nat} {mod : Int32} {xs : List Nat} {s off n : Nat} (hL : zL G σ t l mod xs) (hs : zSub G σ s l off n mod) (hn : off + n ≤ xs.length) (hd : 3 ≤ d) (hw : zWf σ) : zC G I_J28_listIterator d [.ref s, .int 0] σ (.inl (some (.ref (sZ σ)))) (sNew σ 0 (.inr (23, [.int 0, .int (-1), .int mod, .int 0, .ref s])) 5) := by
  refine zCall.exact (zCall_of (ls := [(0, .ref s), (1, .int 0)]) (by decide) (Nat.le_of_ble_eq_true rfl) rfl ?_)
  refine zr_aload_n dJ28_listIterator_0 rfl rfl ?_
  refine zr_callv (rest := []) (zs_V (As := []) (by omega) ok_J28_checkForComodification q173 q175 qs0 q90 q177 rfl (.new hs) rfl rfl rfl (Nat.le_of_ble_eq_true rfl) dJ28_listIterator_1) (c_J28_checkForComodification hL hs hn) ?_
  refine zr_aload_n dJ28_listIterator_4 rfl rfl ?_
  refine zr_iload_n dJ28_listIterator_5 rfl rfl ?_
  refine zr_callv (rest := []) (zs_V (As := [.int 0]) (by omega) ok_J28_rangeCheckForAdd q783 q785 qs7 q90 q786 rfl (.new hs) rfl rfl rfl (Nat.le_of_ble_eq_true rfl) dJ28_listIterator_6) (c_J28_rangeCheckForAdd hL hs hn) ?_
  refine zr_new (ci := 23) (0) zt_J26 q892 q893 q88 rfl df_J26 dJ28_listIterator_9 ?_
  refine zr_dup dJ28_listIterator_12 rfl ?_
  refine zr_aload_n dJ28_listIterator_13 rfl rfl ?_
  refine zr_iload_n dJ28_listIterator_14 rfl rfl ?_
  have hs2 : zSub G (sNew σ 0 (.inr (23, d0_J26)) 5) s l off n mod := (sF_newN σ _ _ _ (Nat.ne_of_lt (hw s _ hs))).trans hs
  refine zr_callv (rest := [.ref (sZ σ)]) (zs_I (As := [.ref s, .int 0]) (by omega) ok_J26_init q894 q895 q88 q896 rfl rfl rfl (Nat.le_of_ble_eq_true rfl) dJ28_listIterator_15) (c_J26_init (hL.new hw _ _ _) hs2 hn (by omega) (sF_newS _ _ _ _)) ?_
  rw [sNew_up]
  exact zr_aret rfl (.inl ⟨_, rfl⟩) (.inr ⟨_, rfl⟩) dJ28_listIterator_18 (⟨rfl, rfl⟩)
set_option maxHeartbeats 4000000 in
theorem c_J1_listIterator {G : zG} {σ : zT} {d : Nat} {t l : Nat} {mod : Int32} {xs : List Nat} {s off n : Nat} (hL : zL G σ t l mod xs) (hs : zSub G σ s l off n mod) (hn : off + n ≤ xs.length) (hd : 4 ≤ d) (hw : zWf σ) : zC G I_J1_listIterator d [.ref s] σ (.inl (some (.ref (sZ σ)))) (sNew σ 0 (.inr (23, [.int 0, .int (-1), .int mod, .int 0, .ref s])) 5) := by
  refine zCall.exact (zCall_of (ls := [(0, .ref s)]) (by decide) (Nat.le_of_ble_eq_true rfl) rfl ?_)
  refine zr_aload_n dJ1_listIterator_0 rfl rfl ?_
  refine zr_iconst (v := 0) dJ1_listIterator_1 (by decide) ?_
  refine zr_call1 (rest := []) (zs_A (As := [.int 0]) (C := "java/util/ArrayList$SubList") (owner := "java/util/AbstractList") (by omega) ⟨⟨by decide, by decide, by decide +kernel⟩, by decide⟩ q914 q869 q871 q889 q890 q90 q891 (.new hs) rfl rfl rfl (Nat.le_of_ble_eq_true rfl) dJ1_listIterator_2) (c_J28_listIterator hL hs hn (by omega) hw) ?_
  exact zr_aret rfl (.inl ⟨_, rfl⟩) (.inr ⟨_, rfl⟩) dJ1_listIterator_5 (⟨rfl, rfl⟩)
set_option maxHeartbeats 4000000 in
theorem c_J28_iterator {G : zG} {σ : zT} {d : Nat} {t l : Nat} {mod : Int32} {xs : List Nat} {s off n : Nat} (hL : zL G σ t l mod xs) (hs : zSub G σ s l off n mod) (hn : off + n ≤ xs.length) (hd : 5 ≤ d) (hw : zWf σ) : zC G I_J28_iterator d [.ref s] σ (.inl (some (.ref (sZ σ)))) (sNew σ 0 (.inr (23, [.int 0, .int (-1), .int mod, .int 0, .ref s])) 5) := by
  refine zCall.exact (zCall_of (ls := [(0, .ref s)]) (by decide) (Nat.le_of_ble_eq_true rfl) rfl ?_)
  refine zr_aload_n dJ28_iterator_0 rfl rfl ?_
  refine zr_call1 (rest := []) (zs_U (As := []) (C := "java/util/ArrayList$SubList") (owner := "java/util/AbstractList") (by omega) ⟨⟨by decide, by decide, by decide +kernel⟩, by decide⟩ rfl q863 q864 q866 q867 q55 q868 (.new hs) rfl rfl rfl (Nat.le_of_ble_eq_true rfl) dJ28_iterator_1) (c_J1_listIterator hL hs hn (by omega) hw) ?_
  exact zr_aret rfl (.inl ⟨_, rfl⟩) (.inr ⟨_, rfl⟩) dJ28_iterator_4 (⟨rfl, rfl⟩)
set_option maxHeartbeats 4000000 in
theorem c_sNext0 {G : zG} {σ : zT} {d : Nat} {t l : Nat} {mod : Int32} {xs : List Nat} {s off n : Nat} (hL : zL G σ t l mod xs) (hs : zSub G σ s l off n mod) (hn : off + n ≤ xs.length) {i k : Nat} {lr : Int32} (hi : sF σ i = some (.inr (23, [.int (nI k), .int lr, .int mod, .int 0, .ref s]))) (hk : k = n) : zC G I_J26_hasNext d [.ref i] σ (.inl (some (.int 0))) σ := by
  refine zCall.exact (zCall_of (ls := [(0, .ref i)]) (by decide) (Nat.le_of_ble_eq_true rfl) rfl ?_)
  obtain ⟨arr, cap, f, h1, hlt, hc, hc2, hf, ha⟩ := hL
  refine zr_aload_n dJ26_hasNext_0 rfl rfl ?_
  refine zr_get (k := 0) (v := .int (nI k)) in_J26 (.new hi) rfl (Nat.le_of_ble_eq_true rfl) q898 (.inl rfl) rfl dJ26_hasNext_1 ?_
  refine zr_aload_n dJ26_hasNext_4 rfl rfl ?_
  refine zr_get (k := 4) (v := .ref s) in_J26 (.new hi) rfl (Nat.le_of_ble_eq_true rfl) q902 (.inl rfl) rfl dJ26_hasNext_5 ?_
  refine zr_getN (k := 4) (v := .int (nI n)) in_J28 (.new hs) rfl (Nat.le_of_ble_eq_true rfl) q1291 (.inl rfl) rfl dJ26_hasNext_8 ?_
  refine zr_icmp_eq (tgt := 18) dJ26_hasNext_11 (by decide) (fun _ => ?_) (fun h9 => absurd (by rw [hk]) h9)
  refine zr_iconst (v := 0) dJ26_hasNext_18 (by decide) ?_
  exact zr_iret rfl rfl dJ26_hasNext_19 (⟨rfl, rfl⟩)
set_option maxHeartbeats 4000000 in
theorem c_sNext1 {G : zG} {σ : zT} {d : Nat} {t l : Nat} {mod : Int32} {xs : List Nat} {s off n : Nat} (hL : zL G σ t l mod xs) (hs : zSub G σ s l off n mod) (hn : off + n ≤ xs.length) {i k : Nat} {lr : Int32} (hi : sF σ i = some (.inr (23, [.int (nI k), .int lr, .int mod, .int 0, .ref s]))) (hk : k < n) : zC G I_J26_hasNext d [.ref i] σ (.inl (some (.int 1))) σ := by
  refine zCall.exact (zCall_of (ls := [(0, .ref i)]) (by decide) (Nat.le_of_ble_eq_true rfl) rfl ?_)
  obtain ⟨arr, cap, f, h1, hlt, hc, hc2, hf, ha⟩ := hL
  refine zr_aload_n dJ26_hasNext_0 rfl rfl ?_
  refine zr_get (k := 0) (v := .int (nI k)) in_J26 (.new hi) rfl (Nat.le_of_ble_eq_true rfl) q898 (.inl rfl) rfl dJ26_hasNext_1 ?_
  refine zr_aload_n dJ26_hasNext_4 rfl rfl ?_
  refine zr_get (k := 4) (v := .ref s) in_J26 (.new hi) rfl (Nat.le_of_ble_eq_true rfl) q902 (.inl rfl) rfl dJ26_hasNext_5 ?_
  refine zr_getN (k := 4) (v := .int (nI n)) in_J28 (.new hs) rfl (Nat.le_of_ble_eq_true rfl) q1291 (.inl rfl) rfl dJ26_hasNext_8 ?_
  refine zr_icmp_eq (tgt := 18) dJ26_hasNext_11 (by decide) (fun h9 => absurd h9 (by rw [nI_eq (by omega) (by omega)]; omega)) (fun _ => ?_)
  refine zr_iconst (v := 1) dJ26_hasNext_14 (by decide) ?_
  refine zr_goto (tgt := 19) dJ26_hasNext_15 (by decide) ?_
  exact zr_iret rfl rfl dJ26_hasNext_19 (⟨rfl, rfl⟩)
set_option maxHeartbeats 4000000 in
theorem c_J26_checkForComodification {G : zG} {σ : zT} {d : Nat} {t l : Nat} {mod : Int32} {xs : List Nat} {s off n : Nat} (hL : zL G σ t l mod xs) (hs : zSub G σ s l off n mod) (hn : off + n ≤ xs.length) {i k : Nat} {lr : Int32} (hi : sF σ i = some (.inr (23, [.int (nI k), .int lr, .int mod, .int 0, .ref s])))  : zC G I_J26_checkForComodification d [.ref i] σ (.inl none) σ := by
  refine zCall.exact (zCall_of (ls := [(0, .ref i)]) (by decide) (Nat.le_of_ble_eq_true rfl) rfl ?_)
  obtain ⟨arr, cap, f, h1, hlt, hc, hc2, hf, ha⟩ := hL
  refine zr_aload_n dJ26_checkForComodification_0 rfl rfl ?_
  refine zr_get (k := 4) (v := .ref s) in_J26 (.new hi) rfl (Nat.le_of_ble_eq_true rfl) q902 (.inl rfl) rfl dJ26_checkForComodification_1 ?_
  refine zr_getN (k := 1) (v := .ref l) in_J28 (.new hs) rfl (Nat.le_of_ble_eq_true rfl) q1286 (.inl rfl) rfl dJ26_checkForComodification_4 ?_
  refine zr_get (k := 0) (v := .int mod) in_J2 (.new h1) rfl (Nat.le_of_ble_eq_true rfl) q142 (.inr q136) rfl dJ26_checkForComodification_7 ?_
  refine zr_aload_n dJ26_checkForComodification_10 rfl rfl ?_
  refine zr_get (k := 2) (v := .int mod) in_J26 (.new hi) rfl (Nat.le_of_ble_eq_true rfl) q900 (.inl rfl) rfl dJ26_checkForComodification_11 ?_
  refine zr_icmp_eq (tgt := 25) dJ26_checkForComodification_14 (by decide) (fun _ => ?_) (fun h9 => absurd (rfl) h9)
  exact zr_vret rfl dJ26_checkForComodification_25 (⟨rfl, rfl⟩)
set_option maxHeartbeats 4000000 in
theorem c_J26_next {G : zG} {σ : zT} {d : Nat} {t l : Nat} {mod : Int32} {xs : List Nat} {s off n : Nat} (hL : zL G σ t l mod xs) (hs : zSub G σ s l off n mod) (hn : off + n ≤ xs.length) {i k : Nat} {lr : Int32} (hi : sF σ i = some (.inr (23, [.int (nI k), .int lr, .int mod, .int 0, .ref s]))) {x : Nat} (hd : 2 ≤ d) (hG : zOk G) (hk : k < n) (hx : xs[off + k]? = some x) : zC G I_J26_next d [.ref i] σ (.inl (some (.ref x))) (sUp σ i (.inr (23, [.int (nI (k + 1)), .int (nI k), .int mod, .int 0, .ref s]))) := by
  refine zCall.exact (zCall_of (ls := [(0, .ref i)]) (by decide) (Nat.le_of_ble_eq_true rfl) rfl ?_)
  have hL0 := hL
  have hne : s ≠ i := sF_ne hs hi (zE_ne (by decide))
  have hnl : l ≠ i := hL.ne hi (by decide)
  obtain ⟨arr, cap, f, h1, hlt, hc, hc2, hf, ha⟩ := hL
  have har := zL.arr hG ha
  have hna : arr ≠ i := by
    rintro rfl
    rcases ha with ⟨h9, -, -⟩ | ⟨-, ha, -⟩
    · omega
    · rw [hi] at ha; cases ha
  refine zr_aload_n dJ26_next_0 rfl rfl ?_
  refine zr_callv (rest := []) (zs_V (As := []) (by omega) ok_J26_checkForComodification q1073 q1074 q1075 q88 q1076 rfl (.new hi) rfl rfl rfl (Nat.le_of_ble_eq_true rfl) dJ26_next_1) (c_J26_checkForComodification hL0 hs hn hi) ?_
  refine zr_aload_n dJ26_next_4 rfl rfl ?_
  refine zr_get (k := 0) (v := .int (nI k)) in_J26 (.new hi) rfl (Nat.le_of_ble_eq_true rfl) q898 (.inl rfl) rfl dJ26_next_5 ?_
  refine zr_istore_n (ls2 := [(0, .ref i), (1, .int (nI k))]) dJ26_next_8 rfl (Nat.le_of_ble_eq_true rfl) rfl ?_
  refine zr_iload_n dJ26_next_9 rfl rfl ?_
  refine zr_aload_n dJ26_next_10 rfl rfl ?_
  refine zr_get (k := 4) (v := .ref s) in_J26 (.new hi) rfl (Nat.le_of_ble_eq_true rfl) q902 (.inl rfl) rfl dJ26_next_11 ?_
  refine zr_getN (k := 4) (v := .int (nI n)) in_J28 (.new hs) rfl (Nat.le_of_ble_eq_true rfl) q1291 (.inl rfl) rfl dJ26_next_14 ?_
  refine zr_icmp_lt (tgt := 28) dJ26_next_17 (by decide) (fun _ => ?_) (fun h9 => absurd (nI_lt hk (by omega)) h9)
  refine zr_aload_n dJ26_next_28 rfl rfl ?_
  refine zr_get (k := 4) (v := .ref s) in_J26 (.new hi) rfl (Nat.le_of_ble_eq_true rfl) q902 (.inl rfl) rfl dJ26_next_29 ?_
  refine zr_getN (k := 1) (v := .ref l) in_J28 (.new hs) rfl (Nat.le_of_ble_eq_true rfl) q1286 (.inl rfl) rfl dJ26_next_32 ?_
  refine zr_get (k := 1) (v := .ref arr) in_J2 (.new h1) rfl (Nat.le_of_ble_eq_true rfl) q130 (.inl rfl) rfl dJ26_next_35 ?_
  refine zr_astore_n (ls2 := [(0, .ref i), (1, .int (nI k)), (2, .ref arr)]) dJ26_next_38 rfl (Nat.le_of_ble_eq_true rfl) rfl ?_
  refine zr_aload_n dJ26_next_39 rfl rfl ?_
  refine zr_get (k := 4) (v := .ref s) in_J26 (.new hi) rfl (Nat.le_of_ble_eq_true rfl) q902 (.inl rfl) rfl dJ26_next_40 ?_
  refine zr_getN (k := 3) (v := .int (nI off)) in_J28 (.new hs) rfl (Nat.le_of_ble_eq_true rfl) q1289 (.inl rfl) rfl dJ26_next_43 ?_
  refine zr_iload_n dJ26_next_46 rfl rfl ?_
  refine zr_iadd dJ26_next_47 ?_
  refine zr_aload_n dJ26_next_48 rfl rfl ?_
  refine zr_alenO (v := nI cap) har rfl dJ26_next_49 ?_
  refine zr_icmp_lt (tgt := 61) dJ26_next_50 (by decide) (fun _ => ?_) (fun h9 => absurd (by rw [nI_add]; exact nI_lt (by omega) (by omega)) h9)
  refine zr_aload_n dJ26_next_61 rfl rfl ?_
  refine zr_iload_n dJ26_next_62 rfl rfl ?_
  refine zr_iconst (v := 1) dJ26_next_63 (by decide) ?_
  refine zr_iadd dJ26_next_64 ?_
  rw [show nI k + 1 = nI (k + 1) from nI_1 k]
  refine zr_put (k := 0) (fs' := [.int (nI (k + 1)), .int lr, .int mod, .int 0, .ref s]) zt_J26 hi rfl (Nat.le_of_ble_eq_true rfl) q898 (.inl rfl) rfl rfl rfl (Nat.le_of_ble_eq_true rfl) rfl dJ26_next_65 ?_
  refine zr_aload_n dJ26_next_68 rfl rfl ?_
  refine zr_aload_n dJ26_next_69 rfl rfl ?_
  refine zr_get (k := 4) (v := .ref s) in_J26 (.new (sF_upS _ _ _)) rfl (Nat.le_of_ble_eq_true rfl) q902 (.inl rfl) rfl dJ26_next_70 ?_
  refine zr_getN (k := 3) (v := .int (nI off)) in_J28 (.new (by rw [sF_upN _ _ _ hne]; exact hs)) rfl (Nat.le_of_ble_eq_true rfl) q1289 (.inl rfl) rfl dJ26_next_73 ?_
  refine zr_aload_n dJ26_next_76 rfl rfl ?_
  refine zr_iload_n dJ26_next_77 rfl rfl ?_
  refine zr_dup_x1 dJ26_next_78 rfl rfl ?_
  refine zr_put (k := 1) (fs' := [.int (nI (k + 1)), .int (nI k), .int mod, .int 0, .ref s]) zt_J26 (sF_upS _ _ _) rfl (Nat.le_of_ble_eq_true rfl) q899 (.inl rfl) rfl rfl rfl (Nat.le_of_ble_eq_true rfl) rfl dJ26_next_79 ?_
  rw [sUp_sUp]
  refine zr_iadd dJ26_next_82 ?_
  refine zr_aald (v := .ref x) (zAt.upN har hna _) (by rw [nI_add]; exact vp_in_nI (by omega) (by omega)) (by rw [nI_add, nI_clamp (by omega), hf (off + k) (by omega), hx]; rfl) dJ26_next_83 ?_
  exact zr_aret rfl (.inl ⟨_, rfl⟩) (.inr ⟨_, rfl⟩) dJ26_next_84 (⟨rfl, rfl⟩)
