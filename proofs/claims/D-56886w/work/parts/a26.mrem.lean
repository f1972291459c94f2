/-! ===== Object.equals; ArrayList.remove(Object), new ArrayList(c) (rows printed by tools/p126.py) ===== -/
abbrev oeY : MethodName := ⟨"java/lang/Object", "equals", "(Ljava/lang/Object;)Z"⟩
abbrev I_oe : zI := (oeY, object_method_4_code, 2, (Option.some Jvm.ClassFile.FieldType.boolean), none)
theorem ok_oe : zdd oeY 2 1 := by unfold zdd; decide +kernel
theorem oe0 : decode object_method_4_code 0 = .ok (.aload_n 0, 1) := by decide +kernel
theorem oe1 : decode object_method_4_code 1 = .ok (.aload_n 1, 1) := by decide +kernel
theorem oe2 : decode object_method_4_code 2 = .ok (.if_acmp .ne 7, 3) := by decide +kernel
theorem oe5 : decode object_method_4_code 5 = .ok (.iconst 1, 1) := by decide +kernel
theorem oe6 : decode object_method_4_code 6 = .ok (.goto 4, 3) := by decide +kernel
theorem oe9 : decode object_method_4_code 9 = .ok (.iconst 0, 1) := by decide +kernel
theorem oe10 : decode object_method_4_code 10 = .ok (.ireturn, 1) := by decide +kernel
section zOe
variable {l : Launch}
/-- as vx_ofW, of a class that has natives, where this method has none -/
theorem vx_ofWF {y : MethodName} {ws ws' : List Cond} {rm : Room} {Pc : Array Value → State → Prop} {Qc : Array Value → State → Outcome → State → Prop} {XC : Addr → String → State → State → Prop} {mc ms : Nat} {free : Addr → Prop} {cc : ByteArray} {maxL : Nat} {ret : Option FieldType}
    (hy : plainFor y = true) (hw : ws = Cond.code y cc maxL ret :: ws')
    (body : ∀ p e s m args below meth c s₁, BodyLoose p l y (headSpec ws rm) cc maxL ret e s m args below meth c s₁ → c.maxLocals = maxL → (∀ x ∈ c.exceptionTable.toList, False) → Pc args s →
      W p l e (headSpec ws rm).room s m args below meth c s.heap [] 0 0 (vx_MQ below Qc XC args s mc ms free) (entryFrame m args maxL)) : vx_Met l y ws rm Pc Qc XC mc ms free := by
  refine MetFree.of_bodySF (code := cc) (maxLocals := maxL) (ret := ret) hy ?_ ?_
  · intro args s m h hn
    obtain ⟨meth, c, h1, h2, h3, h4, h5, h6, -, -⟩ := Cond.code_spec hn (atoms_spec (ws := ws) h _ (by rw [hw]; exact List.mem_cons_self))
    exact ⟨meth, c, h1, h2, h3, h4, h5, h6⟩
  · intro p e s m args below meth c s₁ B hml hP _
    have hh0 : s₁.heap = s.heap := by rw [B.state]; rfl
    have ht : ∀ x ∈ c.exceptionTable.toList, False := by
      obtain ⟨meth9, c9, h1, h2, -, -, -, -, h7, -⟩ := Cond.code_spec B.named (atoms_spec (ws := ws) B.pre _ (by rw [hw]; exact List.mem_cons_self))
      cases Option.some.inj (h1.symm.trans B.method)
      cases Option.some.inj (h2.symm.trans (Stand.of_body B).code)
      intro x hx
      rw [Array.isEmpty_iff.mp h7] at hx
      cases hx
    obtain ⟨t, a1, o, b1, b2, b3⟩ := body p e s m args below meth c s₁ B hml ht hP s₁ hh0 (Stand.of_body B)
    exact ⟨t, o, a1, b1, b2, b3⟩
end zOe
section zOe2
variable {G : zG} {y : MethodName} {cc : ByteArray} {nL : Nat} {ret : Option FieldType} {d : Nat} {σ σ' : zT} {o : zO}
theorem zC_ofF {as : List Value} (hp : plainFor y = true) (hlen : (lg_sl as).length ≤ nL) (h : zS G y cc nL ret [] d 0 (lv_args 0 as) [] σ o σ') : zC G (y, cc, nL, ret, none) d as σ o σ' := by
  refine ⟨h.1, h.2.1, fun l mc ms hl hmc hms => ?_⟩
  refine vx_ofWF (cc := cc) (maxL := nL) (ret := ret) hp rfl fun p e s m args below meth c s₁ B hml htab hP => ?_
  have M := zM_of (hh := []) B (fun w h => List.mem_cons_of_mem _ h) hml (by
    cases hx : c.exceptionTable.toList with
    | nil => rfl
    | cons a r => exact absurd (by rw [hx]; exact List.mem_cons_self) (htab a)) hl hP
  obtain ⟨ha, hR, hK⟩ := hP
  subst ha
  rw [lg_entry_eq]
  exact h.2.2 p l e _ s m _ below meth c s.heap [] 0 0 _ M ⟨Nat.le_refl _, hR, (fun _ h => absurd h List.not_mem_nil), by show 0 + sZ σ' ≤ mc + sZ σ; omega, by show 0 + sL σ' ≤ ms + sL σ; omega, lv_entry as hlen⟩
theorem zCall_ofF {as : List Value} {Q : zO → zT → Prop} {ls : List (Nat × Value)} (hp : plainFor y = true) (hlen : (lg_sl as).length ≤ nL) (hls : lv_args 0 as = ls) (h : zR G y cc nL ret [] d 0 ls [] σ Q) : zCall G (y, cc, nL, ret, none) d as σ Q := by
  subst hls
  obtain ⟨o, σ', q, h⟩ := h
  exact ⟨o, σ', q, zC_ofF hp hlen h⟩
end zOe2
theorem c_oe {G : zG} {σ : zT} {d a b : Nat} : zC G I_oe d [.ref a, .ref b] σ (.inl (some (.int (bI (decide (a = b)))))) σ := by
  refine zCall.exact (zCall_ofF (ls := [(0, .ref a), (1, .ref b)]) (by decide +kernel) (Nat.le_of_ble_eq_true rfl) rfl ?_)
  refine zr_aload_n oe0 rfl rfl ?_
  refine zr_aload_n oe1 rfl rfl ?_
  refine zr_acmp_ne (rx := some a) (ry := some b) (tgt := 9) oe2 (by decide) (fun c => ?_) (fun c => ?_)
  · refine zr_iconst (v := 0) oe9 (by decide) ?_
    exact zr_iret rfl rfl oe10 ⟨by rw [decide_eq_false (fun e => c (by rw [e]))]; rfl, rfl⟩
  · refine zr_iconst (v := 1) oe5 (by decide) ?_
    refine zr_goto (tgt := 10) oe6 (by decide) ?_
    exact zr_iret rfl rfl oe10 ⟨by rw [decide_eq_true (Option.some.inj c)]; rfl, rfl⟩
section zGcI
variable {p : Program} {l : Launch} {e : Env} {R : Room} {s : State} {m : MethodId} {args : Array Value} {below : List Frame} {meth : Method} {c : Code} {T : State} {locs : List Loc} {cells slots : Nat}
/-- getClass() through an interface (the library's getClassOfI, with the selection told of Object's own name) -/
theorem gc_faceI (X : Stand p l e R s m args below meth c T locs cells slots) (hexec : p.tables.exec = Jvm.exec) {own C : String} {index count : Nat} {xi : MethodName}
    (hown : s.vm.findClass own = some m.cls) (hlink : (Cond.methodLink own index xi).before args s = true) (hdecl : (Cond.declares gcN).before args s = true)
    (hface : (Cond.interfaceMethod xi.cls "java/lang/Object" xi.name xi.desc).before args s = true) (hsel : (Cond.selects C gcN gcN).before args s = true) (hinst : (Cond.instanceMethod gcN).before args s = true)
    (hpub : (Cond.publicMethod gcN).before args s = true) (hunh : (Cond.unhidden C xi.name xi.desc).before args s = true) (hcast : (Cond.castable C xi.cls).before args s = true)
    (hnat : (Cond.native gcN).before args s = true) (hx : xi.cls ≠ "java/lang/invoke/MethodHandle" ∧ xi.cls ≠ "java/lang/invoke/VarHandle") (hxo : xi.cls ≠ "java/lang/Object")
    (hname : xi.name = "getClass") (hdesc : xi.desc = "()Ljava/lang/Class;")
    {b : Addr} {cB : ClassId} {kB : Class} (hcB : s.vm.findClass C = some cB) (hkB : s.vm.classes[cB]? = some kB) (hrecv : IsOf cB T b) {mir : Addr} (hmir : kB.mirror = some mir)
    {g : JFrame} (hg : g.method = m) (hsize : g.locals.size = c.maxLocals) {rest : List Value} (hstack : g.stack = .ref b :: rest) (hdg : decode c.code g.pc = .ok (.invokeinterface index count, 5))
    (hframes : 1 ≤ R.frames) (hlocals : 2 * g.monitorRoom + (rest.map fun v => v.category).sum + (nativeFrameWords "java/lang/Object" "getClass" 1 + 11) ≤ R.locals) :
    ∃ vm₁, Stand p l e R s m args below meth c (T.setVm vm₁) locs cells slots ∧
      ∀ target, Steps p.tables e below ((T.setVm vm₁).setTop { g with pc := g.pc + 5, stack := .ref mir :: rest }) target → Steps p.tables e below (T.setTop g) target := by
  obtain ⟨cellB, hcellT, hclsB, hstatB⟩ := hrecv
  have exi : (⟨"java/lang/Object", xi.name, xi.desc⟩ : MethodName) = gcN := by rw [hname, hdesc]; rfl
  obtain ⟨mk, methM, hnamed, hmethM, -, habM⟩ := Cond.instanceMethod_spec hinst
  obtain ⟨hnameM, hdescM⟩ := name_of_methodNamed hnamed hmethM
  obtain ⟨c2, r2, m2, q1, q2, q3, q4, -⟩ := Cond.selects_spec hsel
  cases hcB.symm.trans q1
  cases hnamed.symm.trans q3
  cases (State.methodFound?_of_named hnamed (by decide)).symm.trans q2
  obtain ⟨cL, kL, r1, hcL, hkL, hiL, hfoundL, hn1⟩ := Cond.interfaceMethod_spec hface
  rw [exi] at hn1
  cases hnamed.symm.trans hn1
  have hselP : selectMethod e.platform s.vm cellB.cls mk = .method mk := by rw [Launch.admits_selectMethod X.admits, hclsB]; exact q4
  have hpubM : hasFlag methM.accessFlags Acc.public_ = true := Cond.publicMethod_spec hnamed hmethM hpub
  have hway : ((cellB.cls :: s.vm.superclasses cellB.cls).any fun k => (declaredIn s.vm methM.name methM.desc k).any fun (_, z) => z.isPrivate || z.isStatic) = false := by
    rw [hnameM, hdescM, hclsB, show gcN.name = xi.name from hname.symm, show gcN.desc = xi.desc from hdesc.symm]; exact Cond.unhidden_spec hcB hunh
  obtain ⟨c3, t3, w1, w2, w3⟩ := Cond.castable_spec hcast
  cases hcB.symm.trans w1
  cases hcL.symm.trans w2
  obtain ⟨mN, kN, methN, hnamedN, hmethN, hkN, N⟩ := NativeOf.of_instance hnat hinst gcN_desc
  cases hnamed.symm.trans hnamedN
  cases hmethM.symm.trans hmethN
  have hlen0 : ([] : List Value).length = methM.sig.parameters.length := by
    obtain ⟨mk', meth', hn', hm', -, hsig'⟩ := Cond.declares_spec hdecl
    cases hnamed.symm.trans hn'
    cases hmethM.symm.trans hm'
    have := Option.some.inj ((by decide : parseMethodDescriptor gcN.desc = some { parameters := [], returnType := some (.object "java/lang/Class") }).symm.trans hsig')
    rw [← this]; rfl
  obtain ⟨vm₁, X₁, hstep₁⟩ := X.invokeinterfaceObject hexec hown hlink hface (by rw [exi]; exact hdecl) (by rw [exi]; exact hpub) hxo hx hcL hcellT
    (fun z h => by rw [h] at hstatB; cases hstatB) (by rw [hclsB]; exact hkB) (by rw [hclsB]; exact w3) (by rw [exi]; exact hnamed) hmethM hselP hmethM hway hpubM habM (g := g) hg (argsL := []) (rest := rest) hlen0 hstack hdg
  have hal : s.vm.Alike vm₁ := X₁.warmed.alike
  obtain ⟨kN₁, N₁⟩ := N.alike hal
  obtain ⟨kB₁, hkB₁, ekB⟩ := hal.2.2 _ _ hkB
  have hAt : At (T.setVm vm₁) ({ g with stack := rest } : JFrame).method c below := by rw [show ({ g with stack := rest } : JFrame).method = m from hg]; exact X₁.here
  have hroom := X₁.notFull (g := { g with stack := rest }) hsize (vars := nativeFrameWords "java/lang/Object" "getClass" 1) hframes hlocals
  refine ⟨vm₁, X₁, fun target hrest => hstep₁ target fun acts => ?_⟩
  exact Steps.getClassOf p hAt acts N₁ hroom (show (T.setVm vm₁).heap[b]? = some cellB from hcellT) (fun z h => by rw [h] at hstatB; cases hstatB)
    (show (T.setVm vm₁).vm.classes[cellB.cls]? = some kB₁ by rw [hclsB]; exact hkB₁) (by rw [ekB]; exact hmir) hdg hrest
end zGcI
section zGcF
variable {G : zG} {y : MethodName} {cc : ByteArray} {nL : Nat} {ret : Option FieldType} {hh : List (Nat × Nat × Nat × Nat)} {d pc : Nat} {ls : List (Nat × Value)} {st : List Value} {σ σ1 : zT} {Q : zO → zT → Prop}
theorem zr_getCF {idx cnt a : Nat} {fs : List Value} (hd1 : 1 ≤ d) (ha : zAt G σ a (.inr (20, fs))) (hl : Cond.methodLink y.cls idx ⟨"java/util/Collection", "getClass", "()Ljava/lang/Class;"⟩ ∈ lw_all) (hw : (st.map fun v => v.category).sum ≤ 8) (hd : decode cc pc = .ok (.invokeinterface idx cnt, 5))
    (k : zR G y cc nL ret hh d (pc + 5) ls (.ref (zc G 6) :: st) σ Q) : zR G y cc nL ret hh d pc ls (.ref a :: st) σ Q :=
  zR.lift (fun p l e R s m args below meth c H locs cells slots arr Q0 M hl9 hR k => by
    have f := M.fr
    have g := M.lo
    obtain ⟨c0, k0, h1, h2, h3⟩ := (M.K.2.2.2.1.2.2.2.2.2.2.2.1 : va_Mi "java/util/ArrayList" (zc G 6) s)
    obtain ⟨cell, g1, g2, g3⟩ := va_recv M.K.1 (hR.P ha) (show zcl[20]? = some (RJ2, TJ2, 3) from rfl) (q0 := 0) rfl
    cases h1.symm.trans g3
    intro T hT X
    obtain ⟨vm', X', st9⟩ := gc_faceI X M.x (C := "java/util/ArrayList") (xi := ⟨"java/util/Collection", "getClass", "()Ljava/lang/Class;"⟩) M.own (M.ws _ hl) (va_Nw.use rfl (M.K.2.1 _ q2655 rfl)) (va_Nw.use rfl (M.K.2.1 _ q2654 rfl)) (M.ws _ q417) (M.ws _ q386) (va_Nw.use rfl (M.K.2.1 _ q2657 rfl)) (va_Nw.use rfl (M.K.2.1 _ q2656 rfl))
      (va_any rfl (M.K.2.2.1 _ (show ("java/util/ArrayList", (⟨"java/util/Collection", "toArray", "()[Ljava/lang/Object;"⟩ : MethodName), (⟨"java/util/ArrayList", "toArray", "()[Ljava/lang/Object;"⟩ : MethodName)) ∈ zFws by decide +kernel)).2.2.2.2)
      (M.ws _ q423) (by decide) (by decide) rfl rfl h1 h2 ⟨cell, by rw [hT]; exact g1, rfl, g2⟩ h3 (g := F0 m pc arr (.ref a :: st)) rfl (hl9.1.trans M.ml.symm) rfl (by rw [M.b]; exact hd) (by omega) (by show 2 * 0 + _ + _ ≤ _; have hw9 : nativeFrameWords "java/lang/Object" "getClass" 1 = 3 := (by decide); omega)
    obtain ⟨t, a1, b1⟩ := k (T.setVm vm') hT X'
    exact ⟨t, st9 t a1, b1⟩) k
end zGcF
set_option maxHeartbeats 4000000 in
theorem c_J2_toArray {G : zG} {σ : zT} {d : Nat} {t l : Nat} {mod : Int32} {xs : List Nat} (ta : Nat) (hd : 4 ≤ d) (hG : zOk G) (hw : zGd G σ) (hL : zL G σ t l mod xs) (hel : ∀ y, y ∈ xs → zEl G σ y) : zCall G I_J2_toArray d [.ref l] σ ((fun o σ' => ∃ f2 : Nat → Option Nat, o = .inl (some (.ref (sZ σ))) ∧ σ' = sNew σ ta (aO G xs.length f2) xs.length ∧ ∀ j, j < xs.length → f2 j = xs[j]?)) := by
  refine zCall_of (ls := [(0, .ref l)]) (by decide) (Nat.le_of_ble_eq_true rfl) rfl ?_
  obtain ⟨arr, cap, f, h1, ht, hcx, hc, hf, ha⟩ := hL
  have har := zL.arr hG ha
  have hel2 : ∀ j, j < min cap xs.length → ∀ x, f j = some x → zEl G σ x := fun j hj x hx => hel x (by
    have hj2 : j < xs.length := by omega
    exact List.mem_of_getElem? ((hf j hj2).symm.trans hx))
  refine zr_aload_n dJ2_toArray_0 rfl rfl ?_
  refine zr_get (k := 1) (v := .ref arr) in_J2 (.new h1) rfl (Nat.le_of_ble_eq_true rfl) q128 (.inl rfl) rfl dJ2_toArray_1 ?_
  refine zr_aload_n dJ2_toArray_4 rfl rfl ?_
  refine zr_get (k := 2) (v := .int (nI xs.length)) in_J2 (.new h1) rfl (Nat.le_of_ble_eq_true rfl) q133 (.inl rfl) rfl dJ2_toArray_5 ?_
  refine zr_call1 (rest := []) (zs_S (As := [.ref arr, .int (nI xs.length)]) (by omega) ok_J5_copyOf q382 q383 q61 q384 rfl rfl (Nat.le_of_ble_eq_true rfl) dJ2_toArray_8) (c_J5_copyOf (c := cap) (n := xs.length) ta (by omega) hG hw.1 har (by omega) (by omega) hel2) ?_
  exact zr_aret rfl (.inr ⟨_, rfl⟩) (.inr ⟨_, rfl⟩) dJ2_toArray_11 (⟨_, rfl, rfl, fun j hj => by
      show (if 0 ≤ j ∧ j < 0 + min cap xs.length then f (0 + (j - 0)) else none) = xs[j]?
      rw [if_pos ⟨Nat.zero_le _, by omega⟩, show 0 + (j - 0) = j by omega]
      exact hf j hj⟩)
/-- a list made of another, never written again: empty (of the common empty array), or a list -/
def fL (G : zG) (σ : zT) (t l : Nat) (xs : List Nat) : Prop := (xs = [] ∧ (∃ arr, sF σ l = some (.inr (20, [.int 0, .ref arr, .int 0]))) ∧ sT σ l = t) ∨ zL G σ t l 0 xs
set_option maxHeartbeats 4000000 in
theorem c_J2_init_2 {G : zG} {σ : zT} {d : Nat} {t l : Nat} {mod : Int32} {xs : List Nat} {t2 b : Nat} (hd : 6 ≤ d) (hG : zOk G) (hw : zGd G σ) (ht2 : t2 + 1 < 10000) (hL : zL G σ t b mod xs) (hxl : xs.length ≤ 1000) (hel : ∀ y, y ∈ xs → zEl G σ y) (h0 : sF σ l = some (.inr (20, d0_J2))) (hT0 : sT σ l = t2) : zCall G I_J2_init_2 d [.ref l, .ref b] σ ((fun o σ' => o = .inl none ∧ fL G σ' t2 l xs ∧ zX G (ST t2) σ σ' (4 + xs.length) ∧ ∀ a e, sF σ a = some e → a ≠ l → sF σ' a = some e ∧ sT σ' a = sT σ a)) := by
  refine zCall_of (ls := [(0, .ref l), (1, .ref b)]) (by decide) (Nat.le_of_ble_eq_true rfl) rfl ?_
  obtain ⟨_, _, ⟨f2, rfl, rfl, hf2⟩, hC⟩ := c_J2_toArray (d := d - 1) (t2 + 1) (by omega) hG hw hL hel
  
  have hz := zX.new (ST t2) hw (t2 + 1) (by omega) (aO G xs.length f2) xs.length
  obtain ⟨σ1, h9⟩ : ∃ z, z = sNew σ (t2 + 1) (aO G xs.length f2) xs.length := ⟨_, rfl⟩
  have harr : sF σ1 (sZ σ) = some (aO G xs.length f2) := by rw [h9]; exact sF_newS _ _ _ _
  have hTarr : sT σ1 (sZ σ) = t2 + 1 := by rw [h9]; exact sT_newS _ _ _ _
  have hold : ∀ a e, sF σ a = some e → sF σ1 a = some e ∧ sT σ1 a = sT σ a := fun a e ha => by
    have hn := Nat.ne_of_lt (hw.1 a e ha)
    rw [h9]
    exact ⟨(sF_newN _ _ _ _ hn).trans ha, sT_newN _ _ _ _ hn⟩
  rw [← h9] at hC hz
  have hlz := Nat.ne_of_lt (hw.1 l _ h0)
  have h1 : sF σ1 l = some (.inr (20, d0_J2)) := by rw [h9]; exact (sF_newN _ _ _ _ hlz).trans h0
  have hT1 : sT σ1 l = t2 := by rw [h9]; exact (sT_newN _ _ _ _ hlz).trans hT0
  obtain ⟨arrb, capb, fb, hb1, -⟩ := hL
  refine zr_aload_n dJ2_init_2_0 rfl rfl ?_
  refine zr_callv (rest := []) (zs_I (As := []) (by omega) ok_J1_init q119 q120 q55 q121 rfl rfl rfl (Nat.le_of_ble_eq_true rfl) dJ2_init_2_1) (c_J1_init (by omega) h0) ?_
  refine zr_aload_n dJ2_init_2_4 rfl rfl ?_
  refine zr_call51 (rest := []) (zs_F (As := []) (by omega) okF_J2_toArray (by decide +kernel) q2631 q2635 q2637 q56 q2639 (.new hb1) rfl rfl rfl (Nat.le_of_ble_eq_true rfl) dJ2_init_2_5) hC ?_
  refine zr_astore_n (ls2 := [(0, .ref l), (1, .ref b), (2, .ref (sZ σ))]) dJ2_init_2_10 rfl (Nat.le_of_ble_eq_true rfl) rfl ?_
  refine zr_aload_n dJ2_init_2_11 rfl rfl ?_
  refine zr_aload_n dJ2_init_2_12 rfl rfl ?_
  refine zr_alenO (v := nI xs.length) (.new harr) rfl dJ2_init_2_13 ?_
  refine zr_dup_x1 dJ2_init_2_14 rfl rfl ?_
  refine zr_put (k := 2) (fs' := [.int 0, .null, .int (nI xs.length)]) zt_J2 h1 rfl (Nat.le_of_ble_eq_true rfl) q133 (.inl rfl) rfl rfl rfl (Nat.le_of_ble_eq_true rfl) rfl dJ2_init_2_15 ?_
  have hz2 := zX.up (S := ST t2) (gs := [.int 0, .null, .int (nI xs.length)]) hz.gd h1 hT1
  have h2 : sF (sUp σ1 l (.inr (20, [.int 0, .null, .int (nI xs.length)]))) l = _ := sF_upS _ _ _
  have hla : sZ σ ≠ l := Ne.symm hlz
  have harr2 : sF (sUp σ1 l (.inr (20, [.int 0, .null, .int (nI xs.length)]))) (sZ σ) = _ := (sF_upN _ _ _ hla).trans harr
  have hbz2 : ∃ fs, zAt G (sUp σ1 l (.inr (20, [.int 0, .null, .int (nI xs.length)]))) b (.inr (20, fs)) := by
    by_cases hbl : b = l
    · exact ⟨_, by rw [hbl]; exact .new h2⟩
    · exact ⟨_, .new ((sF_upN _ _ _ hbl).trans (hold _ _ hb1).1)⟩
  obtain ⟨fsb, hbz3⟩ := hbz2
  refine zr_if_eq (tgt := 57) dJ2_init_2_18 (by decide) (fun hx => ?_) (fun hx => ?_)
  · have hx0 : xs.length = 0 := (nI_z (by omega) hx)
    have hxn : xs = [] := List.length_eq_zero_iff.mp hx0
    subst hxn
    refine zr_aload_n dJ2_init_2_57 rfl rfl ?_
    refine zr_gets (v := .ref (zc G 1)) hG.1 (fun U h => h.2.1) q2662 (.inl rfl) dJ2_init_2_58 ?_
    refine zr_put (k := 1) (fs' := [.int 0, .ref (zc G 1), .int (nI ([] : List Nat).length)]) zt_J2 (sF_upS _ _ _) rfl (Nat.le_of_ble_eq_true rfl) q128 (.inl rfl) rfl rfl rfl (Nat.le_of_ble_eq_true rfl) rfl dJ2_init_2_61 ?_
    rw [sUp_sUp]
    exact zr_vret rfl dJ2_init_2_64 (⟨rfl, Or.inl ⟨rfl, ⟨zc G 1, sF_upS _ _ _⟩, hT1⟩, (hz.trans (zX.up (gs := [.int 0, .ref (zc G 1), .int (nI ([] : List Nat).length)]) hz.gd h1 hT1)).le (by show _ ≤ _; simp only [List.length_nil]; omega), fun a e ha hn => ⟨(sF_upN _ _ _ hn).trans (hold a e ha).1, (hold a e ha).2⟩⟩)
  · refine zr_aload_n dJ2_init_2_21 rfl rfl ?_
    refine zr_getCF (by omega) hbz3 q2653 (Nat.le_of_ble_eq_true rfl) dJ2_init_2_22 ?_
    refine zr_ldcM (mi := zc G 6) (fun U h => h.2.2.2.2.2.2.2.1) q2659 dJ2_init_2_27 ?_
    refine zr_acmp_ne (rx := (some ((zc G 6)))) (ry := (some ((zc G 6)))) (tgt := 40) dJ2_init_2_29 (by decide) (fun h9 => absurd (rfl) h9) (fun _ => ?_)
    refine zr_aload_n dJ2_init_2_32 rfl rfl ?_
    refine zr_aload_n dJ2_init_2_33 rfl rfl ?_
    refine zr_put (k := 1) (fs' := [.int 0, .ref (sZ σ), .int (nI xs.length)]) zt_J2 (sF_upS _ _ _) rfl (Nat.le_of_ble_eq_true rfl) q128 (.inl rfl) rfl rfl rfl (Nat.le_of_ble_eq_true rfl) rfl dJ2_init_2_34 ?_
    rw [sUp_sUp]
    refine zr_goto (tgt := 64) dJ2_init_2_37 (by decide) ?_
    exact zr_vret rfl dJ2_init_2_64 (⟨rfl, Or.inr ⟨sZ σ, xs.length, f2, sF_upS _ _ _, hT1, Nat.le_refl _, by omega, hf2, Or.inr ⟨by
          rcases Nat.eq_zero_or_pos xs.length with h | h
          · exact absurd (by rw [h]; rfl) hx
          · exact h, (sF_upN _ _ _ hla).trans harr, hTarr⟩⟩, (hz.trans (zX.up (gs := [.int 0, .ref (sZ σ), .int (nI xs.length)]) hz.gd h1 hT1)).le (by omega), fun a e ha hn => ⟨(sF_upN _ _ _ hn).trans (hold a e ha).1, (hold a e ha).2⟩⟩)
set_option maxHeartbeats 4000000 in
theorem c_J2_fastRemove {G : zG} {σ : zT} {d : Nat} {l arr cap n : Nat} {mod : Int32} {f : Nat → Option Nat} (hw : zGd G σ) (h1 : sF σ l = some (.inr (20, [.int mod, .ref arr, .int (nI (n + 1))]))) (ha : sF σ arr = some (aO G cap f)) (hn : n < cap) (hc : cap ≤ 1000000) : zCall G I_J2_fastRemove d [.ref l, .ref arr, .int (nI n)] σ ((fun o σ' => o = .inl none ∧ σ' = sUp (sUp σ l (.inr (20, [.int (mod + 1), .ref arr, .int (nI n)]))) arr (aO G cap (va_up f n none)))) := by
  refine zCall_of (ls := [(0, .ref l), (1, .ref arr), (2, .int (nI n))]) (by decide) (Nat.le_of_ble_eq_true rfl) rfl ?_
  have hla : arr ≠ l := sF_ne ha h1 zE_arr
  refine zr_aload_n dJ2_fastRemove_0 rfl rfl ?_
  refine zr_dup dJ2_fastRemove_1 rfl ?_
  refine zr_get (k := 0) (v := .int mod) in_J2 (.new h1) rfl (Nat.le_of_ble_eq_true rfl) q143 (.inr q136) rfl dJ2_fastRemove_2 ?_
  refine zr_iconst (v := 1) dJ2_fastRemove_5 (by decide) ?_
  refine zr_iadd dJ2_fastRemove_6 ?_
  refine zr_put (k := 0) (fs' := [.int (mod + 1), .ref arr, .int (nI (n + 1))]) zt_J2 h1 rfl (Nat.le_of_ble_eq_true rfl) q143 (.inr q136) rfl rfl rfl (Nat.le_of_ble_eq_true rfl) rfl dJ2_fastRemove_7 ?_
  refine zr_aload_n dJ2_fastRemove_10 rfl rfl ?_
  refine zr_get (k := 2) (v := .int (nI (n + 1))) in_J2 (.new (sF_upS _ _ _)) rfl (Nat.le_of_ble_eq_true rfl) q133 (.inl rfl) rfl dJ2_fastRemove_11 ?_
  refine zr_iconst (v := 1) dJ2_fastRemove_14 (by decide) ?_
  refine zr_isub dJ2_fastRemove_15 ?_
  rw [show nI (n + 1) - 1 = nI n from nI_pred n]
  refine zr_dup dJ2_fastRemove_16 rfl ?_
  refine zr_istore_n (ls2 := [(0, .ref l), (1, .ref arr), (2, .int (nI n)), (3, .int (nI n))]) dJ2_fastRemove_17 rfl (Nat.le_of_ble_eq_true rfl) rfl ?_
  refine zr_iload_n dJ2_fastRemove_18 rfl rfl ?_
  refine zr_icmp_le (tgt := 34) dJ2_fastRemove_19 (by decide) (fun _ => ?_) (fun h9 => absurd (Int32.le_refl _) h9)
  refine zr_aload_n dJ2_fastRemove_34 rfl rfl ?_
  refine zr_aload_n dJ2_fastRemove_35 rfl rfl ?_
  refine zr_iload_n dJ2_fastRemove_36 rfl rfl ?_
  refine zr_dup_x1 dJ2_fastRemove_37 rfl rfl ?_
  refine zr_put (k := 2) (fs' := [.int (mod + 1), .ref arr, .int (nI n)]) zt_J2 (sF_upS _ _ _) rfl (Nat.le_of_ble_eq_true rfl) q133 (.inl rfl) rfl rfl rfl (Nat.le_of_ble_eq_true rfl) rfl dJ2_fastRemove_38 ?_
  rw [sUp_sUp]
  refine zr_null dJ2_fastRemove_41 ?_
  refine zr_aastN ((sF_upN _ _ _ hla).trans ha) (vp_in_nI (by omega) (by omega)) (by rw [nI_clamp (by omega)]) dJ2_fastRemove_42 ?_
  exact zr_vret rfl dJ2_fastRemove_43 (⟨rfl, rfl⟩)
set_option maxHeartbeats 4000000 in
theorem l_J2_remove {G : zG} {σ : zT} {d t l x arr cap : Nat} {mod : Int32} {ys : List Nat} {f : Nat → Option Nat} {fs : List Value} {Q : zO → zT → Prop} (hd : 3 ≤ d) (hw : zGd G σ) (h1 : sF σ l = some (.inr (20, [.int mod, .ref arr, .int (nI (ys.length + 1))]))) (ht : sT σ l = t) (ha : sF σ arr = some (aO G cap f)) (hta : sT σ arr = t + 1) (hcx : ys.length + 1 ≤ cap) (hc : cap ≤ 1000000) (hf : ∀ j, j < ys.length + 1 → f j = (ys ++ [x])[j]?) (hx : zAt G σ x (.inr (5, fs))) (hn : ¬ x ∈ ys) (kQ : ∀ σ', zL G σ' t l (mod + 1) ys → zX G (fun s => s = t ∨ s = t + 1) σ σ' 0 → Q (.inl (some (.int 1))) σ') : ∀ (n k : Nat), k + n = ys.length → zR G yJ2_remove cJ2_remove 5 (Option.some Jvm.ClassFile.FieldType.boolean) [] d 39 [(0, .ref l), (1, .ref x), (2, .ref arr), (3, .int (nI (ys.length + 1))), (4, .int (nI k))] [] σ Q := by
  have hfin : zR G yJ2_remove cJ2_remove 5 (Option.some Jvm.ClassFile.FieldType.boolean) [] d 67 [(0, .ref l), (1, .ref x), (2, .ref arr), (3, .int (nI (ys.length + 1))), (4, .int (nI ys.length))] [] σ Q := by
    have hla : arr ≠ l := sF_ne ha h1 zE_arr
    obtain ⟨_, _, ⟨rfl, rfl⟩, hC⟩ := c_J2_fastRemove (d := d - 1) (n := ys.length) hw h1 ha (by omega) hc
    have hz1 := zX.up (S := fun s => s = t ∨ s = t + 1) (gs := [.int (mod + 1), .ref arr, .int (nI ys.length)]) hw h1 (Or.inl ht)
    have ha1 : sF (sUp σ l (.inr (20, [.int (mod + 1), .ref arr, .int (nI ys.length)]))) arr = some (aO G cap f) := (sF_upN _ _ _ hla).trans ha
    have hz2 : zX G (fun s => s = t ∨ s = t + 1) _ (sUp (sUp σ l (.inr (20, [.int (mod + 1), .ref arr, .int (nI ys.length)]))) arr (aO G cap (va_up f ys.length none))) 0 := zX.upA hz1.gd ha1 (Or.inr hta)
    refine zr_aload_n dJ2_remove_67 rfl rfl ?_
    refine zr_aload_n dJ2_remove_68 rfl rfl ?_
    refine zr_iload dJ2_remove_69 rfl ?_
    refine zr_callv (rest := []) (zs_V (As := [.ref arr, .int (nI ys.length)]) (by omega) ok_J2_fastRemove q2751 q2753 qs51 q56 q2754 rfl (.new h1) rfl rfl rfl (Nat.le_of_ble_eq_true rfl) dJ2_remove_71) hC ?_
    refine zr_iconst (v := 1) dJ2_remove_74 (by decide) ?_
    exact zr_iret rfl rfl dJ2_remove_75 (kQ _ ⟨arr, cap, va_up f ys.length none, (sF_upN _ _ _ hla.symm).trans (sF_upS _ _ _), ht, by omega, hc, fun j hj => by
          show (if j = ys.length then none else f j) = ys[j]?
          rw [if_neg (by omega), hf j (by omega), List.getElem?_append_left hj], Or.inr ⟨by omega, sF_upS _ _ _, hta⟩⟩ (hz1.trans hz2))
  intro n
  induction n with
  | zero =>
    intro k hk
    have hk0 : k = ys.length := by omega
    subst hk0
    obtain ⟨z, hz⟩ : ∃ z, z = x := ⟨_, rfl⟩
    refine zr_iload dJ2_remove_39 rfl ?_
    refine zr_iload_n dJ2_remove_41 rfl rfl ?_
    refine zr_icmp_ge (tgt := 65) dJ2_remove_42 (by decide) (fun h9 => absurd h9 (nI_ge (by omega) (by omega))) (fun _ => ?_)
    refine zr_aload_n dJ2_remove_45 rfl rfl ?_
    refine zr_aload_n dJ2_remove_46 rfl rfl ?_
    refine zr_iload dJ2_remove_47 rfl ?_
    refine zr_aald (v := .ref z) (.new ha) (vp_in_nI (by omega) (by omega)) (by rw [nI_clamp (by omega), hf _ (by omega), List.getElem?_append_right (Nat.le_refl _), Nat.sub_self, hz]; rfl) dJ2_remove_49 ?_
    refine zr_call1 (rest := []) (zs_VO (As := [.ref z]) (by omega) ok_oe q2689 q2690 q2735 q2843 q2750 hx rfl rfl rfl (Nat.le_of_ble_eq_true rfl) dJ2_remove_50) c_oe ?_
    rw [decide_eq_true hz.symm]
    show zR _ _ _ _ _ _ _ _ _ [.int 1] _ _
    refine zr_if_eq (tgt := 59) dJ2_remove_53 (by decide) (fun h9 => absurd h9 (by decide)) (fun _ => ?_)
    refine zr_goto (tgt := 67) dJ2_remove_56 (by decide) ?_
    exact hfin
  | succ n ih =>
    intro k hk
    obtain ⟨z, hz⟩ : ∃ z, ys[k]? = some z := ⟨_, List.getElem?_eq_getElem (by omega)⟩
    have hne : ¬ x = z := fun e => hn (e ▸ List.mem_of_getElem? hz)
    refine zr_iload dJ2_remove_39 rfl ?_
    refine zr_iload_n dJ2_remove_41 rfl rfl ?_
    refine zr_icmp_ge (tgt := 65) dJ2_remove_42 (by decide) (fun h9 => absurd h9 (nI_ge (by omega) (by omega))) (fun _ => ?_)
    refine zr_aload_n dJ2_remove_45 rfl rfl ?_
    refine zr_aload_n dJ2_remove_46 rfl rfl ?_
    refine zr_iload dJ2_remove_47 rfl ?_
    refine zr_aald (v := .ref z) (.new ha) (vp_in_nI (by omega) (by omega)) (by rw [nI_clamp (by omega), hf _ (by omega), List.getElem?_append_left (by omega), hz]; rfl) dJ2_remove_49 ?_
    refine zr_call1 (rest := []) (zs_VO (As := [.ref z]) (by omega) ok_oe q2689 q2690 q2735 q2843 q2750 hx rfl rfl rfl (Nat.le_of_ble_eq_true rfl) dJ2_remove_50) c_oe ?_
    rw [decide_eq_false hne]
    show zR _ _ _ _ _ _ _ _ _ [.int 0] _ _
    refine zr_if_eq (tgt := 59) dJ2_remove_53 (by decide) (fun _ => ?_) (fun h9 => absurd (rfl) h9)
    refine zr_iinc (v := ((nI k) + 1)) (ls2 := [(0, .ref l), (1, .ref x), (2, .ref arr), (3, .int (nI (ys.length + 1))), (4, .int ((nI k) + 1))]) dJ2_remove_59 rfl rfl (Nat.le_of_ble_eq_true rfl) rfl ?_
    rw [show nI k + 1 = nI (k + 1) from nI_1 k]
    refine zr_goto (tgt := 39) dJ2_remove_62 (by decide) ?_
    exact ih (k + 1) (by omega)
set_option maxHeartbeats 4000000 in
theorem c_J2_remove {G : zG} {σ : zT} {d : Nat} {t l x : Nat} {mod : Int32} {ys : List Nat} {fs : List Value} (hd : 4 ≤ d) (hw : zGd G σ) (hL : zL G σ t l mod (ys ++ [x])) (hx : zAt G σ x (.inr (5, fs))) (hn : ¬ x ∈ ys) : zCall G I_J2_remove d [.ref l, .ref x] σ ((fun o σ' => o = .inl (some (.int 1)) ∧ zL G σ' t l (mod + 1) ys ∧ zX G (fun s => s = t ∨ s = t + 1) σ σ' 0)) := by
  refine zCall_of (ls := [(0, .ref l), (1, .ref x)]) (by decide) (Nat.le_of_ble_eq_true rfl) rfl ?_
  obtain ⟨arr, cap, f, h1, ht, hcx, hc, hf, ha⟩ := hL
  have hl9 : (ys ++ [x]).length = ys.length + 1 := by rw [List.length_append]; rfl
  rw [hl9] at h1 hcx hf
  obtain ⟨-, ha1, hta⟩ := ha.resolve_left (fun h => absurd h.1 (by omega))
  refine zr_aload_n dJ2_remove_0 rfl rfl ?_
  refine zr_get (k := 1) (v := .ref arr) in_J2 (.new h1) rfl (Nat.le_of_ble_eq_true rfl) q128 (.inl rfl) rfl dJ2_remove_1 ?_
  refine zr_astore_n (ls2 := [(0, .ref l), (1, .ref x), (2, .ref arr)]) dJ2_remove_4 rfl (Nat.le_of_ble_eq_true rfl) rfl ?_
  refine zr_aload_n dJ2_remove_5 rfl rfl ?_
  refine zr_get (k := 2) (v := .int (nI (ys.length + 1))) in_J2 (.new h1) rfl (Nat.le_of_ble_eq_true rfl) q133 (.inl rfl) rfl dJ2_remove_6 ?_
  refine zr_istore_n (ls2 := [(0, .ref l), (1, .ref x), (2, .ref arr), (3, .int (nI (ys.length + 1)))]) dJ2_remove_9 rfl (Nat.le_of_ble_eq_true rfl) rfl ?_
  refine zr_iconst (v := 0) dJ2_remove_10 (by decide) ?_
  refine zr_istore (ls2 := [(0, .ref l), (1, .ref x), (2, .ref arr), (3, .int (nI (ys.length + 1))), (4, .int 0)]) dJ2_remove_11 (Nat.le_of_ble_eq_true rfl) rfl ?_
  refine zr_aload_n dJ2_remove_13 rfl rfl ?_
  refine zr_ifnonnull (tgt := 39) dJ2_remove_14 (by decide) ?_
  refine l_J2_remove (k := 0) (n := ys.length) (by omega) hw h1 ht ha1 hta hcx hc hf hx hn (fun σ2 a b => ⟨rfl, a, b⟩) (Nat.zero_add _)
set_option maxHeartbeats 4000000 in
theorem c_J2_remove0 {G : zG} {σ : zT} {d : Nat} {t l x : Nat} {mod : Int32} (hw : zGd G σ) (hL : zL G σ t l mod []) : zCall G I_J2_remove d [.ref l, .ref x] σ ((fun o σ' => o = .inl (some (.int 0)) ∧ σ' = σ)) := by
  refine zCall_of (ls := [(0, .ref l), (1, .ref x)]) (by decide) (Nat.le_of_ble_eq_true rfl) rfl ?_
  obtain ⟨arr, cap, f, h1, ht, hcx, hc, hf, ha⟩ := hL
  refine zr_aload_n dJ2_remove_0 rfl rfl ?_
  refine zr_get (k := 1) (v := .ref arr) in_J2 (.new h1) rfl (Nat.le_of_ble_eq_true rfl) q128 (.inl rfl) rfl dJ2_remove_1 ?_
  refine zr_astore_n (ls2 := [(0, .ref l), (1, .ref x), (2, .ref arr)]) dJ2_remove_4 rfl (Nat.le_of_ble_eq_true rfl) rfl ?_
  refine zr_aload_n dJ2_remove_5 rfl rfl ?_
  refine zr_get (k := 2) (v := .int (nI ([] : List Nat).length)) in_J2 (.new h1) rfl (Nat.le_of_ble_eq_true rfl) q133 (.inl rfl) rfl dJ2_remove_6 ?_
  refine zr_istore_n (ls2 := [(0, .ref l), (1, .ref x), (2, .ref arr), (3, .int (nI ([] : List Nat).length))]) dJ2_remove_9 rfl (Nat.le_of_ble_eq_true rfl) rfl ?_
  refine zr_iconst (v := 0) dJ2_remove_10 (by decide) ?_
  refine zr_istore (ls2 := [(0, .ref l), (1, .ref x), (2, .ref arr), (3, .int (nI ([] : List Nat).length)), (4, .int 0)]) dJ2_remove_11 (Nat.le_of_ble_eq_true rfl) rfl ?_
  refine zr_aload_n dJ2_remove_13 rfl rfl ?_
  refine zr_ifnonnull (tgt := 39) dJ2_remove_14 (by decide) ?_
  refine zr_iload dJ2_remove_39 rfl ?_
  refine zr_iload_n dJ2_remove_41 rfl rfl ?_
  refine zr_icmp_ge (tgt := 65) dJ2_remove_42 (by decide) (fun _ => ?_) (fun h9 => absurd (Int32.le_refl _) h9)
  refine zr_iconst (v := 0) dJ2_remove_65 (by decide) ?_
  exact zr_iret rfl rfl dJ2_remove_66 (⟨rfl, rfl⟩)
set_option maxHeartbeats 4000000 in
theorem c_J23_init0 {G : zG} {σ : zT} {d l arr : Nat} {mod : Int32} {i : Nat} (hd : 2 ≤ d) (h1 : sF σ l = some (.inr (20, [.int mod, .ref arr, .int 0]))) (h0 : sF σ i = some (.inr (21, d0_J23))) : zC G I_J23_init d [.ref i, .ref l] σ (.inl none) (sUp σ i (.inr (21, [.int 0, .int (-1), .int mod, .ref l]))) := by
  refine zCall.exact (zCall_of (ls := [(0, .ref i), (1, .ref l)]) (by decide) (Nat.le_of_ble_eq_true rfl) rfl ?_)
  have hn : l ≠ i := sF_ne h1 h0 (zE_ne (by decide))
  refine zr_aload_n dJ23_init_0 rfl rfl ?_
  refine zr_aload_n dJ23_init_1 rfl rfl ?_
  refine zr_putF rfl rfl (k := 3) (fs' := [.int 0, .int 0, .int 0, .ref l]) zt_J23 h0 rfl (Nat.le_of_ble_eq_true rfl) q848 (.inl rfl) rfl rfl rfl (Nat.le_of_ble_eq_true rfl) rfl dJ23_init_2 ?_
  refine zr_aload_n dJ23_init_5 rfl rfl ?_
  refine zr_objInit (by omega) q842 q112 q113 (Nat.le_of_ble_eq_true rfl) dJ23_init_6 ?_
  refine zr_aload_n dJ23_init_9 rfl rfl ?_
  refine zr_iconst (v := (-1)) dJ23_init_10 (by decide) ?_
  refine zr_put (k := 1) (fs' := [.int 0, .int (-1), .int 0, .ref l]) zt_J23 (sF_upS _ _ _) rfl (Nat.le_of_ble_eq_true rfl) q846 (.inl rfl) rfl rfl rfl (Nat.le_of_ble_eq_true rfl) rfl dJ23_init_11 ?_
  rw [sUp_sUp]
  refine zr_aload_n dJ23_init_14 rfl rfl ?_
  refine zr_aload_n dJ23_init_15 rfl rfl ?_
  refine zr_get (k := 3) (v := .ref l) in_J23 (.new (sF_upS _ _ _)) rfl (Nat.le_of_ble_eq_true rfl) q848 (.inl rfl) rfl dJ23_init_16 ?_
  refine zr_get (k := 0) (v := .int mod) in_J2 (.new (by rw [sF_upN _ _ _ hn]; exact h1)) rfl (Nat.le_of_ble_eq_true rfl) q135 (.inr q136) rfl dJ23_init_19 ?_
  refine zr_put (k := 2) (fs' := [.int 0, .int (-1), .int mod, .ref l]) zt_J23 (sF_upS _ _ _) rfl (Nat.le_of_ble_eq_true rfl) q847 (.inl rfl) rfl rfl rfl (Nat.le_of_ble_eq_true rfl) rfl dJ23_init_22 ?_
  rw [sUp_sUp]
  exact zr_vret rfl dJ23_init_25 (⟨rfl, rfl⟩)
set_option maxHeartbeats 4000000 in
theorem c_J2_iterator0 {G : zG} {σ : zT} {d l arr : Nat} {mod : Int32} (hd : 3 ≤ d) (hw : zWf σ) (h1 : sF σ l = some (.inr (20, [.int mod, .ref arr, .int 0]))) : zC G I_J2_iterator d [.ref l] σ (.inl (some (.ref (sZ σ)))) (sNew σ 0 (.inr (21, [.int 0, .int (-1), .int mod, .ref l])) 4) := by
  refine zCall.exact (zCall_of (ls := [(0, .ref l)]) (by decide) (Nat.le_of_ble_eq_true rfl) rfl ?_)
  refine zr_new (ci := 21) (0) zt_J23 q837 q838 q84 rfl df_J23 dJ2_iterator_0 ?_
  refine zr_dup dJ2_iterator_3 rfl ?_
  refine zr_aload_n dJ2_iterator_4 rfl rfl ?_
  refine zr_callv (rest := [.ref (sZ σ)]) (zs_I (As := [.ref l]) (by omega) ok_J23_init q839 q840 q84 q841 rfl rfl rfl (Nat.le_of_ble_eq_true rfl) dJ2_iterator_5) (c_J23_init0 (by omega) ((sF_newN _ _ _ _ (Nat.ne_of_lt (hw _ _ h1))).trans h1) (sF_newS _ _ _ _)) ?_
  rw [sNew_up]
  exact zr_aret rfl (.inl ⟨_, rfl⟩) (.inr ⟨_, rfl⟩) dJ2_iterator_8 (⟨rfl, rfl⟩)
set_option maxHeartbeats 4000000 in
theorem c_hasNext00 {G : zG} {σ : zT} {d l arr : Nat} {mod : Int32} {i : Nat} {lr : Int32} (h1 : sF σ l = some (.inr (20, [.int mod, .ref arr, .int 0]))) (hi : sF σ i = some (.inr (21, [.int 0, .int lr, .int mod, .ref l]))) : zC G I_J23_hasNext d [.ref i] σ (.inl (some (.int 0))) σ := by
  refine zCall.exact (zCall_of (ls := [(0, .ref i)]) (by decide) (Nat.le_of_ble_eq_true rfl) rfl ?_)
  refine zr_aload_n dJ23_hasNext_0 rfl rfl ?_
  refine zr_get (k := 0) (v := .int 0) in_J23 (.new hi) rfl (Nat.le_of_ble_eq_true rfl) q845 (.inl rfl) rfl dJ23_hasNext_1 ?_
  refine zr_aload_n dJ23_hasNext_4 rfl rfl ?_
  refine zr_get (k := 3) (v := .ref l) in_J23 (.new hi) rfl (Nat.le_of_ble_eq_true rfl) q848 (.inl rfl) rfl dJ23_hasNext_5 ?_
  refine zr_getN (k := 2) (v := .int 0) in_J2 (.new h1) rfl (Nat.le_of_ble_eq_true rfl) q132 (.inl rfl) rfl dJ23_hasNext_8 ?_
  refine zr_icmp_eq (tgt := 18) dJ23_hasNext_11 (by decide) (fun c => ?_) (fun c => absurd rfl c)
  refine zr_iconst (v := 0) dJ23_hasNext_18 (by decide) ?_
  exact zr_iret rfl rfl dJ23_hasNext_19 (⟨rfl, rfl⟩)
