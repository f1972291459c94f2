/-! ===== Throwable.getCause (synchronized) on a Lower, and Lower.next() ===== -/
section zyCause
abbrev gcY : MethodName := ⟨"java/lang/Throwable", "getCause", "()Ljava/lang/Throwable;"⟩
abbrev gcR : Option FieldType := some (.object "java/lang/Throwable")
def gtW (ws : List Cond) : List Cond := Cond.codeSync gcY prog_45_method_8_code 1 gcR :: Cond.instanceMethod gcY :: Cond.fieldLink "java/lang/Throwable" 7 "java/lang/Throwable" "cause" "Ljava/lang/Throwable;" :: ws
theorem gd0 : decode prog_45_method_8_code 0 = .ok (.aload_n 0, 1) := by decide +kernel
theorem gd1 : decode prog_45_method_8_code 1 = .ok (.getfield 7, 3) := by decide +kernel
theorem gd4 : decode prog_45_method_8_code 4 = .ok (.aload_n 0, 1) := by decide +kernel
theorem gd5 : decode prog_45_method_8_code 5 = .ok (.if_acmp .ne 7, 3) := by decide +kernel
theorem gd12 : decode prog_45_method_8_code 12 = .ok (.aload_n 0, 1) := by decide +kernel
theorem gd13 : decode prog_45_method_8_code 13 = .ok (.getfield 7, 3) := by decide +kernel
theorem gd16 : decode prog_45_method_8_code 16 = .ok (.areturn, 1) := by decide +kernel
/-- what the call may lean on: the receiver a Lower whose monitor is free, its cause n -/
def gcP (a n : Nat) (H : Heap) (as : Array Value) (U : State) : Prop :=
  as = #[.ref a] ∧ a ≠ n ∧ U.heap = H ∧ ∃ (cell : Cell) (cf : ClassId) (k : Class) (i : Nat) (f : Field), H[a]? = some cell ∧ cell.monitor = {} ∧ cell.vm ≠ .unknown ∧ U.fieldFound? "java/lang/Throwable" "cause" "Ljava/lang/Throwable;" = some (cf, k, i, f) ∧ f.isStatic = false ∧ cell.slots[f.slot]? = some (.ref n)
theorem gc_met (l : Launch) (rm : Room) (a n : Nat) (H : Heap) : MetFree l gcY (headSpec (gtW []) rm) (gcP a n H) (fun _ _ _ _ _ => True) (fun _ s o t => o = .returned (some (.ref n)) ∧ t.heap = s.heap ∧ FrameEnd s o t [] 0 0) := by
  intro p e ha hc hk s m args below hf happ hP hK
  obtain ⟨hrun, hable, halone, hname, hhears, hinit, hroom, hpre⟩ := (Spec.appliesLoose_iff hf).mp happ
  have hws : ∀ w ∈ gtW [], w.before args s = true := atoms_spec (ws := gtW []) hpre
  obtain ⟨meth, c, hmeth, hcode, hbytes, hlocals, hret, hlocks, -, -⟩ := Cond.codeSync_spec hname (hws _ List.mem_cons_self)
  have h2 := hws (Cond.instanceMethod gcY) (List.mem_cons_of_mem _ List.mem_cons_self)
  have hlink := hws (Cond.fieldLink "java/lang/Throwable" 7 "java/lang/Throwable" "cause" "Ljava/lang/Throwable;") (List.mem_cons_of_mem _ (List.mem_cons_of_mem _ List.mem_cons_self))
  have hst : meth.isStatic = false := by
    simp only [Cond.before, Cond.holds, Cond.value, hname, hmeth, Option.bind_some, Option.map_some] at h2
    have h3 : meth.isStatic = false ∧ meth.isAbstract = false := by simpa using h2
    exact h3.1
  obtain ⟨rfl, hne, rfl, cell, cf, k, i, f, hcell, hmon, hvm, hfi, hfs, hsl⟩ := hP
  have hfree : cell.monitor.owner = none := by rw [hmon]
  have hcount : cell.monitor.count = 0 := by rw [hmon]
  have hent : cell.enterable s.cur := Or.inl ⟨hfree, hcount⟩
  have hcur := State.cur_lt_of_frames hf
  have hcur' : (s.setCell a (cell.withEntry s.cur)).cur < (s.setCell a (cell.withEntry s.cur)).threads.size := hcur
  obtain ⟨s₁, hs1⟩ : ∃ z, z = (s.setCell a (cell.withEntry s.cur)).setFrames (.java (entryFrameSync m #[.ref a] 1 a) :: below) := ⟨_, rfl⟩
  have hf1 : s₁.frames = .java (entryFrameSync m #[.ref a] 1 a) :: below := by rw [hs1]; exact State.frames_setFrames _ hcur'
  have ht1 := State.topJava?_of_frames hf1
  have hplain : s₁.plainMethod m := by rw [hs1]; exact State.plainMethod.of_named (s := s) (x := gcY) (by decide) hname hmeth
  have hAt : At s₁ m c below := by
    refine ⟨by rw [ht1]; rfl, ⟨[], by rw [hf1]; rfl⟩, ?_, ?_, ?_, ?_, hplain⟩
    · rw [hs1]; exact hrun
    · rw [hs1]; simpa using hable
    · rw [hs1]; simpa using halone
    · rw [hs1, State.code?_eq]; simp [State.setFrames, State.setCell, hmeth, hcode]
  have hvm1 : s₁.vm = s.vm := by rw [hs1]; rfl
  have hexec : p.tables.exec = Jvm.exec := by cases p <;> rfl
  have X0 : Stand p l e (headSpec (gtW []) rm).room (s.setCell a (cell.withEntry s.cur)) m #[.ref a] below meth c s₁ [] 0 0 := by
    obtain ⟨t, ht, -⟩ := State.frames_cons hf
    refine ⟨ha, hc, hk, hf, by rw [State.hasRoom_setCell (x := cell.withEntry s.cur) hcell rfl]; exact hroom, hhears, hmeth, hcode, hAt, by rw [hf1]; rfl,
      by rw [hvm1]; exact State.WarmedH.refl (s.setCell a (cell.withEntry s.cur)), by rw [hs1, State.stackLimits_setFrames], by rw [hs1, State.stackBytes_setFrames], ?_⟩
    have h := (State.sameButNew.refl (s.setCell a (cell.withEntry s.cur)) (x := t) ht).setFrames (.java (entryFrameSync m #[.ref a] 1 a) :: below) hcur
    rw [hs1]
    exact h
  have hlt : a < s.heap.size := (Array.getElem?_eq_some_iff.mp hcell).1
  have hc1 : s₁.heap[a]? = some (cell.withEntry s.cur) := by
    rw [hs1]
    show (s.heap.setIfInBounds a (cell.withEntry s.cur))[a]? = _
    simp [hlt]
  have hown : (s.setCell a (cell.withEntry s.cur)).vm.findClass "java/lang/Throwable" = some m.cls := (findClass_of_methodNamed hname :)
  have hlink' : (Cond.fieldLink "java/lang/Throwable" 7 "java/lang/Throwable" "cause" "Ljava/lang/Throwable;").before #[.ref a] (s.setCell a (cell.withEntry s.cur)) = true := hlink
  have d0 : decode c.code 0 = .ok (.aload_n 0, 1) := by rw [hbytes]; exact gd0
  have d1 : decode c.code 1 = .ok (.getfield 7, 3) := by rw [hbytes]; exact gd1
  have d4 : decode c.code 4 = .ok (.aload_n 0, 1) := by rw [hbytes]; exact gd4
  have d5 : decode c.code 5 = .ok (.if_acmp .ne 7, 3) := by rw [hbytes]; exact gd5
  have d12 : decode c.code 12 = .ok (.aload_n 0, 1) := by rw [hbytes]; exact gd12
  have d13 : decode c.code 13 = .ok (.getfield 7, 3) := by rw [hbytes]; exact gd13
  have d16 : decode c.code 16 = .ok (.areturn, 1) := by rw [hbytes]; exact gd16
  obtain ⟨vm1, X1, st1⟩ := X0.getfield hexec hown hlink' (cf := cf) (i := i) (k := k) (f := f) hfi hfs hc1 (by exact hvm) (v := .ref n) (by exact hsl) (g := { method := m, pc := 1, locals := #[.val (.ref a)], stack := [.ref a], locked := some a, monitorRoom := 1 }) rfl (rest := []) rfl d1
  obtain ⟨T1, hT1⟩ : ∃ z, z = s₁.setVm vm1 := ⟨_, rfl⟩
  rw [← hT1] at X1 st1
  have hc2 : T1.heap[a]? = some (cell.withEntry s.cur) := by rw [hT1]; exact hc1
  obtain ⟨vm2, X2, st2⟩ := X1.getfield hexec hown hlink' (cf := cf) (i := i) (k := k) (f := f) hfi hfs hc2 (by exact hvm) (v := .ref n) (by exact hsl) (g := { method := m, pc := 13, locals := #[.val (.ref a)], stack := [.ref a], locked := some a, monitorRoom := 1 }) rfl (rest := []) rfl d13
  obtain ⟨T2, hT2⟩ : ∃ z, z = T1.setVm vm2 := ⟨_, rfl⟩
  rw [← hT2] at X2 st2
  have hh2 : T2.heap = s₁.heap := by rw [hT2, hT1]; rfl
  obtain ⟨fs, cellT, hT, hdo, hst9, hend, hW9, hsb⟩ := X2.leaveSync hcell hent hlocks (v := some (.ref n)) (fun h => by rw [hret] at h; cases h)
  have hcT : cellT = cell.withEntry s.cur := Option.some.inj (hT.symm.trans (by rw [hh2]; exact hc1))
  have hleft : cellT.left = cell := by rw [hcT, Cell.left_withEntry' hent]
  have hhp : ((T2.setCell a cellT.left).setFrames fs).heap = s.heap := by
    rw [hleft]
    show (T2.heap.setIfInBounds a cell) = s.heap
    rw [hh2, hs1]
    show ((s.heap.setIfInBounds a (cell.withEntry s.cur)).setIfInBounds a cell) = s.heap
    rw [Array.setIfInBounds_setIfInBounds]
    apply Array.ext_getElem?
    intro j
    by_cases hj : a = j
    · subst hj
      simp [hlt]
      exact ((Array.getElem?_eq_some_iff.mp hcell).2).symm
    · rw [Array.getElem?_setIfInBounds_ne hj]
  have hsteps : Steps p.tables e below (s₁.setTop (entryFrameSync m #[.ref a] 1 a)) ((T2.setCell a cellT.left).setFrames fs) := by
    show Steps p.tables e below (s₁.setTop { method := m, pc := 0, locals := #[.val (.ref a)], stack := [], locked := some a, monitorRoom := 1 }) _
    jvm_step X0.here [X0.here.top, hexec, d0, Value.isRef]
    refine st1 _ ?_
    jvm_step X1.here [X1.here.top, hexec, d4, Value.isRef]
    have hna : ¬ (n = a) := fun h => hne h.symm
    show Steps p.tables e below (T1.setTop { method := m, pc := 5, locals := #[.val (.ref a)], stack := [.ref a, .ref n], locked := some a, monitorRoom := 1 }) _
    jvm_step X1.here [X1.here.top, hexec, d5, if_acmp.holds, Value.asRef?, hna]
    jvm_step X1.here [X1.here.top, hexec, d12, Value.isRef]
    refine st2 _ ?_
    jvm_step X2.here [X2.here.top, hexec, d16, hret, X2.method', narrow, Value.isRef]
    refine ⟨rfl, fun acts => ?_⟩
    rw [hdo _ acts rfl rfl rfl]
    exact Steps.refl _
  have hstep : (stepThread p.tables e s).1 = s₁.setTop (entryFrameSync m #[.ref a] 1 a) := by
    have hfull : e.platform.stackFull (s.setFrames below).me (s.setFrames below).frames (c.maxLocals + 2) = false := by
      obtain ⟨-, h1, -, h2⟩ := State.hasRoom_stack hroom
      rw [hf, List.length_cons] at h1
      rw [State.localsInUse_invoking hf hmeth hcode] at h2
      have hw := stackUse_le_stackWeight below
      rw [State.frames_setFrames _ hcur]
      simp only [vmFrameWords] at h2
      exact Platform.stackFull_eq_false (by rw [State.stackLimits_setFrames]; omega) (by rw [State.stackLimits_setFrames]; omega)
    rw [stepThread_invoking hf, (doInvoke_java_sync (s := s.setFrames below) (e := e) (meth := meth) (code := c) (a := a) (cell := cell) hmeth hcode hlocks hst rfl hcell hent.either hfull).1,
      State.setTop_self ht1, hlocals, hs1]
    show (((s.setFrames below).setCell a (cell.withEntry s.cur)).setFrames (.java (entryFrameSync m #[.ref a] 1 a) :: ((s.setFrames below).setCell a (cell.withEntry s.cur)).frames)) = _
    rw [show ((s.setFrames below).setCell a (cell.withEntry s.cur)).frames = below from State.frames_setFrames _ hcur, State.setCell_setFrames, State.setFrames_setFrames]
  obtain ⟨nn, hn, hw⟩ := Steps.head (tb := p.tables) (e := e) ⟨hrun, hable, halone⟩ ⟨[.invoking m #[.ref a]], hf, by simp, by simp⟩ (hstep ▸ hsteps)
  exact ⟨nn, .returned (some (.ref n)), hw, hn ▸ hst9, hn ▸ hend, hn ▸ ⟨rfl, hhp, ⟨_, rfl⟩, hW9, hsb⟩⟩
/-- the call's payer -/
theorem gc_back {l : Launch} {R : Room} {p : Program} {e : Env} {below : List Frame} {s : State} {sargs : Array Value} {a n : Nat} {H : Heap} (hfr : 1 ≤ R.frames) (hlo : 20 ≤ R.locals)
    (hws : ∀ w ∈ gtW [], ∀ a' U, s.WarmedH U.vm → w.before a' U = true) (hini : ∀ a' U, s.WarmedH U.vm → (Cond.initialized "java/lang/Throwable").before a' U = true) :
    vx_Back l R p e below s sargs gcY 3 8 (fun A as => A.cells ≤ R.cells ∧ A.slots ≤ R.slots ∧ gcP a n H as A.U) (fun A _ v B => v = some (.ref n) ∧ B.U.heap = A.U.heap ∧ B.locs = A.locs ∧ B.cells = A.cells ∧ B.slots = A.slots) (fun _ _ _ _ => False) := by
  intro m meth c A g ig mk as X hg hsize hdg hW hn hp
  have h1 : (headSpec (gtW []) { frames := 0, locals := 0, cells := 0, slots := 0 }).pre.before as A.U = true := atoms_intro fun w hw => hws w hw _ _ X.warmed
  have h2 : (Cond.codeSync gcY prog_45_method_8_code 1 gcR).before as A.U = true := hws _ List.mem_cons_self _ _ X.warmed
  have h3 := hini as A.U X.warmed
  obtain ⟨h4, h5, hP⟩ := hp
  obtain ⟨U, Ls, c0, s0⟩ := A
  dsimp only [Pt.U, Pt.locs, Pt.cells, Pt.slots] at h1 h2 h3 h4 h5 hP X hn ⊢
  obtain ⟨methY, cY, hmY, hcY, -, hlY, -⟩ := Cond.codeSync_spec hn h2
  obtain ⟨kY, hkY, -⟩ := className_of_methodNamed hn
  have hinitY : kY.init = .initialized := Cond.initialized_spec (findClass_of_methodNamed hn) hkY h3
  have h : At U g.method c below := by rw [hg]; exact X.here
  have happ : (headSpec (gtW []) { frames := 0, locals := 0, cells := 0, slots := 0 }).appliesLoose gcY e.platform (U.calling g mk as) = true :=
    Spec.appliesLoose_calling (g := g) h hdg hn hkY hinitY
      (X.room_calling (g := g) (R' := (headSpec (gtW []) { frames := 0, locals := 0, cells := 0, slots := 0 }).room) hsize hmY hcY (by show 0 + 1 ≤ R.frames; omega) (by rw [hlY]; show _ + (1 + 11) + 0 ≤ R.locals; omega) (by show c0 + 0 ≤ R.cells; omega) (by show s0 + 0 ≤ R.slots; omega)) h1
  obtain ⟨mid, hmid⟩ := h.above
  have hfr2 : (U.setTop g).frames = (.java g :: mid) ++ below := by rw [State.frames_setTop' g h.top, hmid]; rfl
  have hPc : gcP a n H as (U.calling g mk as) := hP
  obtain ⟨o, s₂, hsteps, -, hend, hq⟩ := Steps.callFree (gc_met l { frames := 0, locals := 0, cells := 0, slots := 0 } a n H) p X.admits X.cas X.clock (acts := []) hfr2 happ hPc trivial
  have hq' : o = .returned (some (.ref n)) ∧ s₂.heap = (U.calling g mk as).heap ∧ FrameEnd (U.calling g mk as) o s₂ [] 0 0 := hq
  obtain ⟨ho, hhp, hfe⟩ := hq'
  rw [State.frames_setTop' g h.top] at hend
  obtain ⟨⟨v, hv⟩, hW₂, e2, q2, q3, q4, q5, q6⟩ := id hfe
  subst hv
  cases ho
  have e3 : s₂ = ({ (U.calling g mk as).setFrames s₂.frames with heap := s₂.heap, slotsUsed := s₂.slotsUsed } : State).setVm s₂.vm := by
    have : s₂ = ({ s₂ with vm := (U.calling g mk as).vm } : State).setVm s₂.vm := rfl
    rw [e2] at this
    exact this
  obtain ⟨c₂, i₂, len₂, hc₂, hd₂, hf₂⟩ := hend
  have hW' : U.WarmedH s₂.vm := hW₂
  have hcc : c₂ = c := by
    have h1 : s₂.code? g.method = U.code? g.method := by
      rw [State.code?_eq, State.code?_eq, hW'.alike.method?]
    exact Option.some.inj (hc₂.symm.trans (h1.trans h.code))
  subst hcc
  have hlen : len₂ = 3 := by rw [hdg] at hd₂; cases hd₂; rfl
  subst hlen
  obtain ⟨g₀, hg0⟩ := Option.isSome_iff_exists.mp h.top
  obtain ⟨r, hr⟩ := State.topJava?_eq_some.mp hg0
  have hs₂ : s₂ = (({ U with heap := s₂.heap, slotsUsed := s₂.slotsUsed } : State).setVm s₂.vm).setTop { g with pc := g.pc + 3, stack := (some (Value.ref n)).toList ++ g.stack } := by
    have hr' : (({ U with heap := s₂.heap, slotsUsed := s₂.slotsUsed } : State).setVm s₂.vm).frames = .java g₀ :: r := hr
    refine e3.trans ?_
    rw [hf₂, State.calling_eq h.top, State.setFrames_setFrames, State.setTop_of_frames _ hr', hr]
    rfl
  have hsame : U.sameButNew ({ U with heap := s₂.heap, slotsUsed := s₂.slotsUsed } : State) [] 0 0 := by
    refine ⟨?_, q2, q3, q4, q5, q6⟩
    obtain ⟨t, ht, -⟩ := State.frames_cons hr
    show ({ U with heap := s₂.heap, slotsUsed := s₂.slotsUsed } : State) = { U.setFrames U.frames with heap := s₂.heap, slotsUsed := s₂.slotsUsed }
    rw [State.setFrames_self ht]
  subst hg
  refine Or.inl ⟨some (.ref n), ⟨(({ U with heap := s₂.heap, slotsUsed := s₂.slotsUsed } : State).setVm s₂.vm), Ls ++ [], c0 + 0, s0 + 0⟩,
    ⟨X.admits, X.cas, X.clock, X.frames, X.room, X.hears, X.method, X.code, (X.here.setHeapUsed s₂.heap s₂.slotsUsed).setVm hW'.alike, X.tail, State.WarmedH.trans X.warmed hW', X.limits, X.bytes, X.same.trans (hsame.setVm s.vm)⟩,
    ⟨rfl, hhp, List.append_nil _, rfl, rfl⟩, ?_⟩
  show Steps p.tables e below _ ((({ U with heap := s₂.heap, slotsUsed := s₂.slotsUsed } : State).setVm s₂.vm).setTop { g with pc := g.pc + 3, stack := (some (Value.ref n)).toList ++ g.stack })
  rw [← hs₂]
  exact hsteps
/-- the row: getCause() on a Lower -/
theorem zr_gc {G : zG} {y : MethodName} {cc : ByteArray} {nL : Nat} {ret : Option FieldType} {hh : List (Nat × Nat × Nat × Nat)} {d pc : Nat} {ls : List (Nat × Value)} {σ : zT} {Q : zO → zT → Prop} {a n idx : Nat} {x2 : MethodName} {st fs : List Value}
    (hd1 : 1 ≤ d) (ha : sF σ a = some (.inr (10, .ref n :: fs))) (hne : a ≠ n) (hx : x2 = ⟨"ColumnarPress$Lower", "getCause", "()Ljava/lang/Throwable;"⟩) (h1 : Cond.methodLink y.cls idx x2 ∈ lw_all) (hw : (st.map fun v => v.category).sum ≤ 8) (hdg : decode cc pc = .ok (.invokevirtual idx, 3))
    (k : zR G y cc nL ret hh d (pc + 3) ls (.ref n :: st) σ Q) : zR G y cc nL ret hh d pc ls (.ref a :: st) σ Q := by
  subst hx
  obtain ⟨o, σ', q, k1, k2, k3⟩ := k
  refine ⟨o, σ', q, k1, k2, fun p l e R s m args below meth c H locs cells slots arr M N => ?_⟩
  have hl := N.hl
  have hR := N.rel
  have n1 := N.c
  have n2 := N.sl
  have hat := hR.at (.new ha)
  obtain ⟨r, hr0, cell, q1, q2, q3, q4⟩ := hat
  have hr9 : r = (RX10, TX10, 6) := (Option.some.inj hr0).symm
  subst hr9
  have hmo : cell.monitor = {} := (hR.2.2.2 a _ ha).2.2 _ rfl cell q1
  obtain ⟨hS, hfc, kC, hkC, hkind⟩ := M.K.1.1 10 (RX10, TX10, 6) rfl
  obtain ⟨cf, kf, fi, f, hi, hsl⟩ := hS 0 (by decide)
  have hfs0 := (u_facts hfc hkC (u_lays M.ws in_X10 (k := 0) (by decide)) hi).1
  have hslot : cell.slots[f.slot]? = some (.ref n) := by rw [hsl]; exact q4 0 (by decide)
  have hcls : s.vm.findClass "ColumnarPress$Lower" = some cell.cls := by rw [q2]; exact hfc
  have hWs : ∀ w ∈ gtW [], ∀ a' U, s.WarmedH U.vm → w.before a' U = true := fun w hw a' U hU => by
    unfold gtW at hw
    simp only [List.mem_cons, List.not_mem_nil, or_false] at hw
    rcases hw with e | e | e
    · rw [e]; exact pay_in M.ws (lw_good (fun w hw => by rw [List.mem_singleton.mp hw]; exact q1499)) _ List.mem_cons_self a' U hU
    · rw [e]; exact pay_in M.ws (lw_good (fun w hw => by rw [List.mem_singleton.mp hw]; exact q1498)) _ List.mem_cons_self a' U hU
    · rw [e]; exact pay_in M.ws (lw_good (fun w hw => by rw [List.mem_singleton.mp hw]; exact q738)) _ List.mem_cons_self a' U hU
  have f9 := M.fr
  have g9 := M.lo
  intro T hT X
  subst hT
  have hK := gc_back (l := l) (R := R) (p := p) (e := e) (below := below) (s := s) (sargs := args) (a := a) (n := n) (H := T.heap) (by omega) (by omega) hWs (fun a' U hU => pay_in M.ws (lw_good (fun w hw => by rw [List.mem_singleton.mp hw]; exact q63)) _ List.mem_cons_self a' U hU)
  obtain ⟨r0, rm, hn, hrm, hstR, hsigR⟩ := va_Decl.abs (M.K.2.1 _ q1496 rfl)
  obtain ⟨cn, ck, r1, hcn, hck, hni, hf, hn1⟩ := Cond.sameMethod_found (M.ws _ q1495)
  cases hn.symm.trans hn1
  obtain ⟨mk, methM, hnamed, hmethM, -, habM⟩ := Cond.instanceMethod_spec (M.ws _ q1498)
  obtain ⟨c2, r2, m2, p1, p2, p3, p4, kP, hkP, hkPi⟩ := Cond.selects_spec (M.ws _ q1497)
  cases hcls.symm.trans p1
  cases hf.symm.trans p2
  cases hnamed.symm.trans p3
  have hselP : selectMethod e.platform s.vm cell.cls r0 = .method mk := by rw [Launch.admits_selectMethod X.admits]; exact p4
  obtain ⟨vm₁, X₁, hstep₁⟩ := X.invokevirtualUp M.x M.own (M.ws _ h1) (M.ws _ q1495) (by decide) hn hrm hstR (a := a) (cell := cell) q1
    (fun z h => by rw [q3] at h; cases h) hselP hmethM habM hkP hkPi (g := F0 m pc arr (.ref a :: st)) rfl (argsL := []) (rest := st) (by
      have h9 : parseMethodDescriptor "()Ljava/lang/Throwable;" = some rm.sig := hsigR
      have h8 : (parseMethodDescriptor "()Ljava/lang/Throwable;").map (fun d => d.parameters.length) = some 0 := by decide +kernel
      rw [h9] at h8
      exact (Option.some.inj h8).symm) rfl (by rw [M.b]; exact hdg)
  obtain ⟨kf', hi', -⟩ := State.fieldFound?_setVm X₁.warmed.alike hi
  rcases hK m meth c ⟨T.setVm vm₁, locs, cells, slots⟩ { F0 m pc arr (.ref a :: st) with stack := st } (.invokevirtual idx) mk #[.ref a] X₁ rfl (hl.1.trans M.ml.symm) (by rw [M.b]; exact hdg) (lv_room hw) (X₁.named hnamed) ⟨by show cells ≤ R.cells; omega, by show slots ≤ R.slots; omega, rfl, hne, rfl, cell, cf, kf', fi, f, q1, hmo, by rw [q3]; decide, hi', hfs0, hslot⟩ with ⟨v, B, X', ⟨hv, hheap, hlocs, hcells, hslots⟩, hsteps⟩ | ⟨q, B, X', hpost, hsteps⟩
  · obtain ⟨U', l2, c2, s2⟩ := B
    dsimp only [Pt.U, Pt.locs, Pt.cells, Pt.slots] at X' hheap hlocs hcells hslots hsteps
    subst hlocs; subst hcells; subst hslots; subst hv
    obtain ⟨t, b1, b2⟩ := k3 p l e R s m args below meth c _ _ _ _ arr M N U' hheap X'
    exact ⟨t, hstep₁ _ fun acts => by rw [doInvoke_state]; exact hsteps.trans b1, b2⟩
  · cases hpost
end zyCause
