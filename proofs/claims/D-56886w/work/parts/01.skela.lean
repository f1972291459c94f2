-- ===== PART A: goes FIRST, ahead of the names: the tables' words, and 'selects' of the private methods out of them =====
/-- a private method of a class that the tables say can be made, by its rows of tables_1 -/
def lw_okq (q : MethodName × Nat) : Prop := (q.1.cls ≠ "java/lang/invoke/MethodHandle" ∧ q.1.cls ≠ "java/lang/invoke/VarHandle") ∧ Cond.instantiable q.1.cls q.2 ∈ tables_1 ∧ Cond.privateMethod q.1 ∈ tables_1 ∧ Cond.instanceMethod q.1 ∈ tables_1
set_option maxRecDepth 100000
theorem lw_t1 {w : Cond} (h : w ∈ tables_1_1) : w ∈ tables_1 := List.mem_append_left _ h
theorem lw_t2 {w : Cond} (h : w ∈ tables_1_2) : w ∈ tables_1 := List.mem_append_right _ (List.mem_append_left _ h)
theorem lw_t3 {w : Cond} (h : w ∈ tables_1_3) : w ∈ tables_1 := List.mem_append_right _ (List.mem_append_right _ (List.mem_append_left _ h))
theorem lw_t4 {w : Cond} (h : w ∈ tables_1_4) : w ∈ tables_1 := List.mem_append_right _ (List.mem_append_right _ (List.mem_append_right _ (List.mem_append_left _ h)))
theorem lw_t5 {w : Cond} (h : w ∈ tables_1_5) : w ∈ tables_1 := List.mem_append_right _ (List.mem_append_right _ (List.mem_append_right _ (List.mem_append_right _ (List.mem_append_left _ h))))
theorem lw_t6 {w : Cond} (h : w ∈ tables_1_6) : w ∈ tables_1 := List.mem_append_right _ (List.mem_append_right _ (List.mem_append_right _ (List.mem_append_right _ (List.mem_append_right _ (List.mem_append_left _ h)))))
theorem lw_t7 {w : Cond} (h : w ∈ tables_1_7) : w ∈ tables_1 := List.mem_append_right _ (List.mem_append_right _ (List.mem_append_right _ (List.mem_append_right _ (List.mem_append_right _ (List.mem_append_right _ (List.mem_append_left _ h))))))
theorem lw_t8 {w : Cond} (h : w ∈ tables_1_8) : w ∈ tables_1 := List.mem_append_right _ (List.mem_append_right _ (List.mem_append_right _ (List.mem_append_right _ (List.mem_append_right _ (List.mem_append_right _ (List.mem_append_right _ (List.mem_append_left _ h)))))))
theorem lw_t9 {w : Cond} (h : w ∈ tables_1_9) : w ∈ tables_1 := List.mem_append_right _ (List.mem_append_right _ (List.mem_append_right _ (List.mem_append_right _ (List.mem_append_right _ (List.mem_append_right _ (List.mem_append_right _ (List.mem_append_right _ (List.mem_append_left _ h))))))))
theorem lw_t10 {w : Cond} (h : w ∈ tables_1_10) : w ∈ tables_1 := List.mem_append_right _ (List.mem_append_right _ (List.mem_append_right _ (List.mem_append_right _ (List.mem_append_right _ (List.mem_append_right _ (List.mem_append_right _ (List.mem_append_right _ (List.mem_append_right _ (List.mem_append_left _ h)))))))))
theorem lw_t11 {w : Cond} (h : w ∈ tables_1_11) : w ∈ tables_1 := List.mem_append_right _ (List.mem_append_right _ (List.mem_append_right _ (List.mem_append_right _ (List.mem_append_right _ (List.mem_append_right _ (List.mem_append_right _ (List.mem_append_right _ (List.mem_append_right _ (List.mem_append_right _ (List.mem_append_left _ h))))))))))
theorem lw_t12 {w : Cond} (h : w ∈ tables_1_12) : w ∈ tables_1 := List.mem_append_right _ (List.mem_append_right _ (List.mem_append_right _ (List.mem_append_right _ (List.mem_append_right _ (List.mem_append_right _ (List.mem_append_right _ (List.mem_append_right _ (List.mem_append_right _ (List.mem_append_right _ (List.mem_append_right _ h))))))))))
theorem lw_p0 : lw_okq (⟨"java/util/ArrayList$SubList", "checkForComodification", "()V"⟩, 5) := ⟨⟨by decide +kernel, by decide +kernel⟩, lw_t1 (List.mem_of_getElem? (i := 124) rfl), lw_t1 (List.mem_of_getElem? (i := 122) rfl), lw_t1 (List.mem_of_getElem? (i := 123) rfl)⟩
theorem lw_p1 : lw_okq (⟨"java/util/ArrayList", "add", "(Ljava/lang/Object;[Ljava/lang/Object;I)V"⟩, 3) := ⟨⟨by decide +kernel, by decide +kernel⟩, lw_t1 (List.mem_of_getElem? (i := 63) rfl), lw_t2 (List.mem_of_getElem? (i := 69) rfl), lw_t2 (List.mem_of_getElem? (i := 70) rfl)⟩
theorem lw_p2 : lw_okq (⟨"java/util/ArrayList", "grow", "()[Ljava/lang/Object;"⟩, 3) := ⟨⟨by decide +kernel, by decide +kernel⟩, lw_t1 (List.mem_of_getElem? (i := 63) rfl), lw_t2 (List.mem_of_getElem? (i := 73) rfl), lw_t2 (List.mem_of_getElem? (i := 74) rfl)⟩
theorem lw_p3 : lw_okq (⟨"java/util/ArrayList", "grow", "(I)[Ljava/lang/Object;"⟩, 3) := ⟨⟨by decide +kernel, by decide +kernel⟩, lw_t1 (List.mem_of_getElem? (i := 63) rfl), lw_t2 (List.mem_of_getElem? (i := 77) rfl), lw_t2 (List.mem_of_getElem? (i := 78) rfl)⟩
theorem lw_p4 : lw_okq (⟨"java/util/ArrayList", "rangeCheckForAdd", "(I)V"⟩, 3) := ⟨⟨by decide +kernel, by decide +kernel⟩, lw_t1 (List.mem_of_getElem? (i := 63) rfl), lw_t2 (List.mem_of_getElem? (i := 163) rfl), lw_t2 (List.mem_of_getElem? (i := 164) rfl)⟩
theorem lw_p5 : lw_okq (⟨"java/lang/Throwable", "fillInStackTrace", "(I)Ljava/lang/Throwable;"⟩, 6) := ⟨⟨by decide +kernel, by decide +kernel⟩, lw_t2 (List.mem_of_getElem? (i := 211) rfl), lw_t2 (List.mem_of_getElem? (i := 209) rfl), lw_t2 (List.mem_of_getElem? (i := 210) rfl)⟩
theorem lw_p6 : lw_okq (⟨"java/util/ArrayList", "outOfBoundsMsg", "(I)Ljava/lang/String;"⟩, 3) := ⟨⟨by decide +kernel, by decide +kernel⟩, lw_t1 (List.mem_of_getElem? (i := 63) rfl), lw_t2 (List.mem_of_getElem? (i := 214) rfl), lw_t2 (List.mem_of_getElem? (i := 215) rfl)⟩
theorem lw_p7 : lw_okq (⟨"java/util/ArrayList$SubList", "rangeCheckForAdd", "(I)V"⟩, 5) := ⟨⟨by decide +kernel, by decide +kernel⟩, lw_t1 (List.mem_of_getElem? (i := 124) rfl), lw_t4 (List.mem_of_getElem? (i := 12) rfl), lw_t4 (List.mem_of_getElem? (i := 13) rfl)⟩
theorem lw_p8 : lw_okq (⟨"java/util/ArrayList$SubList", "outOfBoundsMsg", "(I)Ljava/lang/String;"⟩, 5) := ⟨⟨by decide +kernel, by decide +kernel⟩, lw_t1 (List.mem_of_getElem? (i := 124) rfl), lw_t4 (List.mem_of_getElem? (i := 17) rfl), lw_t4 (List.mem_of_getElem? (i := 18) rfl)⟩
theorem lw_p9 : lw_okq (⟨"java/util/ArrayList$SubList", "updateSizeAndModCount", "(I)V"⟩, 5) := ⟨⟨by decide +kernel, by decide +kernel⟩, lw_t1 (List.mem_of_getElem? (i := 124) rfl), lw_t4 (List.mem_of_getElem? (i := 30) rfl), lw_t4 (List.mem_of_getElem? (i := 31) rfl)⟩
theorem lw_p10 : lw_okq (⟨"ColumnarPress$Layout", "lay", "(LColumnarPress$Box;I)V"⟩, 3) := ⟨⟨by decide +kernel, by decide +kernel⟩, lw_t5 (List.mem_of_getElem? (i := 70) rfl), lw_t5 (List.mem_of_getElem? (i := 102) rfl), lw_t5 (List.mem_of_getElem? (i := 103) rfl)⟩
theorem lw_p11 : lw_okq (⟨"ColumnarPress$Layout", "layRow", "(LColumnarPress$Box;)V"⟩, 3) := ⟨⟨by decide +kernel, by decide +kernel⟩, lw_t5 (List.mem_of_getElem? (i := 70) rfl), lw_t5 (List.mem_of_getElem? (i := 106) rfl), lw_t5 (List.mem_of_getElem? (i := 107) rfl)⟩
theorem lw_p12 : lw_okq (⟨"ColumnarPress$Layout", "grow", "(Ljava/util/List;[II)V"⟩, 3) := ⟨⟨by decide +kernel, by decide +kernel⟩, lw_t5 (List.mem_of_getElem? (i := 70) rfl), lw_t5 (List.mem_of_getElem? (i := 171) rfl), lw_t5 (List.mem_of_getElem? (i := 172) rfl)⟩
theorem lw_p13 : lw_okq (⟨"ColumnarPress$Layout", "shrink", "(Ljava/util/List;[II)V"⟩, 3) := ⟨⟨by decide +kernel, by decide +kernel⟩, lw_t5 (List.mem_of_getElem? (i := 70) rfl), lw_t5 (List.mem_of_getElem? (i := 181) rfl), lw_t5 (List.mem_of_getElem? (i := 182) rfl)⟩
theorem lw_p14 : lw_okq (⟨"ColumnarPress$Layout", "lose", "(Ljava/util/List;[I[Z[III)V"⟩, 3) := ⟨⟨by decide +kernel, by decide +kernel⟩, lw_t5 (List.mem_of_getElem? (i := 70) rfl), lw_t5 (List.mem_of_getElem? (i := 186) rfl), lw_t5 (List.mem_of_getElem? (i := 187) rfl)⟩
theorem lw_p15 : lw_okq (⟨"ColumnarPress$Layout", "put", "(LColumnarPress$Box;II)V"⟩, 3) := ⟨⟨by decide +kernel, by decide +kernel⟩, lw_t5 (List.mem_of_getElem? (i := 70) rfl), lw_t5 (List.mem_of_getElem? (i := 190) rfl), lw_t5 (List.mem_of_getElem? (i := 191) rfl)⟩
def lw_privs_1 : List (MethodName × Nat) := [(⟨"java/util/ArrayList$SubList", "checkForComodification", "()V"⟩, 5), (⟨"java/util/ArrayList", "add", "(Ljava/lang/Object;[Ljava/lang/Object;I)V"⟩, 3), (⟨"java/util/ArrayList", "grow", "()[Ljava/lang/Object;"⟩, 3), (⟨"java/util/ArrayList", "grow", "(I)[Ljava/lang/Object;"⟩, 3), (⟨"java/util/ArrayList", "rangeCheckForAdd", "(I)V"⟩, 3), (⟨"java/lang/Throwable", "fillInStackTrace", "(I)Ljava/lang/Throwable;"⟩, 6), (⟨"java/util/ArrayList", "outOfBoundsMsg", "(I)Ljava/lang/String;"⟩, 3), (⟨"java/util/ArrayList$SubList", "rangeCheckForAdd", "(I)V"⟩, 5), (⟨"java/util/ArrayList$SubList", "outOfBoundsMsg", "(I)Ljava/lang/String;"⟩, 5), (⟨"java/util/ArrayList$SubList", "updateSizeAndModCount", "(I)V"⟩, 5), (⟨"ColumnarPress$Layout", "lay", "(LColumnarPress$Box;I)V"⟩, 3), (⟨"ColumnarPress$Layout", "layRow", "(LColumnarPress$Box;)V"⟩, 3), (⟨"ColumnarPress$Layout", "grow", "(Ljava/util/List;[II)V"⟩, 3), (⟨"ColumnarPress$Layout", "shrink", "(Ljava/util/List;[II)V"⟩, 3), (⟨"ColumnarPress$Layout", "lose", "(Ljava/util/List;[I[Z[III)V"⟩, 3), (⟨"ColumnarPress$Layout", "put", "(LColumnarPress$Box;II)V"⟩, 3)]
theorem lw_r1 : ∀ q ∈ lw_privs_1, lw_okq q := List.forall_mem_cons.mpr ⟨lw_p0, List.forall_mem_cons.mpr ⟨lw_p1, List.forall_mem_cons.mpr ⟨lw_p2, List.forall_mem_cons.mpr ⟨lw_p3, List.forall_mem_cons.mpr ⟨lw_p4, List.forall_mem_cons.mpr ⟨lw_p5, List.forall_mem_cons.mpr ⟨lw_p6, List.forall_mem_cons.mpr ⟨lw_p7, List.forall_mem_cons.mpr ⟨lw_p8, List.forall_mem_cons.mpr ⟨lw_p9, List.forall_mem_cons.mpr ⟨lw_p10, List.forall_mem_cons.mpr ⟨lw_p11, List.forall_mem_cons.mpr ⟨lw_p12, List.forall_mem_cons.mpr ⟨lw_p13, List.forall_mem_cons.mpr ⟨lw_p14, List.forall_mem_cons.mpr ⟨lw_p15, fun _ h => absurd h List.not_mem_nil⟩⟩⟩⟩⟩⟩⟩⟩⟩⟩⟩⟩⟩⟩⟩⟩
theorem lw_p16 : lw_okq (⟨"ColumnarPress$Box", "isApart", "()Z"⟩, 27) := ⟨⟨by decide +kernel, by decide +kernel⟩, lw_t1 (List.mem_of_getElem? (i := 100) rfl), lw_t5 (List.mem_of_getElem? (i := 198) rfl), lw_t5 (List.mem_of_getElem? (i := 199) rfl)⟩
theorem lw_p17 : lw_okq (⟨"ColumnarPress$Layout", "stretch", "(LColumnarPress$Box;I)V"⟩, 3) := ⟨⟨by decide +kernel, by decide +kernel⟩, lw_t5 (List.mem_of_getElem? (i := 70) rfl), lw_t5 (List.mem_of_getElem? (i := 229) rfl), lw_t5 (List.mem_of_getElem? (i := 230) rfl)⟩
theorem lw_p18 : lw_okq (⟨"ColumnarPress$Layout", "setHeight", "(LColumnarPress$Box;I)V"⟩, 3) := ⟨⟨by decide +kernel, by decide +kernel⟩, lw_t5 (List.mem_of_getElem? (i := 70) rfl), lw_t5 (List.mem_of_getElem? (i := 233) rfl), lw_t5 (List.mem_of_getElem? (i := 234) rfl)⟩
theorem lw_p19 : lw_okq (⟨"ColumnarPress$Layout", "layGrid", "(LColumnarPress$Box;)V"⟩, 3) := ⟨⟨by decide +kernel, by decide +kernel⟩, lw_t5 (List.mem_of_getElem? (i := 70) rfl), lw_t5 (List.mem_of_getElem? (i := 237) rfl), lw_t5 (List.mem_of_getElem? (i := 238) rfl)⟩
theorem lw_p20 : lw_okq (⟨"ColumnarPress$Layout", "layCells", "(Ljava/util/List;[III)I"⟩, 3) := ⟨⟨by decide +kernel, by decide +kernel⟩, lw_t5 (List.mem_of_getElem? (i := 70) rfl), lw_t6 (List.mem_of_getElem? (i := 64) rfl), lw_t6 (List.mem_of_getElem? (i := 65) rfl)⟩
theorem lw_p21 : lw_okq (⟨"ColumnarPress$Context", "layLines", "(LColumnarPress$Box;II)V"⟩, 3) := ⟨⟨by decide +kernel, by decide +kernel⟩, lw_t6 (List.mem_of_getElem? (i := 69) rfl), lw_t6 (List.mem_of_getElem? (i := 92) rfl), lw_t6 (List.mem_of_getElem? (i := 93) rfl)⟩
theorem lw_p22 : lw_okq (⟨"ColumnarPress$Context", "line", "(LColumnarPress$Box;III)LColumnarPress$Line;"⟩, 3) := ⟨⟨by decide +kernel, by decide +kernel⟩, lw_t6 (List.mem_of_getElem? (i := 69) rfl), lw_t6 (List.mem_of_getElem? (i := 99) rfl), lw_t6 (List.mem_of_getElem? (i := 100) rfl)⟩
theorem lw_p23 : lw_okq (⟨"ColumnarPress$Context", "edges", "(IIIII)LColumnarPress$Edges;"⟩, 3) := ⟨⟨by decide +kernel, by decide +kernel⟩, lw_t6 (List.mem_of_getElem? (i := 69) rfl), lw_t6 (List.mem_of_getElem? (i := 109) rfl), lw_t6 (List.mem_of_getElem? (i := 110) rfl)⟩
theorem lw_p24 : lw_okq (⟨"ColumnarPress$Context", "flow", "(LColumnarPress$Box;II)V"⟩, 3) := ⟨⟨by decide +kernel, by decide +kernel⟩, lw_t6 (List.mem_of_getElem? (i := 69) rfl), lw_t7 (List.mem_of_getElem? (i := 11) rfl), lw_t7 (List.mem_of_getElem? (i := 12) rfl)⟩
theorem lw_p25 : lw_okq (⟨"ColumnarPress$Context", "layFloat", "(LColumnarPress$Box;LColumnarPress$Box;III)V"⟩, 3) := ⟨⟨by decide +kernel, by decide +kernel⟩, lw_t6 (List.mem_of_getElem? (i := 69) rfl), lw_t7 (List.mem_of_getElem? (i := 17) rfl), lw_t7 (List.mem_of_getElem? (i := 18) rfl)⟩
theorem lw_p26 : lw_okq (⟨"ColumnarPress$Context", "lowest", "()I"⟩, 3) := ⟨⟨by decide +kernel, by decide +kernel⟩, lw_t6 (List.mem_of_getElem? (i := 69) rfl), lw_t7 (List.mem_of_getElem? (i := 76) rfl), lw_t7 (List.mem_of_getElem? (i := 77) rfl)⟩
theorem lw_p27 : lw_okq (⟨"ColumnarPress$Context", "layChild", "(LColumnarPress$Box;LColumnarPress$Box;III)V"⟩, 3) := ⟨⟨by decide +kernel, by decide +kernel⟩, lw_t6 (List.mem_of_getElem? (i := 69) rfl), lw_t7 (List.mem_of_getElem? (i := 85) rfl), lw_t7 (List.mem_of_getElem? (i := 86) rfl)⟩
theorem lw_p28 : lw_okq (⟨"ColumnarPress", "box", "(I)LColumnarPress$Box;"⟩, 3) := ⟨⟨by decide +kernel, by decide +kernel⟩, lw_t1 (List.mem_of_getElem? (i := 55) rfl), lw_t7 (List.mem_of_getElem? (i := 138) rfl), lw_t7 (List.mem_of_getElem? (i := 139) rfl)⟩
theorem lw_p29 : lw_okq (⟨"ColumnarPress", "laid", "(I)LColumnarPress$Box;"⟩, 3) := ⟨⟨by decide +kernel, by decide +kernel⟩, lw_t1 (List.mem_of_getElem? (i := 55) rfl), lw_t8 (List.mem_of_getElem? (i := 85) rfl), lw_t8 (List.mem_of_getElem? (i := 86) rfl)⟩
theorem lw_p30 : lw_okq (⟨"ColumnarPress", "linesOf", "(I)Ljava/util/List;"⟩, 3) := ⟨⟨by decide +kernel, by decide +kernel⟩, lw_t1 (List.mem_of_getElem? (i := 55) rfl), lw_t8 (List.mem_of_getElem? (i := 132) rfl), lw_t8 (List.mem_of_getElem? (i := 133) rfl)⟩
theorem lw_p31 : lw_okq (⟨"ColumnarPress", "lineAt", "(II)LColumnarPress$Line;"⟩, 3) := ⟨⟨by decide +kernel, by decide +kernel⟩, lw_t1 (List.mem_of_getElem? (i := 55) rfl), lw_t8 (List.mem_of_getElem? (i := 144) rfl), lw_t8 (List.mem_of_getElem? (i := 145) rfl)⟩
def lw_privs_2 : List (MethodName × Nat) := [(⟨"ColumnarPress$Box", "isApart", "()Z"⟩, 27), (⟨"ColumnarPress$Layout", "stretch", "(LColumnarPress$Box;I)V"⟩, 3), (⟨"ColumnarPress$Layout", "setHeight", "(LColumnarPress$Box;I)V"⟩, 3), (⟨"ColumnarPress$Layout", "layGrid", "(LColumnarPress$Box;)V"⟩, 3), (⟨"ColumnarPress$Layout", "layCells", "(Ljava/util/List;[III)I"⟩, 3), (⟨"ColumnarPress$Context", "layLines", "(LColumnarPress$Box;II)V"⟩, 3), (⟨"ColumnarPress$Context", "line", "(LColumnarPress$Box;III)LColumnarPress$Line;"⟩, 3), (⟨"ColumnarPress$Context", "edges", "(IIIII)LColumnarPress$Edges;"⟩, 3), (⟨"ColumnarPress$Context", "flow", "(LColumnarPress$Box;II)V"⟩, 3), (⟨"ColumnarPress$Context", "layFloat", "(LColumnarPress$Box;LColumnarPress$Box;III)V"⟩, 3), (⟨"ColumnarPress$Context", "lowest", "()I"⟩, 3), (⟨"ColumnarPress$Context", "layChild", "(LColumnarPress$Box;LColumnarPress$Box;III)V"⟩, 3), (⟨"ColumnarPress", "box", "(I)LColumnarPress$Box;"⟩, 3), (⟨"ColumnarPress", "laid", "(I)LColumnarPress$Box;"⟩, 3), (⟨"ColumnarPress", "linesOf", "(I)Ljava/util/List;"⟩, 3), (⟨"ColumnarPress", "lineAt", "(II)LColumnarPress$Line;"⟩, 3)]
theorem lw_r2 : ∀ q ∈ lw_privs_2, lw_okq q := List.forall_mem_cons.mpr ⟨lw_p16, List.forall_mem_cons.mpr ⟨lw_p17, List.forall_mem_cons.mpr ⟨lw_p18, List.forall_mem_cons.mpr ⟨lw_p19, List.forall_mem_cons.mpr ⟨lw_p20, List.forall_mem_cons.mpr ⟨lw_p21, List.forall_mem_cons.mpr ⟨lw_p22, List.forall_mem_cons.mpr ⟨lw_p23, List.forall_mem_cons.mpr ⟨lw_p24, List.forall_mem_cons.mpr ⟨lw_p25, List.forall_mem_cons.mpr ⟨lw_p26, List.forall_mem_cons.mpr ⟨lw_p27, List.forall_mem_cons.mpr ⟨lw_p28, List.forall_mem_cons.mpr ⟨lw_p29, List.forall_mem_cons.mpr ⟨lw_p30, List.forall_mem_cons.mpr ⟨lw_p31, fun _ h => absurd h List.not_mem_nil⟩⟩⟩⟩⟩⟩⟩⟩⟩⟩⟩⟩⟩⟩⟩⟩
theorem lw_p32 : lw_okq (⟨"ColumnarPress$Pages", "walk", "(LColumnarPress$Box;I)V"⟩, 7) := ⟨⟨by decide +kernel, by decide +kernel⟩, lw_t8 (List.mem_of_getElem? (i := 200) rfl), lw_t8 (List.mem_of_getElem? (i := 211) rfl), lw_t8 (List.mem_of_getElem? (i := 212) rfl)⟩
theorem lw_p33 : lw_okq (⟨"ColumnarPress$Pages", "isLower", "(I)Z"⟩, 7) := ⟨⟨by decide +kernel, by decide +kernel⟩, lw_t8 (List.mem_of_getElem? (i := 200) rfl), lw_t8 (List.mem_of_getElem? (i := 220) rfl), lw_t8 (List.mem_of_getElem? (i := 221) rfl)⟩
theorem lw_p34 : lw_okq (⟨"ColumnarPress$Pages", "put", "(LColumnarPress$Box;IIIZ)V"⟩, 7) := ⟨⟨by decide +kernel, by decide +kernel⟩, lw_t8 (List.mem_of_getElem? (i := 200) rfl), lw_t8 (List.mem_of_getElem? (i := 224) rfl), lw_t8 (List.mem_of_getElem? (i := 225) rfl)⟩
theorem lw_p35 : lw_okq (⟨"ColumnarPress$Pages", "mustBreak", "(LColumnarPress$Box;I)Z"⟩, 7) := ⟨⟨by decide +kernel, by decide +kernel⟩, lw_t8 (List.mem_of_getElem? (i := 200) rfl), lw_t8 (List.mem_of_getElem? (i := 228) rfl), lw_t8 (List.mem_of_getElem? (i := 229) rfl)⟩
theorem lw_p36 : lw_okq (⟨"ColumnarPressModel", "isBox", "(I)Z"⟩, 5) := ⟨⟨by decide +kernel, by decide +kernel⟩, lw_t9 (List.mem_of_getElem? (i := 105) rfl), lw_t10 (List.mem_of_getElem? (i := 31) rfl), lw_t10 (List.mem_of_getElem? (i := 32) rfl)⟩
theorem lw_p37 : lw_okq (⟨"ColumnarPressModel", "mark", "(LColumnarPressModel$Box;)V"⟩, 5) := ⟨⟨by decide +kernel, by decide +kernel⟩, lw_t9 (List.mem_of_getElem? (i := 105) rfl), lw_t10 (List.mem_of_getElem? (i := 40) rfl), lw_t10 (List.mem_of_getElem? (i := 41) rfl)⟩
theorem lw_p38 : lw_okq (⟨"ColumnarPressModel", "wrong", "(IZ)I"⟩, 5) := ⟨⟨by decide +kernel, by decide +kernel⟩, lw_t9 (List.mem_of_getElem? (i := 105) rfl), lw_t10 (List.mem_of_getElem? (i := 48) rfl), lw_t10 (List.mem_of_getElem? (i := 49) rfl)⟩
theorem lw_p39 : lw_okq (⟨"ColumnarPressModel", "lays", "(LColumnarPressModel$Box;IZ)V"⟩, 5) := ⟨⟨by decide +kernel, by decide +kernel⟩, lw_t9 (List.mem_of_getElem? (i := 105) rfl), lw_t10 (List.mem_of_getElem? (i := 138) rfl), lw_t10 (List.mem_of_getElem? (i := 139) rfl)⟩
theorem lw_p40 : lw_okq (⟨"ColumnarPressModel", "contents", "(LColumnarPressModel$Box;IILjava/util/List;Z)I"⟩, 5) := ⟨⟨by decide +kernel, by decide +kernel⟩, lw_t9 (List.mem_of_getElem? (i := 105) rfl), lw_t10 (List.mem_of_getElem? (i := 142) rfl), lw_t10 (List.mem_of_getElem? (i := 143) rfl)⟩
theorem lw_p41 : lw_okq (⟨"ColumnarPressModel", "block", "(LColumnarPressModel$Box;IILjava/util/List;Z)I"⟩, 5) := ⟨⟨by decide +kernel, by decide +kernel⟩, lw_t9 (List.mem_of_getElem? (i := 105) rfl), lw_t10 (List.mem_of_getElem? (i := 146) rfl), lw_t10 (List.mem_of_getElem? (i := 147) rfl)⟩
theorem lw_p42 : lw_okq (⟨"ColumnarPressModel", "floats", "(LColumnarPressModel$Box;IIILjava/util/List;Z)V"⟩, 5) := ⟨⟨by decide +kernel, by decide +kernel⟩, lw_t9 (List.mem_of_getElem? (i := 105) rfl), lw_t10 (List.mem_of_getElem? (i := 158) rfl), lw_t10 (List.mem_of_getElem? (i := 159) rfl)⟩
theorem lw_p43 : lw_okq (⟨"ColumnarPressModel", "flows", "(LColumnarPressModel$Box;IIILjava/util/List;Z)V"⟩, 5) := ⟨⟨by decide +kernel, by decide +kernel⟩, lw_t9 (List.mem_of_getElem? (i := 105) rfl), lw_t11 (List.mem_of_getElem? (i := 10) rfl), lw_t11 (List.mem_of_getElem? (i := 11) rfl)⟩
theorem lw_p44 : lw_okq (⟨"ColumnarPressModel", "row", "(LColumnarPressModel$Box;Z)I"⟩, 5) := ⟨⟨by decide +kernel, by decide +kernel⟩, lw_t9 (List.mem_of_getElem? (i := 105) rfl), lw_t11 (List.mem_of_getElem? (i := 46) rfl), lw_t11 (List.mem_of_getElem? (i := 47) rfl)⟩
theorem lw_p45 : lw_okq (⟨"ColumnarPressModel", "inRow", "(Ljava/util/List;[IIIZ)I"⟩, 5) := ⟨⟨by decide +kernel, by decide +kernel⟩, lw_t9 (List.mem_of_getElem? (i := 105) rfl), lw_t11 (List.mem_of_getElem? (i := 64) rfl), lw_t11 (List.mem_of_getElem? (i := 65) rfl)⟩
theorem lw_p46 : lw_okq (⟨"ColumnarPressModel", "grid", "(LColumnarPressModel$Box;Z)I"⟩, 5) := ⟨⟨by decide +kernel, by decide +kernel⟩, lw_t9 (List.mem_of_getElem? (i := 105) rfl), lw_t11 (List.mem_of_getElem? (i := 68) rfl), lw_t11 (List.mem_of_getElem? (i := 69) rfl)⟩
theorem lw_p47 : lw_okq (⟨"ColumnarPressModel", "wrongNow", "(I)I"⟩, 5) := ⟨⟨by decide +kernel, by decide +kernel⟩, lw_t9 (List.mem_of_getElem? (i := 105) rfl), lw_t11 (List.mem_of_getElem? (i := 80) rfl), lw_t11 (List.mem_of_getElem? (i := 81) rfl)⟩
def lw_privs_3 : List (MethodName × Nat) := [(⟨"ColumnarPress$Pages", "walk", "(LColumnarPress$Box;I)V"⟩, 7), (⟨"ColumnarPress$Pages", "isLower", "(I)Z"⟩, 7), (⟨"ColumnarPress$Pages", "put", "(LColumnarPress$Box;IIIZ)V"⟩, 7), (⟨"ColumnarPress$Pages", "mustBreak", "(LColumnarPress$Box;I)Z"⟩, 7), (⟨"ColumnarPressModel", "isBox", "(I)Z"⟩, 5), (⟨"ColumnarPressModel", "mark", "(LColumnarPressModel$Box;)V"⟩, 5), (⟨"ColumnarPressModel", "wrong", "(IZ)I"⟩, 5), (⟨"ColumnarPressModel", "lays", "(LColumnarPressModel$Box;IZ)V"⟩, 5), (⟨"ColumnarPressModel", "contents", "(LColumnarPressModel$Box;IILjava/util/List;Z)I"⟩, 5), (⟨"ColumnarPressModel", "block", "(LColumnarPressModel$Box;IILjava/util/List;Z)I"⟩, 5), (⟨"ColumnarPressModel", "floats", "(LColumnarPressModel$Box;IIILjava/util/List;Z)V"⟩, 5), (⟨"ColumnarPressModel", "flows", "(LColumnarPressModel$Box;IIILjava/util/List;Z)V"⟩, 5), (⟨"ColumnarPressModel", "row", "(LColumnarPressModel$Box;Z)I"⟩, 5), (⟨"ColumnarPressModel", "inRow", "(Ljava/util/List;[IIIZ)I"⟩, 5), (⟨"ColumnarPressModel", "grid", "(LColumnarPressModel$Box;Z)I"⟩, 5), (⟨"ColumnarPressModel", "wrongNow", "(I)I"⟩, 5)]
theorem lw_r3 : ∀ q ∈ lw_privs_3, lw_okq q := List.forall_mem_cons.mpr ⟨lw_p32, List.forall_mem_cons.mpr ⟨lw_p33, List.forall_mem_cons.mpr ⟨lw_p34, List.forall_mem_cons.mpr ⟨lw_p35, List.forall_mem_cons.mpr ⟨lw_p36, List.forall_mem_cons.mpr ⟨lw_p37, List.forall_mem_cons.mpr ⟨lw_p38, List.forall_mem_cons.mpr ⟨lw_p39, List.forall_mem_cons.mpr ⟨lw_p40, List.forall_mem_cons.mpr ⟨lw_p41, List.forall_mem_cons.mpr ⟨lw_p42, List.forall_mem_cons.mpr ⟨lw_p43, List.forall_mem_cons.mpr ⟨lw_p44, List.forall_mem_cons.mpr ⟨lw_p45, List.forall_mem_cons.mpr ⟨lw_p46, List.forall_mem_cons.mpr ⟨lw_p47, fun _ h => absurd h List.not_mem_nil⟩⟩⟩⟩⟩⟩⟩⟩⟩⟩⟩⟩⟩⟩⟩⟩
theorem lw_p48 : lw_okq (⟨"ColumnarPressModel", "wrongText", "(I)I"⟩, 5) := ⟨⟨by decide +kernel, by decide +kernel⟩, lw_t9 (List.mem_of_getElem? (i := 105) rfl), lw_t11 (List.mem_of_getElem? (i := 124) rfl), lw_t11 (List.mem_of_getElem? (i := 125) rfl)⟩
theorem lw_p49 : lw_okq (⟨"ColumnarPressModel", "wrongLine", "(II)I"⟩, 5) := ⟨⟨by decide +kernel, by decide +kernel⟩, lw_t9 (List.mem_of_getElem? (i := 105) rfl), lw_t11 (List.mem_of_getElem? (i := 132) rfl), lw_t11 (List.mem_of_getElem? (i := 133) rfl)⟩
theorem lw_p50 : lw_okq (⟨"ColumnarPressModel", "paged", "(I)Ljava/util/ArrayList;"⟩, 5) := ⟨⟨by decide +kernel, by decide +kernel⟩, lw_t9 (List.mem_of_getElem? (i := 105) rfl), lw_t11 (List.mem_of_getElem? (i := 164) rfl), lw_t11 (List.mem_of_getElem? (i := 165) rfl)⟩
theorem lw_p51 : lw_okq (⟨"java/util/ArrayList", "fastRemove", "([Ljava/lang/Object;I)V"⟩, 3) := ⟨⟨by decide +kernel, by decide +kernel⟩, lw_t1 (List.mem_of_getElem? (i := 63) rfl), lw_t12 (List.mem_of_getElem? (i := 60) rfl), lw_t12 (List.mem_of_getElem? (i := 61) rfl)⟩
def lw_privs_4 : List (MethodName × Nat) := [(⟨"ColumnarPressModel", "wrongText", "(I)I"⟩, 5), (⟨"ColumnarPressModel", "wrongLine", "(II)I"⟩, 5), (⟨"ColumnarPressModel", "paged", "(I)Ljava/util/ArrayList;"⟩, 5), (⟨"java/util/ArrayList", "fastRemove", "([Ljava/lang/Object;I)V"⟩, 3)]
theorem lw_r4 : ∀ q ∈ lw_privs_4, lw_okq q := List.forall_mem_cons.mpr ⟨lw_p48, List.forall_mem_cons.mpr ⟨lw_p49, List.forall_mem_cons.mpr ⟨lw_p50, List.forall_mem_cons.mpr ⟨lw_p51, fun _ h => absurd h List.not_mem_nil⟩⟩⟩⟩
def lw_privs : List (MethodName × Nat) := lw_privs_1 ++ (lw_privs_2 ++ (lw_privs_3 ++ (lw_privs_4)))
def lw_tbl : List Cond := k2_sels lw_privs ++ tables_1
theorem lw_privs_ok : ∀ q ∈ lw_privs, lw_okq q := by
  show ∀ q ∈ lw_privs_1 ++ (lw_privs_2 ++ (lw_privs_3 ++ (lw_privs_4))), lw_okq q
  exact List.forall_mem_append.mpr ⟨lw_r1, List.forall_mem_append.mpr ⟨lw_r2, List.forall_mem_append.mpr ⟨lw_r3, lw_r4⟩⟩⟩
-- ===== ONE list of words for every method: the tables' words that hold all through a run =====
def lw_all : List Cond := lw_tbl.filter goodWord
/-- a word of the tables by its place: claim/WORDS.tsv -/
theorem lw_w {w : Cond} (i : Nat) (h : lw_tbl[i]? = some w) (g : goodWord w = true) : w ∈ lw_all := List.mem_filter.mpr ⟨List.mem_of_getElem? h, g⟩
theorem lw_all_tbl {w : Cond} (h : w ∈ lw_all) : w ∈ lw_tbl := (List.mem_filter.mp h).1
theorem lw_self : GoodIn lw_all lw_all := fun w h => ⟨h, good_of_word (List.mem_filter.mp h).2⟩
/-- a class's field words, by their places -/
theorem lw_in (ws : List Cond) (ps : List Nat) (hp : ws = ps.filterMap (fun i => lw_tbl[i]?)) (hg : ws.all goodWord = true) : ∀ w ∈ ws, w ∈ lw_all := by
  intro w h
  have h1 := List.all_eq_true.mp hg w h
  rw [hp] at h
  obtain ⟨i, -, hi⟩ := List.mem_filterMap.mp h
  exact lw_w i hi h1
/-- the words of a contract for the method y with code b, L locals, answer r -/
abbrev ws_ (y : MethodName) (b : ByteArray) (L : Nat) (r : Option FieldType) : List Cond := Cond.code y b L r :: lw_all
theorem lw_meth {y : MethodName} {b : ByteArray} {L : Nat} {r : Option FieldType} (h : Cond.code y b L r ∈ lw_all) : GoodIn lw_all (ws_ y b L r) := by
  intro w hw
  rcases List.mem_cons.mp hw with e | e
  · rw [e]
    exact lw_self _ h
  · exact lw_self _ e
theorem lw_app {a c : List Cond} (ha : ∀ w ∈ a, w ∈ lw_all) (hc : GoodIn lw_all c) : GoodIn lw_all (a ++ c) := by
  intro w hw
  rcases List.mem_append.mp hw with e | e
  · exact lw_self w (ha w e)
  · exact hc w e
/-- what a call through an object asks: cwV n hts (lw_V ..) -/
theorem lw_V {own : String} {idx : Nat} {C : String} {y : MethodName} {b : ByteArray} {L : Nat} {r : Option FieldType} (h1 : Cond.methodLink own idx y ∈ lw_all) (h2 : Cond.instanceMethod y ∈ lw_all) (h3 : Cond.selects C y y ∈ lw_all) (h4 : Cond.initialized C ∈ lw_all) (h5 : Cond.code y b L r ∈ lw_all) : GoodIn lw_all (wsV own idx C y (ws_ y b L r)) := by
  refine lw_app ?_ (lw_meth h5)
  intro w hw
  simp only [List.mem_cons, List.not_mem_nil, or_false] at hw
  rcases hw with e | e | e | e
  · rw [e]; exact h1
  · rw [e]; exact h2
  · rw [e]; exact h3
  · rw [e]; exact h4
/-- what a static call asks: va_cwS n hts (lw_S ..) -/
theorem lw_S {own : String} {idx : Nat} {y : MethodName} {b : ByteArray} {L : Nat} {r : Option FieldType} (h1 : Cond.methodLink own idx y ∈ lw_all) (h2 : Cond.static y ∈ lw_all) (h3 : Cond.initialized y.cls ∈ lw_all) (h4 : Cond.code y b L r ∈ lw_all) : GoodIn lw_all (va_wsS own idx y (ws_ y b L r)) := by
  refine lw_app ?_ (lw_meth h4)
  intro w hw
  simp only [List.mem_cons, List.not_mem_nil, or_false] at hw
  rcases hw with e | e | e
  · rw [e]; exact h1
  · rw [e]; exact h2
  · rw [e]; exact h3
/-- the words of a contract for a method WITH HANDLERS (hh: its table) -/
abbrev wsW_ (y : MethodName) (b : ByteArray) (L : Nat) (r : Option FieldType) (hh : List (Nat × Nat × Nat × Nat)) : List Cond := Cond.codeWith y b L r hh :: lw_all
theorem lw_methW {y : MethodName} {b : ByteArray} {L : Nat} {r : Option FieldType} {hh : List (Nat × Nat × Nat × Nat)} (h : Cond.codeWith y b L r hh ∈ lw_all) : GoodIn lw_all (wsW_ y b L r hh) := by
  intro w hw
  rcases List.mem_cons.mp hw with e | e
  · rw [e]
    exact lw_self _ h
  · exact lw_self _ e
/-- any list of words by their places (lw_in), good -/
theorem lw_good {ws : List Cond} (h : ∀ w ∈ ws, w ∈ lw_all) : GoodIn lw_all ws := fun w hw => lw_self w (h w hw)
/-- what a call of a method with handlers asks: vx_cwVW n hts (lw_VW ..), vx_cwSW n hts (lw_SW ..) -/
theorem lw_VW {own : String} {idx : Nat} {C : String} {y : MethodName} {b : ByteArray} {L : Nat} {r : Option FieldType} {hh : List (Nat × Nat × Nat × Nat)} (h1 : Cond.methodLink own idx y ∈ lw_all) (h2 : Cond.instanceMethod y ∈ lw_all) (h3 : Cond.selects C y y ∈ lw_all) (h4 : Cond.initialized C ∈ lw_all) (h5 : Cond.codeWith y b L r hh ∈ lw_all) : GoodIn lw_all (wsV own idx C y (wsW_ y b L r hh)) := by
  refine lw_app ?_ (lw_methW h5)
  intro w hw
  simp only [List.mem_cons, List.not_mem_nil, or_false] at hw
  rcases hw with e | e | e | e
  · rw [e]; exact h1
  · rw [e]; exact h2
  · rw [e]; exact h3
  · rw [e]; exact h4
theorem lw_SW {own : String} {idx : Nat} {y : MethodName} {b : ByteArray} {L : Nat} {r : Option FieldType} {hh : List (Nat × Nat × Nat × Nat)} (h1 : Cond.methodLink own idx y ∈ lw_all) (h2 : Cond.static y ∈ lw_all) (h3 : Cond.initialized y.cls ∈ lw_all) (h4 : Cond.codeWith y b L r hh ∈ lw_all) : GoodIn lw_all (va_wsS own idx y (wsW_ y b L r hh)) := by
  refine lw_app ?_ (lw_methW h4)
  intro w hw
  simp only [List.mem_cons, List.not_mem_nil, or_false] at hw
  rcases hw with e | e | e
  · rw [e]; exact h1
  · rw [e]; exact h2
  · rw [e]; exact h3
/-- a word by its place in its run of the tables -/
theorem lw_at {r : List Cond} (hr : ∀ w ∈ r, w ∈ lw_tbl) {w : Cond} (i : Nat) (h : r[i]? = some w) : w ∈ lw_tbl := hr w (List.mem_of_getElem? h)
theorem lw_g {w : Cond} (h : w ∈ lw_tbl) (g : goodWord w = true) : w ∈ lw_all := List.mem_filter.mpr ⟨h, g⟩
theorem lw_ms : ∀ w ∈ k2_sels lw_privs, w ∈ lw_tbl := fun w h => show w ∈ k2_sels lw_privs ++ tables_1 from List.mem_append_left _ h
theorem lw_m1 : ∀ w ∈ tables_1_1, w ∈ lw_tbl := fun w h => show w ∈ k2_sels lw_privs ++ tables_1 from List.mem_append_right (k2_sels lw_privs) (show w ∈ tables_1 from List.mem_append_left _ h)
theorem lw_m2 : ∀ w ∈ tables_1_2, w ∈ lw_tbl := fun w h => show w ∈ k2_sels lw_privs ++ tables_1 from List.mem_append_right (k2_sels lw_privs) (show w ∈ tables_1 from List.mem_append_right _ (List.mem_append_left _ h))
theorem lw_m3 : ∀ w ∈ tables_1_3, w ∈ lw_tbl := fun w h => show w ∈ k2_sels lw_privs ++ tables_1 from List.mem_append_right (k2_sels lw_privs) (show w ∈ tables_1 from List.mem_append_right _ (List.mem_append_right _ (List.mem_append_left _ h)))
theorem lw_m4 : ∀ w ∈ tables_1_4, w ∈ lw_tbl := fun w h => show w ∈ k2_sels lw_privs ++ tables_1 from List.mem_append_right (k2_sels lw_privs) (show w ∈ tables_1 from List.mem_append_right _ (List.mem_append_right _ (List.mem_append_right _ (List.mem_append_left _ h))))
theorem lw_m5 : ∀ w ∈ tables_1_5, w ∈ lw_tbl := fun w h => show w ∈ k2_sels lw_privs ++ tables_1 from List.mem_append_right (k2_sels lw_privs) (show w ∈ tables_1 from List.mem_append_right _ (List.mem_append_right _ (List.mem_append_right _ (List.mem_append_right _ (List.mem_append_left _ h)))))
theorem lw_m6 : ∀ w ∈ tables_1_6, w ∈ lw_tbl := fun w h => show w ∈ k2_sels lw_privs ++ tables_1 from List.mem_append_right (k2_sels lw_privs) (show w ∈ tables_1 from List.mem_append_right _ (List.mem_append_right _ (List.mem_append_right _ (List.mem_append_right _ (List.mem_append_right _ (List.mem_append_left _ h))))))
theorem lw_m7 : ∀ w ∈ tables_1_7, w ∈ lw_tbl := fun w h => show w ∈ k2_sels lw_privs ++ tables_1 from List.mem_append_right (k2_sels lw_privs) (show w ∈ tables_1 from List.mem_append_right _ (List.mem_append_right _ (List.mem_append_right _ (List.mem_append_right _ (List.mem_append_right _ (List.mem_append_right _ (List.mem_append_left _ h)))))))
theorem lw_m8 : ∀ w ∈ tables_1_8, w ∈ lw_tbl := fun w h => show w ∈ k2_sels lw_privs ++ tables_1 from List.mem_append_right (k2_sels lw_privs) (show w ∈ tables_1 from List.mem_append_right _ (List.mem_append_right _ (List.mem_append_right _ (List.mem_append_right _ (List.mem_append_right _ (List.mem_append_right _ (List.mem_append_right _ (List.mem_append_left _ h))))))))
theorem lw_m9 : ∀ w ∈ tables_1_9, w ∈ lw_tbl := fun w h => show w ∈ k2_sels lw_privs ++ tables_1 from List.mem_append_right (k2_sels lw_privs) (show w ∈ tables_1 from List.mem_append_right _ (List.mem_append_right _ (List.mem_append_right _ (List.mem_append_right _ (List.mem_append_right _ (List.mem_append_right _ (List.mem_append_right _ (List.mem_append_right _ (List.mem_append_left _ h)))))))))
theorem lw_m10 : ∀ w ∈ tables_1_10, w ∈ lw_tbl := fun w h => show w ∈ k2_sels lw_privs ++ tables_1 from List.mem_append_right (k2_sels lw_privs) (show w ∈ tables_1 from List.mem_append_right _ (List.mem_append_right _ (List.mem_append_right _ (List.mem_append_right _ (List.mem_append_right _ (List.mem_append_right _ (List.mem_append_right _ (List.mem_append_right _ (List.mem_append_right _ (List.mem_append_left _ h))))))))))
theorem lw_m11 : ∀ w ∈ tables_1_11, w ∈ lw_tbl := fun w h => show w ∈ k2_sels lw_privs ++ tables_1 from List.mem_append_right (k2_sels lw_privs) (show w ∈ tables_1 from List.mem_append_right _ (List.mem_append_right _ (List.mem_append_right _ (List.mem_append_right _ (List.mem_append_right _ (List.mem_append_right _ (List.mem_append_right _ (List.mem_append_right _ (List.mem_append_right _ (List.mem_append_right _ (List.mem_append_left _ h)))))))))))
theorem lw_m12 : ∀ w ∈ tables_1_12, w ∈ lw_tbl := fun w h => show w ∈ k2_sels lw_privs ++ tables_1 from List.mem_append_right (k2_sels lw_privs) (show w ∈ tables_1 from List.mem_append_right _ (List.mem_append_right _ (List.mem_append_right _ (List.mem_append_right _ (List.mem_append_right _ (List.mem_append_right _ (List.mem_append_right _ (List.mem_append_right _ (List.mem_append_right _ (List.mem_append_right _ (List.mem_append_right _ h)))))))))))
theorem qs0 : (Cond.selects "java/util/ArrayList$SubList" ⟨"java/util/ArrayList$SubList", "checkForComodification", "()V"⟩ ⟨"java/util/ArrayList$SubList", "checkForComodification", "()V"⟩) ∈ lw_all := lw_g (lw_at lw_ms 0 rfl) rfl
theorem qs1 : (Cond.selects "java/util/ArrayList" ⟨"java/util/ArrayList", "add", "(Ljava/lang/Object;[Ljava/lang/Object;I)V"⟩ ⟨"java/util/ArrayList", "add", "(Ljava/lang/Object;[Ljava/lang/Object;I)V"⟩) ∈ lw_all := lw_g (lw_at lw_ms 1 rfl) rfl
theorem qs2 : (Cond.selects "java/util/ArrayList" ⟨"java/util/ArrayList", "grow", "()[Ljava/lang/Object;"⟩ ⟨"java/util/ArrayList", "grow", "()[Ljava/lang/Object;"⟩) ∈ lw_all := lw_g (lw_at lw_ms 2 rfl) rfl
theorem qs3 : (Cond.selects "java/util/ArrayList" ⟨"java/util/ArrayList", "grow", "(I)[Ljava/lang/Object;"⟩ ⟨"java/util/ArrayList", "grow", "(I)[Ljava/lang/Object;"⟩) ∈ lw_all := lw_g (lw_at lw_ms 3 rfl) rfl
theorem qs4 : (Cond.selects "java/util/ArrayList" ⟨"java/util/ArrayList", "rangeCheckForAdd", "(I)V"⟩ ⟨"java/util/ArrayList", "rangeCheckForAdd", "(I)V"⟩) ∈ lw_all := lw_g (lw_at lw_ms 4 rfl) rfl
theorem qs5 : (Cond.selects "java/lang/Throwable" ⟨"java/lang/Throwable", "fillInStackTrace", "(I)Ljava/lang/Throwable;"⟩ ⟨"java/lang/Throwable", "fillInStackTrace", "(I)Ljava/lang/Throwable;"⟩) ∈ lw_all := lw_g (lw_at lw_ms 5 rfl) rfl
theorem qs6 : (Cond.selects "java/util/ArrayList" ⟨"java/util/ArrayList", "outOfBoundsMsg", "(I)Ljava/lang/String;"⟩ ⟨"java/util/ArrayList", "outOfBoundsMsg", "(I)Ljava/lang/String;"⟩) ∈ lw_all := lw_g (lw_at lw_ms 6 rfl) rfl
theorem qs7 : (Cond.selects "java/util/ArrayList$SubList" ⟨"java/util/ArrayList$SubList", "rangeCheckForAdd", "(I)V"⟩ ⟨"java/util/ArrayList$SubList", "rangeCheckForAdd", "(I)V"⟩) ∈ lw_all := lw_g (lw_at lw_ms 7 rfl) rfl
theorem qs8 : (Cond.selects "java/util/ArrayList$SubList" ⟨"java/util/ArrayList$SubList", "outOfBoundsMsg", "(I)Ljava/lang/String;"⟩ ⟨"java/util/ArrayList$SubList", "outOfBoundsMsg", "(I)Ljava/lang/String;"⟩) ∈ lw_all := lw_g (lw_at lw_ms 8 rfl) rfl
theorem qs9 : (Cond.selects "java/util/ArrayList$SubList" ⟨"java/util/ArrayList$SubList", "updateSizeAndModCount", "(I)V"⟩ ⟨"java/util/ArrayList$SubList", "updateSizeAndModCount", "(I)V"⟩) ∈ lw_all := lw_g (lw_at lw_ms 9 rfl) rfl
theorem qs10 : (Cond.selects "ColumnarPress$Layout" ⟨"ColumnarPress$Layout", "lay", "(LColumnarPress$Box;I)V"⟩ ⟨"ColumnarPress$Layout", "lay", "(LColumnarPress$Box;I)V"⟩) ∈ lw_all := lw_g (lw_at lw_ms 10 rfl) rfl
theorem qs11 : (Cond.selects "ColumnarPress$Layout" ⟨"ColumnarPress$Layout", "layRow", "(LColumnarPress$Box;)V"⟩ ⟨"ColumnarPress$Layout", "layRow", "(LColumnarPress$Box;)V"⟩) ∈ lw_all := lw_g (lw_at lw_ms 11 rfl) rfl
theorem qs12 : (Cond.selects "ColumnarPress$Layout" ⟨"ColumnarPress$Layout", "grow", "(Ljava/util/List;[II)V"⟩ ⟨"ColumnarPress$Layout", "grow", "(Ljava/util/List;[II)V"⟩) ∈ lw_all := lw_g (lw_at lw_ms 12 rfl) rfl
theorem qs13 : (Cond.selects "ColumnarPress$Layout" ⟨"ColumnarPress$Layout", "shrink", "(Ljava/util/List;[II)V"⟩ ⟨"ColumnarPress$Layout", "shrink", "(Ljava/util/List;[II)V"⟩) ∈ lw_all := lw_g (lw_at lw_ms 13 rfl) rfl
theorem qs14 : (Cond.selects "ColumnarPress$Layout" ⟨"ColumnarPress$Layout", "lose", "(Ljava/util/List;[I[Z[III)V"⟩ ⟨"ColumnarPress$Layout", "lose", "(Ljava/util/List;[I[Z[III)V"⟩) ∈ lw_all := lw_g (lw_at lw_ms 14 rfl) rfl
theorem qs15 : (Cond.selects "ColumnarPress$Layout" ⟨"ColumnarPress$Layout", "put", "(LColumnarPress$Box;II)V"⟩ ⟨"ColumnarPress$Layout", "put", "(LColumnarPress$Box;II)V"⟩) ∈ lw_all := lw_g (lw_at lw_ms 15 rfl) rfl
theorem qs16 : (Cond.selects "ColumnarPress$Box" ⟨"ColumnarPress$Box", "isApart", "()Z"⟩ ⟨"ColumnarPress$Box", "isApart", "()Z"⟩) ∈ lw_all := lw_g (lw_at lw_ms 16 rfl) rfl
theorem qs17 : (Cond.selects "ColumnarPress$Layout" ⟨"ColumnarPress$Layout", "stretch", "(LColumnarPress$Box;I)V"⟩ ⟨"ColumnarPress$Layout", "stretch", "(LColumnarPress$Box;I)V"⟩) ∈ lw_all := lw_g (lw_at lw_ms 17 rfl) rfl
theorem qs18 : (Cond.selects "ColumnarPress$Layout" ⟨"ColumnarPress$Layout", "setHeight", "(LColumnarPress$Box;I)V"⟩ ⟨"ColumnarPress$Layout", "setHeight", "(LColumnarPress$Box;I)V"⟩) ∈ lw_all := lw_g (lw_at lw_ms 18 rfl) rfl
theorem qs19 : (Cond.selects "ColumnarPress$Layout" ⟨"ColumnarPress$Layout", "layGrid", "(LColumnarPress$Box;)V"⟩ ⟨"ColumnarPress$Layout", "layGrid", "(LColumnarPress$Box;)V"⟩) ∈ lw_all := lw_g (lw_at lw_ms 19 rfl) rfl
theorem qs20 : (Cond.selects "ColumnarPress$Layout" ⟨"ColumnarPress$Layout", "layCells", "(Ljava/util/List;[III)I"⟩ ⟨"ColumnarPress$Layout", "layCells", "(Ljava/util/List;[III)I"⟩) ∈ lw_all := lw_g (lw_at lw_ms 20 rfl) rfl
theorem qs21 : (Cond.selects "ColumnarPress$Context" ⟨"ColumnarPress$Context", "layLines", "(LColumnarPress$Box;II)V"⟩ ⟨"ColumnarPress$Context", "layLines", "(LColumnarPress$Box;II)V"⟩) ∈ lw_all := lw_g (lw_at lw_ms 21 rfl) rfl
theorem qs22 : (Cond.selects "ColumnarPress$Context" ⟨"ColumnarPress$Context", "line", "(LColumnarPress$Box;III)LColumnarPress$Line;"⟩ ⟨"ColumnarPress$Context", "line", "(LColumnarPress$Box;III)LColumnarPress$Line;"⟩) ∈ lw_all := lw_g (lw_at lw_ms 22 rfl) rfl
theorem qs23 : (Cond.selects "ColumnarPress$Context" ⟨"ColumnarPress$Context", "edges", "(IIIII)LColumnarPress$Edges;"⟩ ⟨"ColumnarPress$Context", "edges", "(IIIII)LColumnarPress$Edges;"⟩) ∈ lw_all := lw_g (lw_at lw_ms 23 rfl) rfl
theorem qs24 : (Cond.selects "ColumnarPress$Context" ⟨"ColumnarPress$Context", "flow", "(LColumnarPress$Box;II)V"⟩ ⟨"ColumnarPress$Context", "flow", "(LColumnarPress$Box;II)V"⟩) ∈ lw_all := lw_g (lw_at lw_ms 24 rfl) rfl
theorem qs25 : (Cond.selects "ColumnarPress$Context" ⟨"ColumnarPress$Context", "layFloat", "(LColumnarPress$Box;LColumnarPress$Box;III)V"⟩ ⟨"ColumnarPress$Context", "layFloat", "(LColumnarPress$Box;LColumnarPress$Box;III)V"⟩) ∈ lw_all := lw_g (lw_at lw_ms 25 rfl) rfl
theorem qs26 : (Cond.selects "ColumnarPress$Context" ⟨"ColumnarPress$Context", "lowest", "()I"⟩ ⟨"ColumnarPress$Context", "lowest", "()I"⟩) ∈ lw_all := lw_g (lw_at lw_ms 26 rfl) rfl
theorem qs27 : (Cond.selects "ColumnarPress$Context" ⟨"ColumnarPress$Context", "layChild", "(LColumnarPress$Box;LColumnarPress$Box;III)V"⟩ ⟨"ColumnarPress$Context", "layChild", "(LColumnarPress$Box;LColumnarPress$Box;III)V"⟩) ∈ lw_all := lw_g (lw_at lw_ms 27 rfl) rfl
theorem qs28 : (Cond.selects "ColumnarPress" ⟨"ColumnarPress", "box", "(I)LColumnarPress$Box;"⟩ ⟨"ColumnarPress", "box", "(I)LColumnarPress$Box;"⟩) ∈ lw_all := lw_g (lw_at lw_ms 28 rfl) rfl
theorem qs29 : (Cond.selects "ColumnarPress" ⟨"ColumnarPress", "laid", "(I)LColumnarPress$Box;"⟩ ⟨"ColumnarPress", "laid", "(I)LColumnarPress$Box;"⟩) ∈ lw_all := lw_g (lw_at lw_ms 29 rfl) rfl
theorem qs30 : (Cond.selects "ColumnarPress" ⟨"ColumnarPress", "linesOf", "(I)Ljava/util/List;"⟩ ⟨"ColumnarPress", "linesOf", "(I)Ljava/util/List;"⟩) ∈ lw_all := lw_g (lw_at lw_ms 30 rfl) rfl
theorem qs31 : (Cond.selects "ColumnarPress" ⟨"ColumnarPress", "lineAt", "(II)LColumnarPress$Line;"⟩ ⟨"ColumnarPress", "lineAt", "(II)LColumnarPress$Line;"⟩) ∈ lw_all := lw_g (lw_at lw_ms 31 rfl) rfl
theorem qs32 : (Cond.selects "ColumnarPress$Pages" ⟨"ColumnarPress$Pages", "walk", "(LColumnarPress$Box;I)V"⟩ ⟨"ColumnarPress$Pages", "walk", "(LColumnarPress$Box;I)V"⟩) ∈ lw_all := lw_g (lw_at lw_ms 32 rfl) rfl
theorem qs33 : (Cond.selects "ColumnarPress$Pages" ⟨"ColumnarPress$Pages", "isLower", "(I)Z"⟩ ⟨"ColumnarPress$Pages", "isLower", "(I)Z"⟩) ∈ lw_all := lw_g (lw_at lw_ms 33 rfl) rfl
theorem qs34 : (Cond.selects "ColumnarPress$Pages" ⟨"ColumnarPress$Pages", "put", "(LColumnarPress$Box;IIIZ)V"⟩ ⟨"ColumnarPress$Pages", "put", "(LColumnarPress$Box;IIIZ)V"⟩) ∈ lw_all := lw_g (lw_at lw_ms 34 rfl) rfl
theorem qs35 : (Cond.selects "ColumnarPress$Pages" ⟨"ColumnarPress$Pages", "mustBreak", "(LColumnarPress$Box;I)Z"⟩ ⟨"ColumnarPress$Pages", "mustBreak", "(LColumnarPress$Box;I)Z"⟩) ∈ lw_all := lw_g (lw_at lw_ms 35 rfl) rfl
theorem qs36 : (Cond.selects "ColumnarPressModel" ⟨"ColumnarPressModel", "isBox", "(I)Z"⟩ ⟨"ColumnarPressModel", "isBox", "(I)Z"⟩) ∈ lw_all := lw_g (lw_at lw_ms 36 rfl) rfl
theorem qs37 : (Cond.selects "ColumnarPressModel" ⟨"ColumnarPressModel", "mark", "(LColumnarPressModel$Box;)V"⟩ ⟨"ColumnarPressModel", "mark", "(LColumnarPressModel$Box;)V"⟩) ∈ lw_all := lw_g (lw_at lw_ms 37 rfl) rfl
theorem qs38 : (Cond.selects "ColumnarPressModel" ⟨"ColumnarPressModel", "wrong", "(IZ)I"⟩ ⟨"ColumnarPressModel", "wrong", "(IZ)I"⟩) ∈ lw_all := lw_g (lw_at lw_ms 38 rfl) rfl
theorem qs39 : (Cond.selects "ColumnarPressModel" ⟨"ColumnarPressModel", "lays", "(LColumnarPressModel$Box;IZ)V"⟩ ⟨"ColumnarPressModel", "lays", "(LColumnarPressModel$Box;IZ)V"⟩) ∈ lw_all := lw_g (lw_at lw_ms 39 rfl) rfl
theorem qs40 : (Cond.selects "ColumnarPressModel" ⟨"ColumnarPressModel", "contents", "(LColumnarPressModel$Box;IILjava/util/List;Z)I"⟩ ⟨"ColumnarPressModel", "contents", "(LColumnarPressModel$Box;IILjava/util/List;Z)I"⟩) ∈ lw_all := lw_g (lw_at lw_ms 40 rfl) rfl
theorem qs41 : (Cond.selects "ColumnarPressModel" ⟨"ColumnarPressModel", "block", "(LColumnarPressModel$Box;IILjava/util/List;Z)I"⟩ ⟨"ColumnarPressModel", "block", "(LColumnarPressModel$Box;IILjava/util/List;Z)I"⟩) ∈ lw_all := lw_g (lw_at lw_ms 41 rfl) rfl
theorem qs42 : (Cond.selects "ColumnarPressModel" ⟨"ColumnarPressModel", "floats", "(LColumnarPressModel$Box;IIILjava/util/List;Z)V"⟩ ⟨"ColumnarPressModel", "floats", "(LColumnarPressModel$Box;IIILjava/util/List;Z)V"⟩) ∈ lw_all := lw_g (lw_at lw_ms 42 rfl) rfl
theorem qs43 : (Cond.selects "ColumnarPressModel" ⟨"ColumnarPressModel", "flows", "(LColumnarPressModel$Box;IIILjava/util/List;Z)V"⟩ ⟨"ColumnarPressModel", "flows", "(LColumnarPressModel$Box;IIILjava/util/List;Z)V"⟩) ∈ lw_all := lw_g (lw_at lw_ms 43 rfl) rfl
theorem qs44 : (Cond.selects "ColumnarPressModel" ⟨"ColumnarPressModel", "row", "(LColumnarPressModel$Box;Z)I"⟩ ⟨"ColumnarPressModel", "row", "(LColumnarPressModel$Box;Z)I"⟩) ∈ lw_all := lw_g (lw_at lw_ms 44 rfl) rfl
theorem qs45 : (Cond.selects "ColumnarPressModel" ⟨"ColumnarPressModel", "inRow", "(Ljava/util/List;[IIIZ)I"⟩ ⟨"ColumnarPressModel", "inRow", "(Ljava/util/List;[IIIZ)I"⟩) ∈ lw_all := lw_g (lw_at lw_ms 45 rfl) rfl
theorem qs46 : (Cond.selects "ColumnarPressModel" ⟨"ColumnarPressModel", "grid", "(LColumnarPressModel$Box;Z)I"⟩ ⟨"ColumnarPressModel", "grid", "(LColumnarPressModel$Box;Z)I"⟩) ∈ lw_all := lw_g (lw_at lw_ms 46 rfl) rfl
theorem qs47 : (Cond.selects "ColumnarPressModel" ⟨"ColumnarPressModel", "wrongNow", "(I)I"⟩ ⟨"ColumnarPressModel", "wrongNow", "(I)I"⟩) ∈ lw_all := lw_g (lw_at lw_ms 47 rfl) rfl
theorem qs48 : (Cond.selects "ColumnarPressModel" ⟨"ColumnarPressModel", "wrongText", "(I)I"⟩ ⟨"ColumnarPressModel", "wrongText", "(I)I"⟩) ∈ lw_all := lw_g (lw_at lw_ms 48 rfl) rfl
theorem qs49 : (Cond.selects "ColumnarPressModel" ⟨"ColumnarPressModel", "wrongLine", "(II)I"⟩ ⟨"ColumnarPressModel", "wrongLine", "(II)I"⟩) ∈ lw_all := lw_g (lw_at lw_ms 49 rfl) rfl
theorem qs50 : (Cond.selects "ColumnarPressModel" ⟨"ColumnarPressModel", "paged", "(I)Ljava/util/ArrayList;"⟩ ⟨"ColumnarPressModel", "paged", "(I)Ljava/util/ArrayList;"⟩) ∈ lw_all := lw_g (lw_at lw_ms 50 rfl) rfl
theorem qs51 : (Cond.selects "java/util/ArrayList" ⟨"java/util/ArrayList", "fastRemove", "([Ljava/lang/Object;I)V"⟩ ⟨"java/util/ArrayList", "fastRemove", "([Ljava/lang/Object;I)V"⟩) ∈ lw_all := lw_g (lw_at lw_ms 51 rfl) rfl
