/-! ColumnarPress -/
set_option maxRecDepth 100000
def RX1 : String := "ColumnarPress"
def TX1 : u_T := fun k => match k with
  | 0 => ("ColumnarPress", "boxes", "Ljava/util/List;", true)
  | 1 => ("ColumnarPress", "laidWidth", "I", false)
  | _ => ("ColumnarPress", "contexts", "I", false)
def tyX1 : Nat → FieldType := fun k => match k with
  | 0 => .object "java/util/List"
  | 1 => .int
  | _ => .int
abbrev wsX10 : List Cond := u_ws RX1 TX1 3
theorem nmX1 : ∀ a, a < 3 → ∀ b, b < 3 → a ≠ b → (TX1 a).2.1 ≠ (TX1 b).2.1 := by decide +kernel
theorem tyX1_ok : ∀ k, k < 3 → parseFieldDescriptor (TX1 k).2.2.1 = some (tyX1 k) := by decide +kernel
abbrev cX1_init : ByteArray := prog_1_method_1_code
def yX1_init : MethodName := ⟨RX1, "<init>", "()V"⟩
def dkwX1_init_1 : List UInt8 := [187, 0, 20, 89, 42, 1, 16, 98, 183, 0, 22, 185, 0, 25, 2, 0, 87, 177]
abbrev dktX1_init_1 : List UInt8 := dkwX1_init_1 ++ []
def dkwX1_init_0 : List UInt8 := [42, 183, 0, 1, 42, 187, 0, 7, 89, 183, 0, 9, 181, 0, 10, 42, 2, 181, 0, 16, 42, 180, 0, 10]
abbrev dktX1_init_0 : List UInt8 := dkwX1_init_0 ++ dktX1_init_1
theorem dksX1_init_0 : cX1_init.data.toList.drop 0 = dktX1_init_0 := by decide +kernel
theorem dksX1_init_1 : cX1_init.data.toList.drop 24 = dktX1_init_1 := dk_seg dksX1_init_0 24 rfl rfl
theorem dX1_init_0 : decode cX1_init 0 = .ok (.aload_n 0, 1) := dk_42 (dk_at dksX1_init_0 0 rfl rfl)
theorem dX1_init_1 : decode cX1_init 1 = .ok (.invokespecial 1, 3) := dk_183 0 1 (dk_at dksX1_init_0 1 rfl rfl)
theorem dX1_init_4 : decode cX1_init 4 = .ok (.aload_n 0, 1) := dk_42 (dk_at dksX1_init_0 4 rfl rfl)
theorem dX1_init_5 : decode cX1_init 5 = .ok (.new 7, 3) := dk_187 0 7 (dk_at dksX1_init_0 5 rfl rfl)
theorem dX1_init_8 : decode cX1_init 8 = .ok (.dup, 1) := dk_89 (dk_at dksX1_init_0 8 rfl rfl)
theorem dX1_init_9 : decode cX1_init 9 = .ok (.invokespecial 9, 3) := dk_183 0 9 (dk_at dksX1_init_0 9 rfl rfl)
theorem dX1_init_12 : decode cX1_init 12 = .ok (.putfield 10, 3) := dk_181 0 10 (dk_at dksX1_init_0 12 rfl rfl)
theorem dX1_init_15 : decode cX1_init 15 = .ok (.aload_n 0, 1) := dk_42 (dk_at dksX1_init_0 15 rfl rfl)
theorem dX1_init_16 : decode cX1_init 16 = .ok (.iconst (-1), 1) := dk_2 (dk_at dksX1_init_0 16 rfl rfl)
theorem dX1_init_17 : decode cX1_init 17 = .ok (.putfield 16, 3) := dk_181 0 16 (dk_at dksX1_init_0 17 rfl rfl)
theorem dX1_init_20 : decode cX1_init 20 = .ok (.aload_n 0, 1) := dk_42 (dk_at dksX1_init_0 20 rfl rfl)
theorem dX1_init_21 : decode cX1_init 21 = .ok (.getfield 10, 3) := dk_180 0 10 (dk_at dksX1_init_0 21 rfl rfl)
theorem dX1_init_24 : decode cX1_init 24 = .ok (.new 20, 3) := dk_187 0 20 (dk_at dksX1_init_1 0 rfl rfl)
theorem dX1_init_27 : decode cX1_init 27 = .ok (.dup, 1) := dk_89 (dk_at dksX1_init_1 3 rfl rfl)
theorem dX1_init_28 : decode cX1_init 28 = .ok (.aload_n 0, 1) := dk_42 (dk_at dksX1_init_1 4 rfl rfl)
theorem dX1_init_29 : decode cX1_init 29 = .ok (.aconst_null, 1) := dk_1 (dk_at dksX1_init_1 5 rfl rfl)
theorem dX1_init_30 : decode cX1_init 30 = .ok (.bipush 98, 2) := dk_16 98 (dk_at dksX1_init_1 6 rfl rfl)
theorem dX1_init_32 : decode cX1_init 32 = .ok (.invokespecial 22, 3) := dk_183 0 22 (dk_at dksX1_init_1 8 rfl rfl)
theorem dX1_init_35 : decode cX1_init 35 = .ok (.invokeinterface 25 2, 5) := by decide +kernel
theorem dX1_init_40 : decode cX1_init 40 = .ok (.pop, 1) := dk_87 (dk_at dksX1_init_1 16 rfl rfl)
theorem dX1_init_41 : decode cX1_init 41 = .ok (.return_, 1) := dk_177 (dk_at dksX1_init_1 17 rfl rfl)
abbrev cX1_contexts : ByteArray := prog_1_method_50_code
def yX1_contexts : MethodName := ⟨RX1, "contexts", "()I"⟩
theorem dX1_contexts_0 : decode cX1_contexts 0 = .ok (.aload_n 0, 1) := by decide +kernel
theorem dX1_contexts_1 : decode cX1_contexts 1 = .ok (.getfield 234, 3) := by decide +kernel
theorem dX1_contexts_4 : decode cX1_contexts 4 = .ok (.ireturn, 1) := by decide +kernel
abbrev cX1_isConsistent : ByteArray := prog_1_method_54_code
def yX1_isConsistent : MethodName := ⟨RX1, "isConsistent", "()Z"⟩
def dkwX1_isConsistent_10 : List UInt8 := [181, 0, 249, 167, 255, 125, 29, 172]
abbrev dktX1_isConsistent_10 : List UInt8 := dkwX1_isConsistent_10 ++ []
def dkwX1_isConsistent_9 : List UInt8 := [180, 0, 91, 185, 0, 46, 1, 0, 160, 0, 7, 4, 167, 0, 4, 3, 126, 62, 25, 5, 25, 6]
abbrev dktX1_isConsistent_9 : List UInt8 := dkwX1_isConsistent_9 ++ dktX1_isConsistent_10
def dkwX1_isConsistent_8 : List UInt8 := [54, 7, 167, 255, 224, 29, 25, 6, 25, 5, 180, 0, 249, 182, 1, 49, 153, 0, 22, 21, 7, 25, 5]
abbrev dktX1_isConsistent_8 : List UInt8 := dkwX1_isConsistent_8 ++ dktX1_isConsistent_9
def dkwX1_isConsistent_7 : List UInt8 := [153, 0, 28, 25, 8, 185, 0, 173, 1, 0, 192, 1, 11, 58, 9, 21, 7, 25, 9, 182, 1, 17, 96]
abbrev dktX1_isConsistent_7 : List UInt8 := dkwX1_isConsistent_7 ++ dktX1_isConsistent_8
def dkwX1_isConsistent_6 : List UInt8 := [58, 6, 3, 54, 7, 25, 6, 180, 1, 1, 185, 0, 164, 1, 0, 58, 8, 25, 8, 185, 0, 168, 1, 0]
abbrev dktX1_isConsistent_6 : List UInt8 := dkwX1_isConsistent_6 ++ dktX1_isConsistent_7
def dkwX1_isConsistent_5 : List UInt8 := [185, 0, 173, 1, 0, 192, 0, 20, 58, 5, 43, 25, 5, 180, 0, 88, 185, 0, 58, 2, 0, 192, 0, 254]
abbrev dktX1_isConsistent_5 : List UInt8 := dkwX1_isConsistent_5 ++ dktX1_isConsistent_6
def dkwX1_isConsistent_4 : List UInt8 := [180, 0, 10, 185, 0, 164, 1, 0, 58, 4, 25, 4, 185, 0, 168, 1, 0, 153, 0, 127, 25, 4]
abbrev dktX1_isConsistent_4 : List UInt8 := dkwX1_isConsistent_4 ++ dktX1_isConsistent_5
def dkwX1_isConsistent_3 : List UInt8 := [167, 255, 215, 187, 0, 225, 89, 42, 4, 183, 0, 227, 77, 44, 42, 180, 0, 16, 182, 0, 230, 4, 62, 42]
abbrev dktX1_isConsistent_3 : List UInt8 := dkwX1_isConsistent_3 ++ dktX1_isConsistent_4
def dkwX1_isConsistent_2 : List UInt8 := [78, 43, 45, 180, 0, 249, 185, 0, 25, 2, 0, 87, 45, 187, 0, 254, 89, 183, 1, 48, 181, 0, 249]
abbrev dktX1_isConsistent_2 : List UInt8 := dkwX1_isConsistent_2 ++ dktX1_isConsistent_3
def dkwX1_isConsistent_1 : List UInt8 := [185, 0, 164, 1, 0, 77, 44, 185, 0, 168, 1, 0, 153, 0, 38, 44, 185, 0, 173, 1, 0, 192, 0, 20]
abbrev dktX1_isConsistent_1 : List UInt8 := dkwX1_isConsistent_1 ++ dktX1_isConsistent_2
def dkwX1_isConsistent_0 : List UInt8 := [42, 180, 0, 16, 2, 160, 0, 5, 4, 172, 187, 0, 7, 89, 183, 0, 9, 76, 42, 180, 0, 10]
abbrev dktX1_isConsistent_0 : List UInt8 := dkwX1_isConsistent_0 ++ dktX1_isConsistent_1
theorem dksX1_isConsistent_0 : cX1_isConsistent.data.toList.drop 0 = dktX1_isConsistent_0 := by decide +kernel
theorem dksX1_isConsistent_1 : cX1_isConsistent.data.toList.drop 22 = dktX1_isConsistent_1 := dk_seg dksX1_isConsistent_0 22 rfl rfl
theorem dksX1_isConsistent_2 : cX1_isConsistent.data.toList.drop 46 = dktX1_isConsistent_2 := dk_seg dksX1_isConsistent_1 24 rfl rfl
theorem dksX1_isConsistent_3 : cX1_isConsistent.data.toList.drop 69 = dktX1_isConsistent_3 := dk_seg dksX1_isConsistent_2 23 rfl rfl
theorem dksX1_isConsistent_4 : cX1_isConsistent.data.toList.drop 93 = dktX1_isConsistent_4 := dk_seg dksX1_isConsistent_3 24 rfl rfl
theorem dksX1_isConsistent_5 : cX1_isConsistent.data.toList.drop 115 = dktX1_isConsistent_5 := dk_seg dksX1_isConsistent_4 22 rfl rfl
theorem dksX1_isConsistent_6 : cX1_isConsistent.data.toList.drop 139 = dktX1_isConsistent_6 := dk_seg dksX1_isConsistent_5 24 rfl rfl
theorem dksX1_isConsistent_7 : cX1_isConsistent.data.toList.drop 163 = dktX1_isConsistent_7 := dk_seg dksX1_isConsistent_6 24 rfl rfl
theorem dksX1_isConsistent_8 : cX1_isConsistent.data.toList.drop 186 = dktX1_isConsistent_8 := dk_seg dksX1_isConsistent_7 23 rfl rfl
theorem dksX1_isConsistent_9 : cX1_isConsistent.data.toList.drop 209 = dktX1_isConsistent_9 := dk_seg dksX1_isConsistent_8 23 rfl rfl
theorem dksX1_isConsistent_10 : cX1_isConsistent.data.toList.drop 231 = dktX1_isConsistent_10 := dk_seg dksX1_isConsistent_9 22 rfl rfl
theorem dX1_isConsistent_0 : decode cX1_isConsistent 0 = .ok (.aload_n 0, 1) := dk_42 (dk_at dksX1_isConsistent_0 0 rfl rfl)
theorem dX1_isConsistent_1 : decode cX1_isConsistent 1 = .ok (.getfield 16, 3) := dk_180 0 16 (dk_at dksX1_isConsistent_0 1 rfl rfl)
theorem dX1_isConsistent_4 : decode cX1_isConsistent 4 = .ok (.iconst (-1), 1) := dk_2 (dk_at dksX1_isConsistent_0 4 rfl rfl)
theorem dX1_isConsistent_5 : decode cX1_isConsistent 5 = .ok (.if_icmp .ne 5, 3) := dk_160 0 5 (dk_at dksX1_isConsistent_0 5 rfl rfl)
theorem dX1_isConsistent_8 : decode cX1_isConsistent 8 = .ok (.iconst 1, 1) := dk_4 (dk_at dksX1_isConsistent_0 8 rfl rfl)
theorem dX1_isConsistent_9 : decode cX1_isConsistent 9 = .ok (.ireturn, 1) := dk_172 (dk_at dksX1_isConsistent_0 9 rfl rfl)
theorem dX1_isConsistent_10 : decode cX1_isConsistent 10 = .ok (.new 7, 3) := dk_187 0 7 (dk_at dksX1_isConsistent_0 10 rfl rfl)
theorem dX1_isConsistent_13 : decode cX1_isConsistent 13 = .ok (.dup, 1) := dk_89 (dk_at dksX1_isConsistent_0 13 rfl rfl)
theorem dX1_isConsistent_14 : decode cX1_isConsistent 14 = .ok (.invokespecial 9, 3) := dk_183 0 9 (dk_at dksX1_isConsistent_0 14 rfl rfl)
theorem dX1_isConsistent_17 : decode cX1_isConsistent 17 = .ok (.astore_n 1, 1) := dk_76 (dk_at dksX1_isConsistent_0 17 rfl rfl)
theorem dX1_isConsistent_18 : decode cX1_isConsistent 18 = .ok (.aload_n 0, 1) := dk_42 (dk_at dksX1_isConsistent_0 18 rfl rfl)
theorem dX1_isConsistent_19 : decode cX1_isConsistent 19 = .ok (.getfield 10, 3) := dk_180 0 10 (dk_at dksX1_isConsistent_0 19 rfl rfl)
theorem dX1_isConsistent_22 : decode cX1_isConsistent 22 = .ok (.invokeinterface 164 1, 5) := by decide +kernel
theorem dX1_isConsistent_27 : decode cX1_isConsistent 27 = .ok (.astore_n 2, 1) := dk_77 (dk_at dksX1_isConsistent_1 5 rfl rfl)
theorem dX1_isConsistent_28 : decode cX1_isConsistent 28 = .ok (.aload_n 2, 1) := dk_44 (dk_at dksX1_isConsistent_1 6 rfl rfl)
theorem dX1_isConsistent_29 : decode cX1_isConsistent 29 = .ok (.invokeinterface 168 1, 5) := by decide +kernel
theorem dX1_isConsistent_34 : decode cX1_isConsistent 34 = .ok (.ifCond .eq 38, 3) := dk_153 0 38 (dk_at dksX1_isConsistent_1 12 rfl rfl)
theorem dX1_isConsistent_37 : decode cX1_isConsistent 37 = .ok (.aload_n 2, 1) := dk_44 (dk_at dksX1_isConsistent_1 15 rfl rfl)
theorem dX1_isConsistent_38 : decode cX1_isConsistent 38 = .ok (.invokeinterface 173 1, 5) := by decide +kernel
theorem dX1_isConsistent_43 : decode cX1_isConsistent 43 = .ok (.checkcast 20, 3) := dk_192 0 20 (dk_at dksX1_isConsistent_1 21 rfl rfl)
theorem dX1_isConsistent_46 : decode cX1_isConsistent 46 = .ok (.astore_n 3, 1) := dk_78 (dk_at dksX1_isConsistent_2 0 rfl rfl)
theorem dX1_isConsistent_47 : decode cX1_isConsistent 47 = .ok (.aload_n 1, 1) := dk_43 (dk_at dksX1_isConsistent_2 1 rfl rfl)
theorem dX1_isConsistent_48 : decode cX1_isConsistent 48 = .ok (.aload_n 3, 1) := dk_45 (dk_at dksX1_isConsistent_2 2 rfl rfl)
theorem dX1_isConsistent_49 : decode cX1_isConsistent 49 = .ok (.getfield 249, 3) := dk_180 0 249 (dk_at dksX1_isConsistent_2 3 rfl rfl)
theorem dX1_isConsistent_52 : decode cX1_isConsistent 52 = .ok (.invokeinterface 25 2, 5) := by decide +kernel
theorem dX1_isConsistent_57 : decode cX1_isConsistent 57 = .ok (.pop, 1) := dk_87 (dk_at dksX1_isConsistent_2 11 rfl rfl)
theorem dX1_isConsistent_58 : decode cX1_isConsistent 58 = .ok (.aload_n 3, 1) := dk_45 (dk_at dksX1_isConsistent_2 12 rfl rfl)
theorem dX1_isConsistent_59 : decode cX1_isConsistent 59 = .ok (.new 254, 3) := dk_187 0 254 (dk_at dksX1_isConsistent_2 13 rfl rfl)
theorem dX1_isConsistent_62 : decode cX1_isConsistent 62 = .ok (.dup, 1) := dk_89 (dk_at dksX1_isConsistent_2 16 rfl rfl)
theorem dX1_isConsistent_63 : decode cX1_isConsistent 63 = .ok (.invokespecial 304, 3) := dk_183 1 48 (dk_at dksX1_isConsistent_2 17 rfl rfl)
theorem dX1_isConsistent_66 : decode cX1_isConsistent 66 = .ok (.putfield 249, 3) := dk_181 0 249 (dk_at dksX1_isConsistent_2 20 rfl rfl)
theorem dX1_isConsistent_69 : decode cX1_isConsistent 69 = .ok (.goto (-41), 3) := dk_167 255 215 (dk_at dksX1_isConsistent_3 0 rfl rfl)
theorem dX1_isConsistent_72 : decode cX1_isConsistent 72 = .ok (.new 225, 3) := dk_187 0 225 (dk_at dksX1_isConsistent_3 3 rfl rfl)
theorem dX1_isConsistent_75 : decode cX1_isConsistent 75 = .ok (.dup, 1) := dk_89 (dk_at dksX1_isConsistent_3 6 rfl rfl)
theorem dX1_isConsistent_76 : decode cX1_isConsistent 76 = .ok (.aload_n 0, 1) := dk_42 (dk_at dksX1_isConsistent_3 7 rfl rfl)
theorem dX1_isConsistent_77 : decode cX1_isConsistent 77 = .ok (.iconst 1, 1) := dk_4 (dk_at dksX1_isConsistent_3 8 rfl rfl)
theorem dX1_isConsistent_78 : decode cX1_isConsistent 78 = .ok (.invokespecial 227, 3) := dk_183 0 227 (dk_at dksX1_isConsistent_3 9 rfl rfl)
theorem dX1_isConsistent_81 : decode cX1_isConsistent 81 = .ok (.astore_n 2, 1) := dk_77 (dk_at dksX1_isConsistent_3 12 rfl rfl)
theorem dX1_isConsistent_82 : decode cX1_isConsistent 82 = .ok (.aload_n 2, 1) := dk_44 (dk_at dksX1_isConsistent_3 13 rfl rfl)
theorem dX1_isConsistent_83 : decode cX1_isConsistent 83 = .ok (.aload_n 0, 1) := dk_42 (dk_at dksX1_isConsistent_3 14 rfl rfl)
theorem dX1_isConsistent_84 : decode cX1_isConsistent 84 = .ok (.getfield 16, 3) := dk_180 0 16 (dk_at dksX1_isConsistent_3 15 rfl rfl)
theorem dX1_isConsistent_87 : decode cX1_isConsistent 87 = .ok (.invokevirtual 230, 3) := dk_182 0 230 (dk_at dksX1_isConsistent_3 18 rfl rfl)
theorem dX1_isConsistent_90 : decode cX1_isConsistent 90 = .ok (.iconst 1, 1) := dk_4 (dk_at dksX1_isConsistent_3 21 rfl rfl)
theorem dX1_isConsistent_91 : decode cX1_isConsistent 91 = .ok (.istore_n 3, 1) := dk_62 (dk_at dksX1_isConsistent_3 22 rfl rfl)
theorem dX1_isConsistent_92 : decode cX1_isConsistent 92 = .ok (.aload_n 0, 1) := dk_42 (dk_at dksX1_isConsistent_3 23 rfl rfl)
theorem dX1_isConsistent_93 : decode cX1_isConsistent 93 = .ok (.getfield 10, 3) := dk_180 0 10 (dk_at dksX1_isConsistent_4 0 rfl rfl)
theorem dX1_isConsistent_96 : decode cX1_isConsistent 96 = .ok (.invokeinterface 164 1, 5) := by decide +kernel
theorem dX1_isConsistent_101 : decode cX1_isConsistent 101 = .ok (.astore 4, 2) := dk_58 4 (dk_at dksX1_isConsistent_4 8 rfl rfl)
theorem dX1_isConsistent_103 : decode cX1_isConsistent 103 = .ok (.aload 4, 2) := dk_25 4 (dk_at dksX1_isConsistent_4 10 rfl rfl)
theorem dX1_isConsistent_105 : decode cX1_isConsistent 105 = .ok (.invokeinterface 168 1, 5) := by decide +kernel
theorem dX1_isConsistent_110 : decode cX1_isConsistent 110 = .ok (.ifCond .eq 127, 3) := dk_153 0 127 (dk_at dksX1_isConsistent_4 17 rfl rfl)
theorem dX1_isConsistent_113 : decode cX1_isConsistent 113 = .ok (.aload 4, 2) := dk_25 4 (dk_at dksX1_isConsistent_4 20 rfl rfl)
theorem dX1_isConsistent_115 : decode cX1_isConsistent 115 = .ok (.invokeinterface 173 1, 5) := by decide +kernel
theorem dX1_isConsistent_120 : decode cX1_isConsistent 120 = .ok (.checkcast 20, 3) := dk_192 0 20 (dk_at dksX1_isConsistent_5 5 rfl rfl)
theorem dX1_isConsistent_123 : decode cX1_isConsistent 123 = .ok (.astore 5, 2) := dk_58 5 (dk_at dksX1_isConsistent_5 8 rfl rfl)
theorem dX1_isConsistent_125 : decode cX1_isConsistent 125 = .ok (.aload_n 1, 1) := dk_43 (dk_at dksX1_isConsistent_5 10 rfl rfl)
theorem dX1_isConsistent_126 : decode cX1_isConsistent 126 = .ok (.aload 5, 2) := dk_25 5 (dk_at dksX1_isConsistent_5 11 rfl rfl)
theorem dX1_isConsistent_128 : decode cX1_isConsistent 128 = .ok (.getfield 88, 3) := dk_180 0 88 (dk_at dksX1_isConsistent_5 13 rfl rfl)
theorem dX1_isConsistent_131 : decode cX1_isConsistent 131 = .ok (.invokeinterface 58 2, 5) := by decide +kernel
theorem dX1_isConsistent_136 : decode cX1_isConsistent 136 = .ok (.checkcast 254, 3) := dk_192 0 254 (dk_at dksX1_isConsistent_5 21 rfl rfl)
theorem dX1_isConsistent_139 : decode cX1_isConsistent 139 = .ok (.astore 6, 2) := dk_58 6 (dk_at dksX1_isConsistent_6 0 rfl rfl)
theorem dX1_isConsistent_141 : decode cX1_isConsistent 141 = .ok (.iconst 0, 1) := dk_3 (dk_at dksX1_isConsistent_6 2 rfl rfl)
theorem dX1_isConsistent_142 : decode cX1_isConsistent 142 = .ok (.istore 7, 2) := dk_54 7 (dk_at dksX1_isConsistent_6 3 rfl rfl)
theorem dX1_isConsistent_144 : decode cX1_isConsistent 144 = .ok (.aload 6, 2) := dk_25 6 (dk_at dksX1_isConsistent_6 5 rfl rfl)
theorem dX1_isConsistent_146 : decode cX1_isConsistent 146 = .ok (.getfield 257, 3) := dk_180 1 1 (dk_at dksX1_isConsistent_6 7 rfl rfl)
theorem dX1_isConsistent_149 : decode cX1_isConsistent 149 = .ok (.invokeinterface 164 1, 5) := by decide +kernel
theorem dX1_isConsistent_154 : decode cX1_isConsistent 154 = .ok (.astore 8, 2) := dk_58 8 (dk_at dksX1_isConsistent_6 15 rfl rfl)
theorem dX1_isConsistent_156 : decode cX1_isConsistent 156 = .ok (.aload 8, 2) := dk_25 8 (dk_at dksX1_isConsistent_6 17 rfl rfl)
theorem dX1_isConsistent_158 : decode cX1_isConsistent 158 = .ok (.invokeinterface 168 1, 5) := by decide +kernel
theorem dX1_isConsistent_163 : decode cX1_isConsistent 163 = .ok (.ifCond .eq 28, 3) := dk_153 0 28 (dk_at dksX1_isConsistent_7 0 rfl rfl)
theorem dX1_isConsistent_166 : decode cX1_isConsistent 166 = .ok (.aload 8, 2) := dk_25 8 (dk_at dksX1_isConsistent_7 3 rfl rfl)
theorem dX1_isConsistent_168 : decode cX1_isConsistent 168 = .ok (.invokeinterface 173 1, 5) := by decide +kernel
theorem dX1_isConsistent_173 : decode cX1_isConsistent 173 = .ok (.checkcast 267, 3) := dk_192 1 11 (dk_at dksX1_isConsistent_7 10 rfl rfl)
theorem dX1_isConsistent_176 : decode cX1_isConsistent 176 = .ok (.astore 9, 2) := dk_58 9 (dk_at dksX1_isConsistent_7 13 rfl rfl)
theorem dX1_isConsistent_178 : decode cX1_isConsistent 178 = .ok (.iload 7, 2) := dk_21 7 (dk_at dksX1_isConsistent_7 15 rfl rfl)
theorem dX1_isConsistent_180 : decode cX1_isConsistent 180 = .ok (.aload 9, 2) := dk_25 9 (dk_at dksX1_isConsistent_7 17 rfl rfl)
theorem dX1_isConsistent_182 : decode cX1_isConsistent 182 = .ok (.invokevirtual 273, 3) := dk_182 1 17 (dk_at dksX1_isConsistent_7 19 rfl rfl)
theorem dX1_isConsistent_185 : decode cX1_isConsistent 185 = .ok (.iadd, 1) := dk_96 (dk_at dksX1_isConsistent_7 22 rfl rfl)
theorem dX1_isConsistent_186 : decode cX1_isConsistent 186 = .ok (.istore 7, 2) := dk_54 7 (dk_at dksX1_isConsistent_8 0 rfl rfl)
theorem dX1_isConsistent_188 : decode cX1_isConsistent 188 = .ok (.goto (-32), 3) := dk_167 255 224 (dk_at dksX1_isConsistent_8 2 rfl rfl)
theorem dX1_isConsistent_191 : decode cX1_isConsistent 191 = .ok (.iload_n 3, 1) := dk_29 (dk_at dksX1_isConsistent_8 5 rfl rfl)
theorem dX1_isConsistent_192 : decode cX1_isConsistent 192 = .ok (.aload 6, 2) := dk_25 6 (dk_at dksX1_isConsistent_8 6 rfl rfl)
theorem dX1_isConsistent_194 : decode cX1_isConsistent 194 = .ok (.aload 5, 2) := dk_25 5 (dk_at dksX1_isConsistent_8 8 rfl rfl)
theorem dX1_isConsistent_196 : decode cX1_isConsistent 196 = .ok (.getfield 249, 3) := dk_180 0 249 (dk_at dksX1_isConsistent_8 10 rfl rfl)
theorem dX1_isConsistent_199 : decode cX1_isConsistent 199 = .ok (.invokevirtual 305, 3) := dk_182 1 49 (dk_at dksX1_isConsistent_8 13 rfl rfl)
theorem dX1_isConsistent_202 : decode cX1_isConsistent 202 = .ok (.ifCond .eq 22, 3) := dk_153 0 22 (dk_at dksX1_isConsistent_8 16 rfl rfl)
theorem dX1_isConsistent_205 : decode cX1_isConsistent 205 = .ok (.iload 7, 2) := dk_21 7 (dk_at dksX1_isConsistent_8 19 rfl rfl)
theorem dX1_isConsistent_207 : decode cX1_isConsistent 207 = .ok (.aload 5, 2) := dk_25 5 (dk_at dksX1_isConsistent_8 21 rfl rfl)
theorem dX1_isConsistent_209 : decode cX1_isConsistent 209 = .ok (.getfield 91, 3) := dk_180 0 91 (dk_at dksX1_isConsistent_9 0 rfl rfl)
theorem dX1_isConsistent_212 : decode cX1_isConsistent 212 = .ok (.invokeinterface 46 1, 5) := by decide +kernel
theorem dX1_isConsistent_217 : decode cX1_isConsistent 217 = .ok (.if_icmp .ne 7, 3) := dk_160 0 7 (dk_at dksX1_isConsistent_9 8 rfl rfl)
theorem dX1_isConsistent_220 : decode cX1_isConsistent 220 = .ok (.iconst 1, 1) := dk_4 (dk_at dksX1_isConsistent_9 11 rfl rfl)
theorem dX1_isConsistent_221 : decode cX1_isConsistent 221 = .ok (.goto 4, 3) := dk_167 0 4 (dk_at dksX1_isConsistent_9 12 rfl rfl)
theorem dX1_isConsistent_224 : decode cX1_isConsistent 224 = .ok (.iconst 0, 1) := dk_3 (dk_at dksX1_isConsistent_9 15 rfl rfl)
theorem dX1_isConsistent_225 : decode cX1_isConsistent 225 = .ok (.iand, 1) := dk_126 (dk_at dksX1_isConsistent_9 16 rfl rfl)
theorem dX1_isConsistent_226 : decode cX1_isConsistent 226 = .ok (.istore_n 3, 1) := dk_62 (dk_at dksX1_isConsistent_9 17 rfl rfl)
theorem dX1_isConsistent_227 : decode cX1_isConsistent 227 = .ok (.aload 5, 2) := dk_25 5 (dk_at dksX1_isConsistent_9 18 rfl rfl)
theorem dX1_isConsistent_229 : decode cX1_isConsistent 229 = .ok (.aload 6, 2) := dk_25 6 (dk_at dksX1_isConsistent_9 20 rfl rfl)
theorem dX1_isConsistent_231 : decode cX1_isConsistent 231 = .ok (.putfield 249, 3) := dk_181 0 249 (dk_at dksX1_isConsistent_10 0 rfl rfl)
theorem dX1_isConsistent_234 : decode cX1_isConsistent 234 = .ok (.goto (-131), 3) := dk_167 255 125 (dk_at dksX1_isConsistent_10 3 rfl rfl)
theorem dX1_isConsistent_237 : decode cX1_isConsistent 237 = .ok (.iload_n 3, 1) := dk_29 (dk_at dksX1_isConsistent_10 6 rfl rfl)
theorem dX1_isConsistent_238 : decode cX1_isConsistent 238 = .ok (.ireturn, 1) := dk_172 (dk_at dksX1_isConsistent_10 7 rfl rfl)
abbrev cX1_items : ByteArray := prog_1_method_26_code
def yX1_items : MethodName := ⟨RX1, "items", "(LColumnarPress$Box;)Ljava/util/List;"⟩
def dkwX1_items_2 : List UInt8 := [185, 0, 25, 2, 0, 87, 167, 255, 222, 43, 176]
abbrev dktX1_items_2 : List UInt8 := dkwX1_items_2 ++ []
def dkwX1_items_1 : List UInt8 := [153, 0, 31, 44, 185, 0, 173, 1, 0, 192, 0, 20, 78, 45, 182, 0, 186, 154, 0, 11, 43, 45]
abbrev dktX1_items_1 : List UInt8 := dkwX1_items_1 ++ dktX1_items_2
def dkwX1_items_0 : List UInt8 := [187, 0, 7, 89, 183, 0, 9, 76, 42, 180, 0, 82, 185, 0, 164, 1, 0, 77, 44, 185, 0, 168, 1, 0]
abbrev dktX1_items_0 : List UInt8 := dkwX1_items_0 ++ dktX1_items_1
theorem dksX1_items_0 : cX1_items.data.toList.drop 0 = dktX1_items_0 := by decide +kernel
theorem dksX1_items_1 : cX1_items.data.toList.drop 24 = dktX1_items_1 := dk_seg dksX1_items_0 24 rfl rfl
theorem dksX1_items_2 : cX1_items.data.toList.drop 46 = dktX1_items_2 := dk_seg dksX1_items_1 22 rfl rfl
theorem dX1_items_0 : decode cX1_items 0 = .ok (.new 7, 3) := dk_187 0 7 (dk_at dksX1_items_0 0 rfl rfl)
theorem dX1_items_3 : decode cX1_items 3 = .ok (.dup, 1) := dk_89 (dk_at dksX1_items_0 3 rfl rfl)
theorem dX1_items_4 : decode cX1_items 4 = .ok (.invokespecial 9, 3) := dk_183 0 9 (dk_at dksX1_items_0 4 rfl rfl)
theorem dX1_items_7 : decode cX1_items 7 = .ok (.astore_n 1, 1) := dk_76 (dk_at dksX1_items_0 7 rfl rfl)
theorem dX1_items_8 : decode cX1_items 8 = .ok (.aload_n 0, 1) := dk_42 (dk_at dksX1_items_0 8 rfl rfl)
theorem dX1_items_9 : decode cX1_items 9 = .ok (.getfield 82, 3) := dk_180 0 82 (dk_at dksX1_items_0 9 rfl rfl)
theorem dX1_items_12 : decode cX1_items 12 = .ok (.invokeinterface 164 1, 5) := by decide +kernel
theorem dX1_items_17 : decode cX1_items 17 = .ok (.astore_n 2, 1) := dk_77 (dk_at dksX1_items_0 17 rfl rfl)
theorem dX1_items_18 : decode cX1_items 18 = .ok (.aload_n 2, 1) := dk_44 (dk_at dksX1_items_0 18 rfl rfl)
theorem dX1_items_19 : decode cX1_items 19 = .ok (.invokeinterface 168 1, 5) := by decide +kernel
theorem dX1_items_24 : decode cX1_items 24 = .ok (.ifCond .eq 31, 3) := dk_153 0 31 (dk_at dksX1_items_1 0 rfl rfl)
theorem dX1_items_27 : decode cX1_items 27 = .ok (.aload_n 2, 1) := dk_44 (dk_at dksX1_items_1 3 rfl rfl)
theorem dX1_items_28 : decode cX1_items 28 = .ok (.invokeinterface 173 1, 5) := by decide +kernel
theorem dX1_items_33 : decode cX1_items 33 = .ok (.checkcast 20, 3) := dk_192 0 20 (dk_at dksX1_items_1 9 rfl rfl)
theorem dX1_items_36 : decode cX1_items 36 = .ok (.astore_n 3, 1) := dk_78 (dk_at dksX1_items_1 12 rfl rfl)
theorem dX1_items_37 : decode cX1_items 37 = .ok (.aload_n 3, 1) := dk_45 (dk_at dksX1_items_1 13 rfl rfl)
theorem dX1_items_38 : decode cX1_items 38 = .ok (.invokevirtual 186, 3) := dk_182 0 186 (dk_at dksX1_items_1 14 rfl rfl)
theorem dX1_items_41 : decode cX1_items 41 = .ok (.ifCond .ne 11, 3) := dk_154 0 11 (dk_at dksX1_items_1 17 rfl rfl)
theorem dX1_items_44 : decode cX1_items 44 = .ok (.aload_n 1, 1) := dk_43 (dk_at dksX1_items_1 20 rfl rfl)
theorem dX1_items_45 : decode cX1_items 45 = .ok (.aload_n 3, 1) := dk_45 (dk_at dksX1_items_1 21 rfl rfl)
theorem dX1_items_46 : decode cX1_items 46 = .ok (.invokeinterface 25 2, 5) := by decide +kernel
theorem dX1_items_51 : decode cX1_items 51 = .ok (.pop, 1) := dk_87 (dk_at dksX1_items_2 5 rfl rfl)
theorem dX1_items_52 : decode cX1_items 52 = .ok (.goto (-34), 3) := dk_167 255 222 (dk_at dksX1_items_2 6 rfl rfl)
theorem dX1_items_55 : decode cX1_items 55 = .ok (.aload_n 1, 1) := dk_43 (dk_at dksX1_items_2 9 rfl rfl)
theorem dX1_items_56 : decode cX1_items 56 = .ok (.areturn, 1) := dk_176 (dk_at dksX1_items_2 10 rfl rfl)
abbrev cX1_contentWidth : ByteArray := prog_1_method_30_code
def yX1_contentWidth : MethodName := ⟨RX1, "contentWidth", "(LColumnarPress$Box;Z)I"⟩
def dkwX1_contentWidth_3 : List UInt8 := [27, 184, 0, 219, 96, 172]
abbrev dktX1_contentWidth_3 : List UInt8 := dkwX1_contentWidth_3 ++ []
def dkwX1_contentWidth_2 : List UInt8 := [184, 0, 213, 96, 172, 28, 42, 180, 0, 210, 16, 102, 160, 0, 11, 42, 27, 184, 0, 216, 167, 0, 8, 42]
abbrev dktX1_contentWidth_2 : List UInt8 := dkwX1_contentWidth_2 ++ dktX1_contentWidth_3
def dkwX1_contentWidth_1 : List UInt8 := [153, 0, 11, 28, 42, 27, 184, 0, 207, 96, 172, 42, 180, 0, 210, 16, 98, 160, 0, 11, 28, 42, 27]
abbrev dktX1_contentWidth_1 : List UInt8 := dkwX1_contentWidth_1 ++ dktX1_contentWidth_2
def dkwX1_contentWidth_0 : List UInt8 := [42, 182, 0, 204, 2, 159, 0, 8, 42, 182, 0, 204, 172, 5, 42, 180, 0, 122, 104, 61, 42, 182, 0, 72]
abbrev dktX1_contentWidth_0 : List UInt8 := dkwX1_contentWidth_0 ++ dktX1_contentWidth_1
theorem dksX1_contentWidth_0 : cX1_contentWidth.data.toList.drop 0 = dktX1_contentWidth_0 := by decide +kernel
theorem dksX1_contentWidth_1 : cX1_contentWidth.data.toList.drop 24 = dktX1_contentWidth_1 := dk_seg dksX1_contentWidth_0 24 rfl rfl
theorem dksX1_contentWidth_2 : cX1_contentWidth.data.toList.drop 47 = dktX1_contentWidth_2 := dk_seg dksX1_contentWidth_1 23 rfl rfl
theorem dksX1_contentWidth_3 : cX1_contentWidth.data.toList.drop 71 = dktX1_contentWidth_3 := dk_seg dksX1_contentWidth_2 24 rfl rfl
theorem dX1_contentWidth_0 : decode cX1_contentWidth 0 = .ok (.aload_n 0, 1) := dk_42 (dk_at dksX1_contentWidth_0 0 rfl rfl)
theorem dX1_contentWidth_1 : decode cX1_contentWidth 1 = .ok (.invokevirtual 204, 3) := dk_182 0 204 (dk_at dksX1_contentWidth_0 1 rfl rfl)
theorem dX1_contentWidth_4 : decode cX1_contentWidth 4 = .ok (.iconst (-1), 1) := dk_2 (dk_at dksX1_contentWidth_0 4 rfl rfl)
theorem dX1_contentWidth_5 : decode cX1_contentWidth 5 = .ok (.if_icmp .eq 8, 3) := dk_159 0 8 (dk_at dksX1_contentWidth_0 5 rfl rfl)
theorem dX1_contentWidth_8 : decode cX1_contentWidth 8 = .ok (.aload_n 0, 1) := dk_42 (dk_at dksX1_contentWidth_0 8 rfl rfl)
theorem dX1_contentWidth_9 : decode cX1_contentWidth 9 = .ok (.invokevirtual 204, 3) := dk_182 0 204 (dk_at dksX1_contentWidth_0 9 rfl rfl)
theorem dX1_contentWidth_12 : decode cX1_contentWidth 12 = .ok (.ireturn, 1) := dk_172 (dk_at dksX1_contentWidth_0 12 rfl rfl)
theorem dX1_contentWidth_13 : decode cX1_contentWidth 13 = .ok (.iconst 2, 1) := dk_5 (dk_at dksX1_contentWidth_0 13 rfl rfl)
theorem dX1_contentWidth_14 : decode cX1_contentWidth 14 = .ok (.aload_n 0, 1) := dk_42 (dk_at dksX1_contentWidth_0 14 rfl rfl)
theorem dX1_contentWidth_15 : decode cX1_contentWidth 15 = .ok (.getfield 122, 3) := dk_180 0 122 (dk_at dksX1_contentWidth_0 15 rfl rfl)
theorem dX1_contentWidth_18 : decode cX1_contentWidth 18 = .ok (.imul, 1) := dk_104 (dk_at dksX1_contentWidth_0 18 rfl rfl)
theorem dX1_contentWidth_19 : decode cX1_contentWidth 19 = .ok (.istore_n 2, 1) := dk_61 (dk_at dksX1_contentWidth_0 19 rfl rfl)
theorem dX1_contentWidth_20 : decode cX1_contentWidth 20 = .ok (.aload_n 0, 1) := dk_42 (dk_at dksX1_contentWidth_0 20 rfl rfl)
theorem dX1_contentWidth_21 : decode cX1_contentWidth 21 = .ok (.invokevirtual 72, 3) := dk_182 0 72 (dk_at dksX1_contentWidth_0 21 rfl rfl)
theorem dX1_contentWidth_24 : decode cX1_contentWidth 24 = .ok (.ifCond .eq 11, 3) := dk_153 0 11 (dk_at dksX1_contentWidth_1 0 rfl rfl)
theorem dX1_contentWidth_27 : decode cX1_contentWidth 27 = .ok (.iload_n 2, 1) := dk_28 (dk_at dksX1_contentWidth_1 3 rfl rfl)
theorem dX1_contentWidth_28 : decode cX1_contentWidth 28 = .ok (.aload_n 0, 1) := dk_42 (dk_at dksX1_contentWidth_1 4 rfl rfl)
theorem dX1_contentWidth_29 : decode cX1_contentWidth 29 = .ok (.iload_n 1, 1) := dk_27 (dk_at dksX1_contentWidth_1 5 rfl rfl)
theorem dX1_contentWidth_30 : decode cX1_contentWidth 30 = .ok (.invokestatic 207, 3) := dk_184 0 207 (dk_at dksX1_contentWidth_1 6 rfl rfl)
theorem dX1_contentWidth_33 : decode cX1_contentWidth 33 = .ok (.iadd, 1) := dk_96 (dk_at dksX1_contentWidth_1 9 rfl rfl)
theorem dX1_contentWidth_34 : decode cX1_contentWidth 34 = .ok (.ireturn, 1) := dk_172 (dk_at dksX1_contentWidth_1 10 rfl rfl)
theorem dX1_contentWidth_35 : decode cX1_contentWidth 35 = .ok (.aload_n 0, 1) := dk_42 (dk_at dksX1_contentWidth_1 11 rfl rfl)
theorem dX1_contentWidth_36 : decode cX1_contentWidth 36 = .ok (.getfield 210, 3) := dk_180 0 210 (dk_at dksX1_contentWidth_1 12 rfl rfl)
theorem dX1_contentWidth_39 : decode cX1_contentWidth 39 = .ok (.bipush 98, 2) := dk_16 98 (dk_at dksX1_contentWidth_1 15 rfl rfl)
theorem dX1_contentWidth_41 : decode cX1_contentWidth 41 = .ok (.if_icmp .ne 11, 3) := dk_160 0 11 (dk_at dksX1_contentWidth_1 17 rfl rfl)
theorem dX1_contentWidth_44 : decode cX1_contentWidth 44 = .ok (.iload_n 2, 1) := dk_28 (dk_at dksX1_contentWidth_1 20 rfl rfl)
theorem dX1_contentWidth_45 : decode cX1_contentWidth 45 = .ok (.aload_n 0, 1) := dk_42 (dk_at dksX1_contentWidth_1 21 rfl rfl)
theorem dX1_contentWidth_46 : decode cX1_contentWidth 46 = .ok (.iload_n 1, 1) := dk_27 (dk_at dksX1_contentWidth_1 22 rfl rfl)
theorem dX1_contentWidth_47 : decode cX1_contentWidth 47 = .ok (.invokestatic 213, 3) := dk_184 0 213 (dk_at dksX1_contentWidth_2 0 rfl rfl)
theorem dX1_contentWidth_50 : decode cX1_contentWidth 50 = .ok (.iadd, 1) := dk_96 (dk_at dksX1_contentWidth_2 3 rfl rfl)
theorem dX1_contentWidth_51 : decode cX1_contentWidth 51 = .ok (.ireturn, 1) := dk_172 (dk_at dksX1_contentWidth_2 4 rfl rfl)
theorem dX1_contentWidth_52 : decode cX1_contentWidth 52 = .ok (.iload_n 2, 1) := dk_28 (dk_at dksX1_contentWidth_2 5 rfl rfl)
theorem dX1_contentWidth_53 : decode cX1_contentWidth 53 = .ok (.aload_n 0, 1) := dk_42 (dk_at dksX1_contentWidth_2 6 rfl rfl)
theorem dX1_contentWidth_54 : decode cX1_contentWidth 54 = .ok (.getfield 210, 3) := dk_180 0 210 (dk_at dksX1_contentWidth_2 7 rfl rfl)
theorem dX1_contentWidth_57 : decode cX1_contentWidth 57 = .ok (.bipush 102, 2) := dk_16 102 (dk_at dksX1_contentWidth_2 10 rfl rfl)
theorem dX1_contentWidth_59 : decode cX1_contentWidth 59 = .ok (.if_icmp .ne 11, 3) := dk_160 0 11 (dk_at dksX1_contentWidth_2 12 rfl rfl)
theorem dX1_contentWidth_62 : decode cX1_contentWidth 62 = .ok (.aload_n 0, 1) := dk_42 (dk_at dksX1_contentWidth_2 15 rfl rfl)
theorem dX1_contentWidth_63 : decode cX1_contentWidth 63 = .ok (.iload_n 1, 1) := dk_27 (dk_at dksX1_contentWidth_2 16 rfl rfl)
theorem dX1_contentWidth_64 : decode cX1_contentWidth 64 = .ok (.invokestatic 216, 3) := dk_184 0 216 (dk_at dksX1_contentWidth_2 17 rfl rfl)
theorem dX1_contentWidth_67 : decode cX1_contentWidth 67 = .ok (.goto 8, 3) := dk_167 0 8 (dk_at dksX1_contentWidth_2 20 rfl rfl)
theorem dX1_contentWidth_70 : decode cX1_contentWidth 70 = .ok (.aload_n 0, 1) := dk_42 (dk_at dksX1_contentWidth_2 23 rfl rfl)
theorem dX1_contentWidth_71 : decode cX1_contentWidth 71 = .ok (.iload_n 1, 1) := dk_27 (dk_at dksX1_contentWidth_3 0 rfl rfl)
theorem dX1_contentWidth_72 : decode cX1_contentWidth 72 = .ok (.invokestatic 219, 3) := dk_184 0 219 (dk_at dksX1_contentWidth_3 1 rfl rfl)
theorem dX1_contentWidth_75 : decode cX1_contentWidth 75 = .ok (.iadd, 1) := dk_96 (dk_at dksX1_contentWidth_3 4 rfl rfl)
theorem dX1_contentWidth_76 : decode cX1_contentWidth 76 = .ok (.ireturn, 1) := dk_172 (dk_at dksX1_contentWidth_3 5 rfl rfl)
abbrev cX1_textWidth : ByteArray := prog_1_method_24_code
def yX1_textWidth : MethodName := ⟨RX1, "textWidth", "(LColumnarPress$Box;Z)I"⟩
def dkwX1_textWidth_3 : List UInt8 := [167, 0, 4, 29, 172]
abbrev dktX1_textWidth_3 : List UInt8 := dkwX1_textWidth_3 ++ []
def dkwX1_textWidth_2 : List UInt8 := [61, 29, 21, 5, 29, 158, 0, 7, 5, 167, 0, 4, 3, 96, 96, 62, 167, 255, 209, 27, 153, 0, 7, 28]
abbrev dktX1_textWidth_2 : List UInt8 := dkwX1_textWidth_2 ++ dktX1_textWidth_3
def dkwX1_textWidth_1 : List UInt8 := [153, 0, 43, 25, 4, 185, 0, 173, 1, 0, 192, 0, 95, 182, 0, 177, 54, 5, 28, 21, 5, 184, 0, 180]
abbrev dktX1_textWidth_1 : List UInt8 := dkwX1_textWidth_1 ++ dktX1_textWidth_2
def dkwX1_textWidth_0 : List UInt8 := [3, 61, 3, 62, 42, 180, 0, 91, 185, 0, 164, 1, 0, 58, 4, 25, 4, 185, 0, 168, 1, 0]
abbrev dktX1_textWidth_0 : List UInt8 := dkwX1_textWidth_0 ++ dktX1_textWidth_1
theorem dksX1_textWidth_0 : cX1_textWidth.data.toList.drop 0 = dktX1_textWidth_0 := by decide +kernel
theorem dksX1_textWidth_1 : cX1_textWidth.data.toList.drop 22 = dktX1_textWidth_1 := dk_seg dksX1_textWidth_0 22 rfl rfl
theorem dksX1_textWidth_2 : cX1_textWidth.data.toList.drop 46 = dktX1_textWidth_2 := dk_seg dksX1_textWidth_1 24 rfl rfl
theorem dksX1_textWidth_3 : cX1_textWidth.data.toList.drop 70 = dktX1_textWidth_3 := dk_seg dksX1_textWidth_2 24 rfl rfl
theorem dX1_textWidth_0 : decode cX1_textWidth 0 = .ok (.iconst 0, 1) := dk_3 (dk_at dksX1_textWidth_0 0 rfl rfl)
theorem dX1_textWidth_1 : decode cX1_textWidth 1 = .ok (.istore_n 2, 1) := dk_61 (dk_at dksX1_textWidth_0 1 rfl rfl)
theorem dX1_textWidth_2 : decode cX1_textWidth 2 = .ok (.iconst 0, 1) := dk_3 (dk_at dksX1_textWidth_0 2 rfl rfl)
theorem dX1_textWidth_3 : decode cX1_textWidth 3 = .ok (.istore_n 3, 1) := dk_62 (dk_at dksX1_textWidth_0 3 rfl rfl)
theorem dX1_textWidth_4 : decode cX1_textWidth 4 = .ok (.aload_n 0, 1) := dk_42 (dk_at dksX1_textWidth_0 4 rfl rfl)
theorem dX1_textWidth_5 : decode cX1_textWidth 5 = .ok (.getfield 91, 3) := dk_180 0 91 (dk_at dksX1_textWidth_0 5 rfl rfl)
theorem dX1_textWidth_8 : decode cX1_textWidth 8 = .ok (.invokeinterface 164 1, 5) := by decide +kernel
theorem dX1_textWidth_13 : decode cX1_textWidth 13 = .ok (.astore 4, 2) := dk_58 4 (dk_at dksX1_textWidth_0 13 rfl rfl)
theorem dX1_textWidth_15 : decode cX1_textWidth 15 = .ok (.aload 4, 2) := dk_25 4 (dk_at dksX1_textWidth_0 15 rfl rfl)
theorem dX1_textWidth_17 : decode cX1_textWidth 17 = .ok (.invokeinterface 168 1, 5) := by decide +kernel
theorem dX1_textWidth_22 : decode cX1_textWidth 22 = .ok (.ifCond .eq 43, 3) := dk_153 0 43 (dk_at dksX1_textWidth_1 0 rfl rfl)
theorem dX1_textWidth_25 : decode cX1_textWidth 25 = .ok (.aload 4, 2) := dk_25 4 (dk_at dksX1_textWidth_1 3 rfl rfl)
theorem dX1_textWidth_27 : decode cX1_textWidth 27 = .ok (.invokeinterface 173 1, 5) := by decide +kernel
theorem dX1_textWidth_32 : decode cX1_textWidth 32 = .ok (.checkcast 95, 3) := dk_192 0 95 (dk_at dksX1_textWidth_1 10 rfl rfl)
theorem dX1_textWidth_35 : decode cX1_textWidth 35 = .ok (.invokevirtual 177, 3) := dk_182 0 177 (dk_at dksX1_textWidth_1 13 rfl rfl)
theorem dX1_textWidth_38 : decode cX1_textWidth 38 = .ok (.istore 5, 2) := dk_54 5 (dk_at dksX1_textWidth_1 16 rfl rfl)
theorem dX1_textWidth_40 : decode cX1_textWidth 40 = .ok (.iload_n 2, 1) := dk_28 (dk_at dksX1_textWidth_1 18 rfl rfl)
theorem dX1_textWidth_41 : decode cX1_textWidth 41 = .ok (.iload 5, 2) := dk_21 5 (dk_at dksX1_textWidth_1 19 rfl rfl)
theorem dX1_textWidth_43 : decode cX1_textWidth 43 = .ok (.invokestatic 180, 3) := dk_184 0 180 (dk_at dksX1_textWidth_1 21 rfl rfl)
theorem dX1_textWidth_46 : decode cX1_textWidth 46 = .ok (.istore_n 2, 1) := dk_61 (dk_at dksX1_textWidth_2 0 rfl rfl)
theorem dX1_textWidth_47 : decode cX1_textWidth 47 = .ok (.iload_n 3, 1) := dk_29 (dk_at dksX1_textWidth_2 1 rfl rfl)
theorem dX1_textWidth_48 : decode cX1_textWidth 48 = .ok (.iload 5, 2) := dk_21 5 (dk_at dksX1_textWidth_2 2 rfl rfl)
theorem dX1_textWidth_50 : decode cX1_textWidth 50 = .ok (.iload_n 3, 1) := dk_29 (dk_at dksX1_textWidth_2 4 rfl rfl)
theorem dX1_textWidth_51 : decode cX1_textWidth 51 = .ok (.ifCond .le 7, 3) := dk_158 0 7 (dk_at dksX1_textWidth_2 5 rfl rfl)
theorem dX1_textWidth_54 : decode cX1_textWidth 54 = .ok (.iconst 2, 1) := dk_5 (dk_at dksX1_textWidth_2 8 rfl rfl)
theorem dX1_textWidth_55 : decode cX1_textWidth 55 = .ok (.goto 4, 3) := dk_167 0 4 (dk_at dksX1_textWidth_2 9 rfl rfl)
theorem dX1_textWidth_58 : decode cX1_textWidth 58 = .ok (.iconst 0, 1) := dk_3 (dk_at dksX1_textWidth_2 12 rfl rfl)
theorem dX1_textWidth_59 : decode cX1_textWidth 59 = .ok (.iadd, 1) := dk_96 (dk_at dksX1_textWidth_2 13 rfl rfl)
theorem dX1_textWidth_60 : decode cX1_textWidth 60 = .ok (.iadd, 1) := dk_96 (dk_at dksX1_textWidth_2 14 rfl rfl)
theorem dX1_textWidth_61 : decode cX1_textWidth 61 = .ok (.istore_n 3, 1) := dk_62 (dk_at dksX1_textWidth_2 15 rfl rfl)
theorem dX1_textWidth_62 : decode cX1_textWidth 62 = .ok (.goto (-47), 3) := dk_167 255 209 (dk_at dksX1_textWidth_2 16 rfl rfl)
theorem dX1_textWidth_65 : decode cX1_textWidth 65 = .ok (.iload_n 1, 1) := dk_27 (dk_at dksX1_textWidth_2 19 rfl rfl)
theorem dX1_textWidth_66 : decode cX1_textWidth 66 = .ok (.ifCond .eq 7, 3) := dk_153 0 7 (dk_at dksX1_textWidth_2 20 rfl rfl)
theorem dX1_textWidth_69 : decode cX1_textWidth 69 = .ok (.iload_n 2, 1) := dk_28 (dk_at dksX1_textWidth_2 23 rfl rfl)
theorem dX1_textWidth_70 : decode cX1_textWidth 70 = .ok (.goto 4, 3) := dk_167 0 4 (dk_at dksX1_textWidth_3 0 rfl rfl)
theorem dX1_textWidth_73 : decode cX1_textWidth 73 = .ok (.iload_n 3, 1) := dk_29 (dk_at dksX1_textWidth_3 3 rfl rfl)
theorem dX1_textWidth_74 : decode cX1_textWidth 74 = .ok (.ireturn, 1) := dk_172 (dk_at dksX1_textWidth_3 4 rfl rfl)
abbrev cX1_blockWidth : ByteArray := prog_1_method_25_code
def yX1_blockWidth : MethodName := ⟨RX1, "blockWidth", "(LColumnarPress$Box;Z)I"⟩
def dkwX1_blockWidth_2 : List UInt8 := [25, 4, 27, 184, 0, 189, 25, 4, 182, 0, 193, 96, 184, 0, 180, 61, 167, 255, 207, 28, 172]
abbrev dktX1_blockWidth_2 : List UInt8 := dkwX1_blockWidth_2 ++ []
def dkwX1_blockWidth_1 : List UInt8 := [185, 0, 173, 1, 0, 192, 0, 20, 58, 4, 25, 4, 182, 0, 186, 153, 0, 7, 28, 167, 0, 19, 28]
abbrev dktX1_blockWidth_1 : List UInt8 := dkwX1_blockWidth_1 ++ dktX1_blockWidth_2
def dkwX1_blockWidth_0 : List UInt8 := [3, 61, 42, 180, 0, 82, 185, 0, 164, 1, 0, 78, 45, 185, 0, 168, 1, 0, 153, 0, 46, 45]
abbrev dktX1_blockWidth_0 : List UInt8 := dkwX1_blockWidth_0 ++ dktX1_blockWidth_1
theorem dksX1_blockWidth_0 : cX1_blockWidth.data.toList.drop 0 = dktX1_blockWidth_0 := by decide +kernel
theorem dksX1_blockWidth_1 : cX1_blockWidth.data.toList.drop 22 = dktX1_blockWidth_1 := dk_seg dksX1_blockWidth_0 22 rfl rfl
theorem dksX1_blockWidth_2 : cX1_blockWidth.data.toList.drop 45 = dktX1_blockWidth_2 := dk_seg dksX1_blockWidth_1 23 rfl rfl
theorem dX1_blockWidth_0 : decode cX1_blockWidth 0 = .ok (.iconst 0, 1) := dk_3 (dk_at dksX1_blockWidth_0 0 rfl rfl)
theorem dX1_blockWidth_1 : decode cX1_blockWidth 1 = .ok (.istore_n 2, 1) := dk_61 (dk_at dksX1_blockWidth_0 1 rfl rfl)
theorem dX1_blockWidth_2 : decode cX1_blockWidth 2 = .ok (.aload_n 0, 1) := dk_42 (dk_at dksX1_blockWidth_0 2 rfl rfl)
theorem dX1_blockWidth_3 : decode cX1_blockWidth 3 = .ok (.getfield 82, 3) := dk_180 0 82 (dk_at dksX1_blockWidth_0 3 rfl rfl)
theorem dX1_blockWidth_6 : decode cX1_blockWidth 6 = .ok (.invokeinterface 164 1, 5) := by decide +kernel
theorem dX1_blockWidth_11 : decode cX1_blockWidth 11 = .ok (.astore_n 3, 1) := dk_78 (dk_at dksX1_blockWidth_0 11 rfl rfl)
theorem dX1_blockWidth_12 : decode cX1_blockWidth 12 = .ok (.aload_n 3, 1) := dk_45 (dk_at dksX1_blockWidth_0 12 rfl rfl)
theorem dX1_blockWidth_13 : decode cX1_blockWidth 13 = .ok (.invokeinterface 168 1, 5) := by decide +kernel
theorem dX1_blockWidth_18 : decode cX1_blockWidth 18 = .ok (.ifCond .eq 46, 3) := dk_153 0 46 (dk_at dksX1_blockWidth_0 18 rfl rfl)
theorem dX1_blockWidth_21 : decode cX1_blockWidth 21 = .ok (.aload_n 3, 1) := dk_45 (dk_at dksX1_blockWidth_0 21 rfl rfl)
theorem dX1_blockWidth_22 : decode cX1_blockWidth 22 = .ok (.invokeinterface 173 1, 5) := by decide +kernel
theorem dX1_blockWidth_27 : decode cX1_blockWidth 27 = .ok (.checkcast 20, 3) := dk_192 0 20 (dk_at dksX1_blockWidth_1 5 rfl rfl)
theorem dX1_blockWidth_30 : decode cX1_blockWidth 30 = .ok (.astore 4, 2) := dk_58 4 (dk_at dksX1_blockWidth_1 8 rfl rfl)
theorem dX1_blockWidth_32 : decode cX1_blockWidth 32 = .ok (.aload 4, 2) := dk_25 4 (dk_at dksX1_blockWidth_1 10 rfl rfl)
theorem dX1_blockWidth_34 : decode cX1_blockWidth 34 = .ok (.invokevirtual 186, 3) := dk_182 0 186 (dk_at dksX1_blockWidth_1 12 rfl rfl)
theorem dX1_blockWidth_37 : decode cX1_blockWidth 37 = .ok (.ifCond .eq 7, 3) := dk_153 0 7 (dk_at dksX1_blockWidth_1 15 rfl rfl)
theorem dX1_blockWidth_40 : decode cX1_blockWidth 40 = .ok (.iload_n 2, 1) := dk_28 (dk_at dksX1_blockWidth_1 18 rfl rfl)
theorem dX1_blockWidth_41 : decode cX1_blockWidth 41 = .ok (.goto 19, 3) := dk_167 0 19 (dk_at dksX1_blockWidth_1 19 rfl rfl)
theorem dX1_blockWidth_44 : decode cX1_blockWidth 44 = .ok (.iload_n 2, 1) := dk_28 (dk_at dksX1_blockWidth_1 22 rfl rfl)
theorem dX1_blockWidth_45 : decode cX1_blockWidth 45 = .ok (.aload 4, 2) := dk_25 4 (dk_at dksX1_blockWidth_2 0 rfl rfl)
theorem dX1_blockWidth_47 : decode cX1_blockWidth 47 = .ok (.iload_n 1, 1) := dk_27 (dk_at dksX1_blockWidth_2 2 rfl rfl)
theorem dX1_blockWidth_48 : decode cX1_blockWidth 48 = .ok (.invokestatic 189, 3) := dk_184 0 189 (dk_at dksX1_blockWidth_2 3 rfl rfl)
theorem dX1_blockWidth_51 : decode cX1_blockWidth 51 = .ok (.aload 4, 2) := dk_25 4 (dk_at dksX1_blockWidth_2 6 rfl rfl)
theorem dX1_blockWidth_53 : decode cX1_blockWidth 53 = .ok (.invokevirtual 193, 3) := dk_182 0 193 (dk_at dksX1_blockWidth_2 8 rfl rfl)
theorem dX1_blockWidth_56 : decode cX1_blockWidth 56 = .ok (.iadd, 1) := dk_96 (dk_at dksX1_blockWidth_2 11 rfl rfl)
theorem dX1_blockWidth_57 : decode cX1_blockWidth 57 = .ok (.invokestatic 180, 3) := dk_184 0 180 (dk_at dksX1_blockWidth_2 12 rfl rfl)
theorem dX1_blockWidth_60 : decode cX1_blockWidth 60 = .ok (.istore_n 2, 1) := dk_61 (dk_at dksX1_blockWidth_2 15 rfl rfl)
theorem dX1_blockWidth_61 : decode cX1_blockWidth 61 = .ok (.goto (-49), 3) := dk_167 255 207 (dk_at dksX1_blockWidth_2 16 rfl rfl)
theorem dX1_blockWidth_64 : decode cX1_blockWidth 64 = .ok (.iload_n 2, 1) := dk_28 (dk_at dksX1_blockWidth_2 19 rfl rfl)
theorem dX1_blockWidth_65 : decode cX1_blockWidth 65 = .ok (.ireturn, 1) := dk_172 (dk_at dksX1_blockWidth_2 20 rfl rfl)
abbrev cX1_rowWidth : ByteArray := prog_1_method_27_code
def yX1_rowWidth : MethodName := ⟨RX1, "rowWidth", "(LColumnarPress$Box;Z)I"⟩
def dkwX1_rowWidth_2 : List UInt8 := [61, 167, 255, 221, 28, 172]
abbrev dktX1_rowWidth_2 : List UInt8 := dkwX1_rowWidth_2 ++ []
def dkwX1_rowWidth_1 : List UInt8 := [185, 0, 173, 1, 0, 192, 0, 20, 58, 4, 28, 25, 4, 27, 184, 0, 189, 25, 4, 182, 0, 193, 96, 96]
abbrev dktX1_rowWidth_1 : List UInt8 := dkwX1_rowWidth_1 ++ dktX1_rowWidth_2
def dkwX1_rowWidth_0 : List UInt8 := [3, 61, 42, 184, 0, 196, 185, 0, 164, 1, 0, 78, 45, 185, 0, 168, 1, 0, 153, 0, 32, 45]
abbrev dktX1_rowWidth_0 : List UInt8 := dkwX1_rowWidth_0 ++ dktX1_rowWidth_1
theorem dksX1_rowWidth_0 : cX1_rowWidth.data.toList.drop 0 = dktX1_rowWidth_0 := by decide +kernel
theorem dksX1_rowWidth_1 : cX1_rowWidth.data.toList.drop 22 = dktX1_rowWidth_1 := dk_seg dksX1_rowWidth_0 22 rfl rfl
theorem dksX1_rowWidth_2 : cX1_rowWidth.data.toList.drop 46 = dktX1_rowWidth_2 := dk_seg dksX1_rowWidth_1 24 rfl rfl
theorem dX1_rowWidth_0 : decode cX1_rowWidth 0 = .ok (.iconst 0, 1) := dk_3 (dk_at dksX1_rowWidth_0 0 rfl rfl)
theorem dX1_rowWidth_1 : decode cX1_rowWidth 1 = .ok (.istore_n 2, 1) := dk_61 (dk_at dksX1_rowWidth_0 1 rfl rfl)
theorem dX1_rowWidth_2 : decode cX1_rowWidth 2 = .ok (.aload_n 0, 1) := dk_42 (dk_at dksX1_rowWidth_0 2 rfl rfl)
theorem dX1_rowWidth_3 : decode cX1_rowWidth 3 = .ok (.invokestatic 196, 3) := dk_184 0 196 (dk_at dksX1_rowWidth_0 3 rfl rfl)
theorem dX1_rowWidth_6 : decode cX1_rowWidth 6 = .ok (.invokeinterface 164 1, 5) := by decide +kernel
theorem dX1_rowWidth_11 : decode cX1_rowWidth 11 = .ok (.astore_n 3, 1) := dk_78 (dk_at dksX1_rowWidth_0 11 rfl rfl)
theorem dX1_rowWidth_12 : decode cX1_rowWidth 12 = .ok (.aload_n 3, 1) := dk_45 (dk_at dksX1_rowWidth_0 12 rfl rfl)
theorem dX1_rowWidth_13 : decode cX1_rowWidth 13 = .ok (.invokeinterface 168 1, 5) := by decide +kernel
theorem dX1_rowWidth_18 : decode cX1_rowWidth 18 = .ok (.ifCond .eq 32, 3) := dk_153 0 32 (dk_at dksX1_rowWidth_0 18 rfl rfl)
theorem dX1_rowWidth_21 : decode cX1_rowWidth 21 = .ok (.aload_n 3, 1) := dk_45 (dk_at dksX1_rowWidth_0 21 rfl rfl)
theorem dX1_rowWidth_22 : decode cX1_rowWidth 22 = .ok (.invokeinterface 173 1, 5) := by decide +kernel
theorem dX1_rowWidth_27 : decode cX1_rowWidth 27 = .ok (.checkcast 20, 3) := dk_192 0 20 (dk_at dksX1_rowWidth_1 5 rfl rfl)
theorem dX1_rowWidth_30 : decode cX1_rowWidth 30 = .ok (.astore 4, 2) := dk_58 4 (dk_at dksX1_rowWidth_1 8 rfl rfl)
theorem dX1_rowWidth_32 : decode cX1_rowWidth 32 = .ok (.iload_n 2, 1) := dk_28 (dk_at dksX1_rowWidth_1 10 rfl rfl)
theorem dX1_rowWidth_33 : decode cX1_rowWidth 33 = .ok (.aload 4, 2) := dk_25 4 (dk_at dksX1_rowWidth_1 11 rfl rfl)
theorem dX1_rowWidth_35 : decode cX1_rowWidth 35 = .ok (.iload_n 1, 1) := dk_27 (dk_at dksX1_rowWidth_1 13 rfl rfl)
theorem dX1_rowWidth_36 : decode cX1_rowWidth 36 = .ok (.invokestatic 189, 3) := dk_184 0 189 (dk_at dksX1_rowWidth_1 14 rfl rfl)
theorem dX1_rowWidth_39 : decode cX1_rowWidth 39 = .ok (.aload 4, 2) := dk_25 4 (dk_at dksX1_rowWidth_1 17 rfl rfl)
theorem dX1_rowWidth_41 : decode cX1_rowWidth 41 = .ok (.invokevirtual 193, 3) := dk_182 0 193 (dk_at dksX1_rowWidth_1 19 rfl rfl)
theorem dX1_rowWidth_44 : decode cX1_rowWidth 44 = .ok (.iadd, 1) := dk_96 (dk_at dksX1_rowWidth_1 22 rfl rfl)
theorem dX1_rowWidth_45 : decode cX1_rowWidth 45 = .ok (.iadd, 1) := dk_96 (dk_at dksX1_rowWidth_1 23 rfl rfl)
theorem dX1_rowWidth_46 : decode cX1_rowWidth 46 = .ok (.istore_n 2, 1) := dk_61 (dk_at dksX1_rowWidth_2 0 rfl rfl)
theorem dX1_rowWidth_47 : decode cX1_rowWidth 47 = .ok (.goto (-35), 3) := dk_167 255 221 (dk_at dksX1_rowWidth_2 1 rfl rfl)
theorem dX1_rowWidth_50 : decode cX1_rowWidth 50 = .ok (.iload_n 2, 1) := dk_28 (dk_at dksX1_rowWidth_2 4 rfl rfl)
theorem dX1_rowWidth_51 : decode cX1_rowWidth 51 = .ok (.ireturn, 1) := dk_172 (dk_at dksX1_rowWidth_2 5 rfl rfl)
abbrev cX1_gridWidth : ByteArray := prog_1_method_29_code
def yX1_gridWidth : MethodName := ⟨RX1, "gridWidth", "(LColumnarPress$Box;Z)I"⟩
def dkwX1_gridWidth_1 : List UInt8 := [21, 5, 46, 54, 6, 28, 21, 6, 96, 61, 132, 5, 1, 167, 255, 235, 28, 172]
abbrev dktX1_gridWidth_1 : List UInt8 := dkwX1_gridWidth_1 ++ []
def dkwX1_gridWidth_0 : List UInt8 := [3, 61, 42, 27, 184, 0, 200, 78, 45, 190, 54, 4, 3, 54, 5, 21, 5, 21, 4, 162, 0, 20, 45]
abbrev dktX1_gridWidth_0 : List UInt8 := dkwX1_gridWidth_0 ++ dktX1_gridWidth_1
theorem dksX1_gridWidth_0 : cX1_gridWidth.data.toList.drop 0 = dktX1_gridWidth_0 := by decide +kernel
theorem dksX1_gridWidth_1 : cX1_gridWidth.data.toList.drop 23 = dktX1_gridWidth_1 := dk_seg dksX1_gridWidth_0 23 rfl rfl
theorem dX1_gridWidth_0 : decode cX1_gridWidth 0 = .ok (.iconst 0, 1) := dk_3 (dk_at dksX1_gridWidth_0 0 rfl rfl)
theorem dX1_gridWidth_1 : decode cX1_gridWidth 1 = .ok (.istore_n 2, 1) := dk_61 (dk_at dksX1_gridWidth_0 1 rfl rfl)
theorem dX1_gridWidth_2 : decode cX1_gridWidth 2 = .ok (.aload_n 0, 1) := dk_42 (dk_at dksX1_gridWidth_0 2 rfl rfl)
theorem dX1_gridWidth_3 : decode cX1_gridWidth 3 = .ok (.iload_n 1, 1) := dk_27 (dk_at dksX1_gridWidth_0 3 rfl rfl)
theorem dX1_gridWidth_4 : decode cX1_gridWidth 4 = .ok (.invokestatic 200, 3) := dk_184 0 200 (dk_at dksX1_gridWidth_0 4 rfl rfl)
theorem dX1_gridWidth_7 : decode cX1_gridWidth 7 = .ok (.astore_n 3, 1) := dk_78 (dk_at dksX1_gridWidth_0 7 rfl rfl)
theorem dX1_gridWidth_8 : decode cX1_gridWidth 8 = .ok (.aload_n 3, 1) := dk_45 (dk_at dksX1_gridWidth_0 8 rfl rfl)
theorem dX1_gridWidth_9 : decode cX1_gridWidth 9 = .ok (.arraylength, 1) := dk_190 (dk_at dksX1_gridWidth_0 9 rfl rfl)
theorem dX1_gridWidth_10 : decode cX1_gridWidth 10 = .ok (.istore 4, 2) := dk_54 4 (dk_at dksX1_gridWidth_0 10 rfl rfl)
theorem dX1_gridWidth_12 : decode cX1_gridWidth 12 = .ok (.iconst 0, 1) := dk_3 (dk_at dksX1_gridWidth_0 12 rfl rfl)
theorem dX1_gridWidth_13 : decode cX1_gridWidth 13 = .ok (.istore 5, 2) := dk_54 5 (dk_at dksX1_gridWidth_0 13 rfl rfl)
theorem dX1_gridWidth_15 : decode cX1_gridWidth 15 = .ok (.iload 5, 2) := dk_21 5 (dk_at dksX1_gridWidth_0 15 rfl rfl)
theorem dX1_gridWidth_17 : decode cX1_gridWidth 17 = .ok (.iload 4, 2) := dk_21 4 (dk_at dksX1_gridWidth_0 17 rfl rfl)
theorem dX1_gridWidth_19 : decode cX1_gridWidth 19 = .ok (.if_icmp .ge 20, 3) := dk_162 0 20 (dk_at dksX1_gridWidth_0 19 rfl rfl)
theorem dX1_gridWidth_22 : decode cX1_gridWidth 22 = .ok (.aload_n 3, 1) := dk_45 (dk_at dksX1_gridWidth_0 22 rfl rfl)
theorem dX1_gridWidth_23 : decode cX1_gridWidth 23 = .ok (.iload 5, 2) := dk_21 5 (dk_at dksX1_gridWidth_1 0 rfl rfl)
theorem dX1_gridWidth_25 : decode cX1_gridWidth 25 = .ok (.iaload, 1) := dk_46 (dk_at dksX1_gridWidth_1 2 rfl rfl)
theorem dX1_gridWidth_26 : decode cX1_gridWidth 26 = .ok (.istore 6, 2) := dk_54 6 (dk_at dksX1_gridWidth_1 3 rfl rfl)
theorem dX1_gridWidth_28 : decode cX1_gridWidth 28 = .ok (.iload_n 2, 1) := dk_28 (dk_at dksX1_gridWidth_1 5 rfl rfl)
theorem dX1_gridWidth_29 : decode cX1_gridWidth 29 = .ok (.iload 6, 2) := dk_21 6 (dk_at dksX1_gridWidth_1 6 rfl rfl)
theorem dX1_gridWidth_31 : decode cX1_gridWidth 31 = .ok (.iadd, 1) := dk_96 (dk_at dksX1_gridWidth_1 8 rfl rfl)
theorem dX1_gridWidth_32 : decode cX1_gridWidth 32 = .ok (.istore_n 2, 1) := dk_61 (dk_at dksX1_gridWidth_1 9 rfl rfl)
theorem dX1_gridWidth_33 : decode cX1_gridWidth 33 = .ok (.iinc 5 1, 3) := dk_132 5 1 (dk_at dksX1_gridWidth_1 10 rfl rfl)
theorem dX1_gridWidth_36 : decode cX1_gridWidth 36 = .ok (.goto (-21), 3) := dk_167 255 235 (dk_at dksX1_gridWidth_1 13 rfl rfl)
theorem dX1_gridWidth_39 : decode cX1_gridWidth 39 = .ok (.iload_n 2, 1) := dk_28 (dk_at dksX1_gridWidth_1 16 rfl rfl)
theorem dX1_gridWidth_40 : decode cX1_gridWidth 40 = .ok (.ireturn, 1) := dk_172 (dk_at dksX1_gridWidth_1 17 rfl rfl)
abbrev cX1_columnWidths : ByteArray := prog_1_method_28_code
def yX1_columnWidths : MethodName := ⟨RX1, "columnWidths", "(LColumnarPress$Box;Z)[I"⟩
def dkwX1_columnWidths_3 : List UInt8 := [182, 0, 193, 96, 184, 0, 180, 79, 132, 4, 1, 167, 255, 192, 44, 176]
abbrev dktX1_columnWidths_3 : List UInt8 := dkwX1_columnWidths_3 ++ []
def dkwX1_columnWidths_2 : List UInt8 := [185, 0, 58, 2, 0, 192, 0, 20, 27, 184, 0, 189, 45, 21, 4, 185, 0, 58, 2, 0, 192, 0, 20]
abbrev dktX1_columnWidths_2 : List UInt8 := dkwX1_columnWidths_2 ++ dktX1_columnWidths_3
def dkwX1_columnWidths_1 : List UInt8 := [162, 0, 59, 21, 4, 42, 180, 0, 131, 112, 54, 5, 44, 21, 5, 44, 21, 5, 46, 45, 21, 4]
abbrev dktX1_columnWidths_1 : List UInt8 := dkwX1_columnWidths_1 ++ dktX1_columnWidths_2
def dkwX1_columnWidths_0 : List UInt8 := [42, 180, 0, 131, 188, 10, 77, 42, 184, 0, 196, 78, 3, 54, 4, 21, 4, 45, 185, 0, 46, 1, 0]
abbrev dktX1_columnWidths_0 : List UInt8 := dkwX1_columnWidths_0 ++ dktX1_columnWidths_1
theorem dksX1_columnWidths_0 : cX1_columnWidths.data.toList.drop 0 = dktX1_columnWidths_0 := by decide +kernel
theorem dksX1_columnWidths_1 : cX1_columnWidths.data.toList.drop 23 = dktX1_columnWidths_1 := dk_seg dksX1_columnWidths_0 23 rfl rfl
theorem dksX1_columnWidths_2 : cX1_columnWidths.data.toList.drop 45 = dktX1_columnWidths_2 := dk_seg dksX1_columnWidths_1 22 rfl rfl
theorem dksX1_columnWidths_3 : cX1_columnWidths.data.toList.drop 68 = dktX1_columnWidths_3 := dk_seg dksX1_columnWidths_2 23 rfl rfl
theorem dX1_columnWidths_0 : decode cX1_columnWidths 0 = .ok (.aload_n 0, 1) := dk_42 (dk_at dksX1_columnWidths_0 0 rfl rfl)
theorem dX1_columnWidths_1 : decode cX1_columnWidths 1 = .ok (.getfield 131, 3) := dk_180 0 131 (dk_at dksX1_columnWidths_0 1 rfl rfl)
theorem dX1_columnWidths_4 : decode cX1_columnWidths 4 = .ok (.newarray .int, 2) := dk_188_10 (dk_at dksX1_columnWidths_0 4 rfl rfl)
theorem dX1_columnWidths_6 : decode cX1_columnWidths 6 = .ok (.astore_n 2, 1) := dk_77 (dk_at dksX1_columnWidths_0 6 rfl rfl)
theorem dX1_columnWidths_7 : decode cX1_columnWidths 7 = .ok (.aload_n 0, 1) := dk_42 (dk_at dksX1_columnWidths_0 7 rfl rfl)
theorem dX1_columnWidths_8 : decode cX1_columnWidths 8 = .ok (.invokestatic 196, 3) := dk_184 0 196 (dk_at dksX1_columnWidths_0 8 rfl rfl)
theorem dX1_columnWidths_11 : decode cX1_columnWidths 11 = .ok (.astore_n 3, 1) := dk_78 (dk_at dksX1_columnWidths_0 11 rfl rfl)
theorem dX1_columnWidths_12 : decode cX1_columnWidths 12 = .ok (.iconst 0, 1) := dk_3 (dk_at dksX1_columnWidths_0 12 rfl rfl)
theorem dX1_columnWidths_13 : decode cX1_columnWidths 13 = .ok (.istore 4, 2) := dk_54 4 (dk_at dksX1_columnWidths_0 13 rfl rfl)
theorem dX1_columnWidths_15 : decode cX1_columnWidths 15 = .ok (.iload 4, 2) := dk_21 4 (dk_at dksX1_columnWidths_0 15 rfl rfl)
theorem dX1_columnWidths_17 : decode cX1_columnWidths 17 = .ok (.aload_n 3, 1) := dk_45 (dk_at dksX1_columnWidths_0 17 rfl rfl)
theorem dX1_columnWidths_18 : decode cX1_columnWidths 18 = .ok (.invokeinterface 46 1, 5) := by decide +kernel
theorem dX1_columnWidths_23 : decode cX1_columnWidths 23 = .ok (.if_icmp .ge 59, 3) := dk_162 0 59 (dk_at dksX1_columnWidths_1 0 rfl rfl)
theorem dX1_columnWidths_26 : decode cX1_columnWidths 26 = .ok (.iload 4, 2) := dk_21 4 (dk_at dksX1_columnWidths_1 3 rfl rfl)
theorem dX1_columnWidths_28 : decode cX1_columnWidths 28 = .ok (.aload_n 0, 1) := dk_42 (dk_at dksX1_columnWidths_1 5 rfl rfl)
theorem dX1_columnWidths_29 : decode cX1_columnWidths 29 = .ok (.getfield 131, 3) := dk_180 0 131 (dk_at dksX1_columnWidths_1 6 rfl rfl)
theorem dX1_columnWidths_32 : decode cX1_columnWidths 32 = .ok (.irem, 1) := dk_112 (dk_at dksX1_columnWidths_1 9 rfl rfl)
theorem dX1_columnWidths_33 : decode cX1_columnWidths 33 = .ok (.istore 5, 2) := dk_54 5 (dk_at dksX1_columnWidths_1 10 rfl rfl)
theorem dX1_columnWidths_35 : decode cX1_columnWidths 35 = .ok (.aload_n 2, 1) := dk_44 (dk_at dksX1_columnWidths_1 12 rfl rfl)
theorem dX1_columnWidths_36 : decode cX1_columnWidths 36 = .ok (.iload 5, 2) := dk_21 5 (dk_at dksX1_columnWidths_1 13 rfl rfl)
theorem dX1_columnWidths_38 : decode cX1_columnWidths 38 = .ok (.aload_n 2, 1) := dk_44 (dk_at dksX1_columnWidths_1 15 rfl rfl)
theorem dX1_columnWidths_39 : decode cX1_columnWidths 39 = .ok (.iload 5, 2) := dk_21 5 (dk_at dksX1_columnWidths_1 16 rfl rfl)
theorem dX1_columnWidths_41 : decode cX1_columnWidths 41 = .ok (.iaload, 1) := dk_46 (dk_at dksX1_columnWidths_1 18 rfl rfl)
theorem dX1_columnWidths_42 : decode cX1_columnWidths 42 = .ok (.aload_n 3, 1) := dk_45 (dk_at dksX1_columnWidths_1 19 rfl rfl)
theorem dX1_columnWidths_43 : decode cX1_columnWidths 43 = .ok (.iload 4, 2) := dk_21 4 (dk_at dksX1_columnWidths_1 20 rfl rfl)
theorem dX1_columnWidths_45 : decode cX1_columnWidths 45 = .ok (.invokeinterface 58 2, 5) := by decide +kernel
theorem dX1_columnWidths_50 : decode cX1_columnWidths 50 = .ok (.checkcast 20, 3) := dk_192 0 20 (dk_at dksX1_columnWidths_2 5 rfl rfl)
theorem dX1_columnWidths_53 : decode cX1_columnWidths 53 = .ok (.iload_n 1, 1) := dk_27 (dk_at dksX1_columnWidths_2 8 rfl rfl)
theorem dX1_columnWidths_54 : decode cX1_columnWidths 54 = .ok (.invokestatic 189, 3) := dk_184 0 189 (dk_at dksX1_columnWidths_2 9 rfl rfl)
theorem dX1_columnWidths_57 : decode cX1_columnWidths 57 = .ok (.aload_n 3, 1) := dk_45 (dk_at dksX1_columnWidths_2 12 rfl rfl)
theorem dX1_columnWidths_58 : decode cX1_columnWidths 58 = .ok (.iload 4, 2) := dk_21 4 (dk_at dksX1_columnWidths_2 13 rfl rfl)
theorem dX1_columnWidths_60 : decode cX1_columnWidths 60 = .ok (.invokeinterface 58 2, 5) := by decide +kernel
theorem dX1_columnWidths_65 : decode cX1_columnWidths 65 = .ok (.checkcast 20, 3) := dk_192 0 20 (dk_at dksX1_columnWidths_2 20 rfl rfl)
theorem dX1_columnWidths_68 : decode cX1_columnWidths 68 = .ok (.invokevirtual 193, 3) := dk_182 0 193 (dk_at dksX1_columnWidths_3 0 rfl rfl)
theorem dX1_columnWidths_71 : decode cX1_columnWidths 71 = .ok (.iadd, 1) := dk_96 (dk_at dksX1_columnWidths_3 3 rfl rfl)
theorem dX1_columnWidths_72 : decode cX1_columnWidths 72 = .ok (.invokestatic 180, 3) := dk_184 0 180 (dk_at dksX1_columnWidths_3 4 rfl rfl)
theorem dX1_columnWidths_75 : decode cX1_columnWidths 75 = .ok (.iastore, 1) := dk_79 (dk_at dksX1_columnWidths_3 7 rfl rfl)
theorem dX1_columnWidths_76 : decode cX1_columnWidths 76 = .ok (.iinc 4 1, 3) := dk_132 4 1 (dk_at dksX1_columnWidths_3 8 rfl rfl)
theorem dX1_columnWidths_79 : decode cX1_columnWidths 79 = .ok (.goto (-64), 3) := dk_167 255 192 (dk_at dksX1_columnWidths_3 11 rfl rfl)
theorem dX1_columnWidths_82 : decode cX1_columnWidths 82 = .ok (.aload_n 2, 1) := dk_44 (dk_at dksX1_columnWidths_3 14 rfl rfl)
theorem dX1_columnWidths_83 : decode cX1_columnWidths 83 = .ok (.areturn, 1) := dk_176 (dk_at dksX1_columnWidths_3 15 rfl rfl)
abbrev cX1_fitting : ByteArray := prog_1_method_31_code
def yX1_fitting : MethodName := ⟨RX1, "fitting", "(LColumnarPress$Box;I)I"⟩
def dkwX1_fitting_1 : List UInt8 := [184, 0, 189, 27, 184, 0, 222, 184, 0, 180, 172]
abbrev dktX1_fitting_1 : List UInt8 := dkwX1_fitting_1 ++ []
def dkwX1_fitting_0 : List UInt8 := [42, 182, 0, 204, 2, 159, 0, 10, 42, 182, 0, 204, 167, 0, 20, 42, 4, 184, 0, 189, 42, 3]
abbrev dktX1_fitting_0 : List UInt8 := dkwX1_fitting_0 ++ dktX1_fitting_1
theorem dksX1_fitting_0 : cX1_fitting.data.toList.drop 0 = dktX1_fitting_0 := by decide +kernel
theorem dksX1_fitting_1 : cX1_fitting.data.toList.drop 22 = dktX1_fitting_1 := dk_seg dksX1_fitting_0 22 rfl rfl
theorem dX1_fitting_0 : decode cX1_fitting 0 = .ok (.aload_n 0, 1) := dk_42 (dk_at dksX1_fitting_0 0 rfl rfl)
theorem dX1_fitting_1 : decode cX1_fitting 1 = .ok (.invokevirtual 204, 3) := dk_182 0 204 (dk_at dksX1_fitting_0 1 rfl rfl)
theorem dX1_fitting_4 : decode cX1_fitting 4 = .ok (.iconst (-1), 1) := dk_2 (dk_at dksX1_fitting_0 4 rfl rfl)
theorem dX1_fitting_5 : decode cX1_fitting 5 = .ok (.if_icmp .eq 10, 3) := dk_159 0 10 (dk_at dksX1_fitting_0 5 rfl rfl)
theorem dX1_fitting_8 : decode cX1_fitting 8 = .ok (.aload_n 0, 1) := dk_42 (dk_at dksX1_fitting_0 8 rfl rfl)
theorem dX1_fitting_9 : decode cX1_fitting 9 = .ok (.invokevirtual 204, 3) := dk_182 0 204 (dk_at dksX1_fitting_0 9 rfl rfl)
theorem dX1_fitting_12 : decode cX1_fitting 12 = .ok (.goto 20, 3) := dk_167 0 20 (dk_at dksX1_fitting_0 12 rfl rfl)
theorem dX1_fitting_15 : decode cX1_fitting 15 = .ok (.aload_n 0, 1) := dk_42 (dk_at dksX1_fitting_0 15 rfl rfl)
theorem dX1_fitting_16 : decode cX1_fitting 16 = .ok (.iconst 1, 1) := dk_4 (dk_at dksX1_fitting_0 16 rfl rfl)
theorem dX1_fitting_17 : decode cX1_fitting 17 = .ok (.invokestatic 189, 3) := dk_184 0 189 (dk_at dksX1_fitting_0 17 rfl rfl)
theorem dX1_fitting_20 : decode cX1_fitting 20 = .ok (.aload_n 0, 1) := dk_42 (dk_at dksX1_fitting_0 20 rfl rfl)
theorem dX1_fitting_21 : decode cX1_fitting 21 = .ok (.iconst 0, 1) := dk_3 (dk_at dksX1_fitting_0 21 rfl rfl)
theorem dX1_fitting_22 : decode cX1_fitting 22 = .ok (.invokestatic 189, 3) := dk_184 0 189 (dk_at dksX1_fitting_1 0 rfl rfl)
theorem dX1_fitting_25 : decode cX1_fitting 25 = .ok (.iload_n 1, 1) := dk_27 (dk_at dksX1_fitting_1 3 rfl rfl)
theorem dX1_fitting_26 : decode cX1_fitting 26 = .ok (.invokestatic 222, 3) := dk_184 0 222 (dk_at dksX1_fitting_1 4 rfl rfl)
theorem dX1_fitting_29 : decode cX1_fitting 29 = .ok (.invokestatic 180, 3) := dk_184 0 180 (dk_at dksX1_fitting_1 7 rfl rfl)
theorem dX1_fitting_32 : decode cX1_fitting 32 = .ok (.ireturn, 1) := dk_172 (dk_at dksX1_fitting_1 10 rfl rfl)
abbrev cX1_add : ByteArray := prog_1_method_9_code
def yX1_add : MethodName := ⟨RX1, "add", "(IC)I"⟩
def dkwX1_add_5 : List UInt8 := [185, 0, 25, 2, 0, 87, 25, 4, 182, 0, 85, 25, 4, 180, 0, 88, 172]
abbrev dktX1_add_5 : List UInt8 := dkwX1_add_5 ++ []
def dkwX1_add_4 : List UInt8 := [58, 4, 42, 180, 0, 10, 25, 4, 185, 0, 25, 2, 0, 87, 45, 180, 0, 82, 25, 4]
abbrev dktX1_add_4 : List UInt8 := dkwX1_add_4 ++ dktX1_add_5
def dkwX1_add_3 : List UInt8 := [16, 7, 162, 0, 7, 4, 167, 0, 4, 3, 184, 0, 79, 187, 0, 20, 89, 42, 45, 28, 183, 0, 22]
abbrev dktX1_add_3 : List UInt8 := dkwX1_add_3 ++ dktX1_add_4
def dkwX1_add_2 : List UInt8 := [16, 24, 162, 0, 7, 4, 167, 0, 4, 3, 184, 0, 69, 45, 182, 0, 72, 154, 0, 16, 45, 180, 0, 76]
abbrev dktX1_add_2 : List UInt8 := dkwX1_add_2 ++ dktX1_add_3
def dkwX1_add_1 : List UInt8 := [28, 16, 103, 160, 0, 7, 4, 167, 0, 4, 3, 184, 0, 66, 42, 180, 0, 10, 185, 0, 46, 1, 0]
abbrev dktX1_add_1 : List UInt8 := dkwX1_add_1 ++ dktX1_add_2
def dkwX1_add_0 : List UInt8 := [42, 27, 182, 0, 62, 78, 28, 16, 98, 159, 0, 21, 28, 16, 116, 159, 0, 15, 28, 16, 102, 159, 0, 9]
abbrev dktX1_add_0 : List UInt8 := dkwX1_add_0 ++ dktX1_add_1
theorem dksX1_add_0 : cX1_add.data.toList.drop 0 = dktX1_add_0 := by decide +kernel
theorem dksX1_add_1 : cX1_add.data.toList.drop 24 = dktX1_add_1 := dk_seg dksX1_add_0 24 rfl rfl
theorem dksX1_add_2 : cX1_add.data.toList.drop 47 = dktX1_add_2 := dk_seg dksX1_add_1 23 rfl rfl
theorem dksX1_add_3 : cX1_add.data.toList.drop 71 = dktX1_add_3 := dk_seg dksX1_add_2 24 rfl rfl
theorem dksX1_add_4 : cX1_add.data.toList.drop 94 = dktX1_add_4 := dk_seg dksX1_add_3 23 rfl rfl
theorem dksX1_add_5 : cX1_add.data.toList.drop 114 = dktX1_add_5 := dk_seg dksX1_add_4 20 rfl rfl
theorem dX1_add_0 : decode cX1_add 0 = .ok (.aload_n 0, 1) := dk_42 (dk_at dksX1_add_0 0 rfl rfl)
theorem dX1_add_1 : decode cX1_add 1 = .ok (.iload_n 1, 1) := dk_27 (dk_at dksX1_add_0 1 rfl rfl)
theorem dX1_add_2 : decode cX1_add 2 = .ok (.invokevirtual 62, 3) := dk_182 0 62 (dk_at dksX1_add_0 2 rfl rfl)
theorem dX1_add_5 : decode cX1_add 5 = .ok (.astore_n 3, 1) := dk_78 (dk_at dksX1_add_0 5 rfl rfl)
theorem dX1_add_6 : decode cX1_add 6 = .ok (.iload_n 2, 1) := dk_28 (dk_at dksX1_add_0 6 rfl rfl)
theorem dX1_add_7 : decode cX1_add 7 = .ok (.bipush 98, 2) := dk_16 98 (dk_at dksX1_add_0 7 rfl rfl)
theorem dX1_add_9 : decode cX1_add 9 = .ok (.if_icmp .eq 21, 3) := dk_159 0 21 (dk_at dksX1_add_0 9 rfl rfl)
theorem dX1_add_12 : decode cX1_add 12 = .ok (.iload_n 2, 1) := dk_28 (dk_at dksX1_add_0 12 rfl rfl)
theorem dX1_add_13 : decode cX1_add 13 = .ok (.bipush 116, 2) := dk_16 116 (dk_at dksX1_add_0 13 rfl rfl)
theorem dX1_add_15 : decode cX1_add 15 = .ok (.if_icmp .eq 15, 3) := dk_159 0 15 (dk_at dksX1_add_0 15 rfl rfl)
theorem dX1_add_18 : decode cX1_add 18 = .ok (.iload_n 2, 1) := dk_28 (dk_at dksX1_add_0 18 rfl rfl)
theorem dX1_add_19 : decode cX1_add 19 = .ok (.bipush 102, 2) := dk_16 102 (dk_at dksX1_add_0 19 rfl rfl)
theorem dX1_add_21 : decode cX1_add 21 = .ok (.if_icmp .eq 9, 3) := dk_159 0 9 (dk_at dksX1_add_0 21 rfl rfl)
theorem dX1_add_24 : decode cX1_add 24 = .ok (.iload_n 2, 1) := dk_28 (dk_at dksX1_add_1 0 rfl rfl)
theorem dX1_add_25 : decode cX1_add 25 = .ok (.bipush 103, 2) := dk_16 103 (dk_at dksX1_add_1 1 rfl rfl)
theorem dX1_add_27 : decode cX1_add 27 = .ok (.if_icmp .ne 7, 3) := dk_160 0 7 (dk_at dksX1_add_1 3 rfl rfl)
theorem dX1_add_30 : decode cX1_add 30 = .ok (.iconst 1, 1) := dk_4 (dk_at dksX1_add_1 6 rfl rfl)
theorem dX1_add_31 : decode cX1_add 31 = .ok (.goto 4, 3) := dk_167 0 4 (dk_at dksX1_add_1 7 rfl rfl)
theorem dX1_add_34 : decode cX1_add 34 = .ok (.iconst 0, 1) := dk_3 (dk_at dksX1_add_1 10 rfl rfl)
theorem dX1_add_35 : decode cX1_add 35 = .ok (.invokestatic 66, 3) := dk_184 0 66 (dk_at dksX1_add_1 11 rfl rfl)
theorem dX1_add_38 : decode cX1_add 38 = .ok (.aload_n 0, 1) := dk_42 (dk_at dksX1_add_1 14 rfl rfl)
theorem dX1_add_39 : decode cX1_add 39 = .ok (.getfield 10, 3) := dk_180 0 10 (dk_at dksX1_add_1 15 rfl rfl)
theorem dX1_add_42 : decode cX1_add 42 = .ok (.invokeinterface 46 1, 5) := by decide +kernel
theorem dX1_add_47 : decode cX1_add 47 = .ok (.bipush 24, 2) := dk_16 24 (dk_at dksX1_add_2 0 rfl rfl)
theorem dX1_add_49 : decode cX1_add 49 = .ok (.if_icmp .ge 7, 3) := dk_162 0 7 (dk_at dksX1_add_2 2 rfl rfl)
theorem dX1_add_52 : decode cX1_add 52 = .ok (.iconst 1, 1) := dk_4 (dk_at dksX1_add_2 5 rfl rfl)
theorem dX1_add_53 : decode cX1_add 53 = .ok (.goto 4, 3) := dk_167 0 4 (dk_at dksX1_add_2 6 rfl rfl)
theorem dX1_add_56 : decode cX1_add 56 = .ok (.iconst 0, 1) := dk_3 (dk_at dksX1_add_2 9 rfl rfl)
theorem dX1_add_57 : decode cX1_add 57 = .ok (.invokestatic 69, 3) := dk_184 0 69 (dk_at dksX1_add_2 10 rfl rfl)
theorem dX1_add_60 : decode cX1_add 60 = .ok (.aload_n 3, 1) := dk_45 (dk_at dksX1_add_2 13 rfl rfl)
theorem dX1_add_61 : decode cX1_add 61 = .ok (.invokevirtual 72, 3) := dk_182 0 72 (dk_at dksX1_add_2 14 rfl rfl)
theorem dX1_add_64 : decode cX1_add 64 = .ok (.ifCond .ne 16, 3) := dk_154 0 16 (dk_at dksX1_add_2 17 rfl rfl)
theorem dX1_add_67 : decode cX1_add 67 = .ok (.aload_n 3, 1) := dk_45 (dk_at dksX1_add_2 20 rfl rfl)
theorem dX1_add_68 : decode cX1_add 68 = .ok (.getfield 76, 3) := dk_180 0 76 (dk_at dksX1_add_2 21 rfl rfl)
theorem dX1_add_71 : decode cX1_add 71 = .ok (.bipush 7, 2) := dk_16 7 (dk_at dksX1_add_3 0 rfl rfl)
theorem dX1_add_73 : decode cX1_add 73 = .ok (.if_icmp .ge 7, 3) := dk_162 0 7 (dk_at dksX1_add_3 2 rfl rfl)
theorem dX1_add_76 : decode cX1_add 76 = .ok (.iconst 1, 1) := dk_4 (dk_at dksX1_add_3 5 rfl rfl)
theorem dX1_add_77 : decode cX1_add 77 = .ok (.goto 4, 3) := dk_167 0 4 (dk_at dksX1_add_3 6 rfl rfl)
theorem dX1_add_80 : decode cX1_add 80 = .ok (.iconst 0, 1) := dk_3 (dk_at dksX1_add_3 9 rfl rfl)
theorem dX1_add_81 : decode cX1_add 81 = .ok (.invokestatic 79, 3) := dk_184 0 79 (dk_at dksX1_add_3 10 rfl rfl)
theorem dX1_add_84 : decode cX1_add 84 = .ok (.new 20, 3) := dk_187 0 20 (dk_at dksX1_add_3 13 rfl rfl)
theorem dX1_add_87 : decode cX1_add 87 = .ok (.dup, 1) := dk_89 (dk_at dksX1_add_3 16 rfl rfl)
theorem dX1_add_88 : decode cX1_add 88 = .ok (.aload_n 0, 1) := dk_42 (dk_at dksX1_add_3 17 rfl rfl)
theorem dX1_add_89 : decode cX1_add 89 = .ok (.aload_n 3, 1) := dk_45 (dk_at dksX1_add_3 18 rfl rfl)
theorem dX1_add_90 : decode cX1_add 90 = .ok (.iload_n 2, 1) := dk_28 (dk_at dksX1_add_3 19 rfl rfl)
theorem dX1_add_91 : decode cX1_add 91 = .ok (.invokespecial 22, 3) := dk_183 0 22 (dk_at dksX1_add_3 20 rfl rfl)
theorem dX1_add_94 : decode cX1_add 94 = .ok (.astore 4, 2) := dk_58 4 (dk_at dksX1_add_4 0 rfl rfl)
theorem dX1_add_96 : decode cX1_add 96 = .ok (.aload_n 0, 1) := dk_42 (dk_at dksX1_add_4 2 rfl rfl)
theorem dX1_add_97 : decode cX1_add 97 = .ok (.getfield 10, 3) := dk_180 0 10 (dk_at dksX1_add_4 3 rfl rfl)
theorem dX1_add_100 : decode cX1_add 100 = .ok (.aload 4, 2) := dk_25 4 (dk_at dksX1_add_4 6 rfl rfl)
theorem dX1_add_102 : decode cX1_add 102 = .ok (.invokeinterface 25 2, 5) := by decide +kernel
theorem dX1_add_107 : decode cX1_add 107 = .ok (.pop, 1) := dk_87 (dk_at dksX1_add_4 13 rfl rfl)
theorem dX1_add_108 : decode cX1_add 108 = .ok (.aload_n 3, 1) := dk_45 (dk_at dksX1_add_4 14 rfl rfl)
theorem dX1_add_109 : decode cX1_add 109 = .ok (.getfield 82, 3) := dk_180 0 82 (dk_at dksX1_add_4 15 rfl rfl)
theorem dX1_add_112 : decode cX1_add 112 = .ok (.aload 4, 2) := dk_25 4 (dk_at dksX1_add_4 18 rfl rfl)
theorem dX1_add_114 : decode cX1_add 114 = .ok (.invokeinterface 25 2, 5) := by decide +kernel
theorem dX1_add_119 : decode cX1_add 119 = .ok (.pop, 1) := dk_87 (dk_at dksX1_add_5 5 rfl rfl)
theorem dX1_add_120 : decode cX1_add 120 = .ok (.aload 4, 2) := dk_25 4 (dk_at dksX1_add_5 6 rfl rfl)
theorem dX1_add_122 : decode cX1_add 122 = .ok (.invokevirtual 85, 3) := dk_182 0 85 (dk_at dksX1_add_5 8 rfl rfl)
theorem dX1_add_125 : decode cX1_add 125 = .ok (.aload 4, 2) := dk_25 4 (dk_at dksX1_add_5 11 rfl rfl)
theorem dX1_add_127 : decode cX1_add 127 = .ok (.getfield 88, 3) := dk_180 0 88 (dk_at dksX1_add_5 13 rfl rfl)
theorem dX1_add_130 : decode cX1_add 130 = .ok (.ireturn, 1) := dk_172 (dk_at dksX1_add_5 16 rfl rfl)
abbrev cX1_box : ByteArray := prog_1_method_8_code
def yX1_box : MethodName := ⟨RX1, "box", "(I)LColumnarPress$Box;"⟩
def dkwX1_box_1 : List UInt8 := [185, 0, 58, 2, 0, 192, 0, 20, 176]
abbrev dktX1_box_1 : List UInt8 := dkwX1_box_1 ++ []
def dkwX1_box_0 : List UInt8 := [27, 3, 42, 180, 0, 10, 185, 0, 46, 1, 0, 4, 100, 184, 0, 50, 184, 0, 54, 42, 180, 0, 10, 27]
abbrev dktX1_box_0 : List UInt8 := dkwX1_box_0 ++ dktX1_box_1
theorem dksX1_box_0 : cX1_box.data.toList.drop 0 = dktX1_box_0 := by decide +kernel
theorem dksX1_box_1 : cX1_box.data.toList.drop 24 = dktX1_box_1 := dk_seg dksX1_box_0 24 rfl rfl
theorem dX1_box_0 : decode cX1_box 0 = .ok (.iload_n 1, 1) := dk_27 (dk_at dksX1_box_0 0 rfl rfl)
theorem dX1_box_1 : decode cX1_box 1 = .ok (.iconst 0, 1) := dk_3 (dk_at dksX1_box_0 1 rfl rfl)
theorem dX1_box_2 : decode cX1_box 2 = .ok (.aload_n 0, 1) := dk_42 (dk_at dksX1_box_0 2 rfl rfl)
theorem dX1_box_3 : decode cX1_box 3 = .ok (.getfield 10, 3) := dk_180 0 10 (dk_at dksX1_box_0 3 rfl rfl)
theorem dX1_box_6 : decode cX1_box 6 = .ok (.invokeinterface 46 1, 5) := by decide +kernel
theorem dX1_box_11 : decode cX1_box 11 = .ok (.iconst 1, 1) := dk_4 (dk_at dksX1_box_0 11 rfl rfl)
theorem dX1_box_12 : decode cX1_box 12 = .ok (.isub, 1) := dk_100 (dk_at dksX1_box_0 12 rfl rfl)
theorem dX1_box_13 : decode cX1_box 13 = .ok (.invokestatic 50, 3) := dk_184 0 50 (dk_at dksX1_box_0 13 rfl rfl)
theorem dX1_box_16 : decode cX1_box 16 = .ok (.invokestatic 54, 3) := dk_184 0 54 (dk_at dksX1_box_0 16 rfl rfl)
theorem dX1_box_19 : decode cX1_box 19 = .ok (.aload_n 0, 1) := dk_42 (dk_at dksX1_box_0 19 rfl rfl)
theorem dX1_box_20 : decode cX1_box 20 = .ok (.getfield 10, 3) := dk_180 0 10 (dk_at dksX1_box_0 20 rfl rfl)
theorem dX1_box_23 : decode cX1_box 23 = .ok (.iload_n 1, 1) := dk_27 (dk_at dksX1_box_0 23 rfl rfl)
theorem dX1_box_24 : decode cX1_box 24 = .ok (.invokeinterface 58 2, 5) := by decide +kernel
theorem dX1_box_29 : decode cX1_box 29 = .ok (.checkcast 20, 3) := dk_192 0 20 (dk_at dksX1_box_1 5 rfl rfl)
theorem dX1_box_32 : decode cX1_box 32 = .ok (.areturn, 1) := dk_176 (dk_at dksX1_box_1 8 rfl rfl)
abbrev cX1_isBetween : ByteArray := prog_1_method_2_code
def yX1_isBetween : MethodName := ⟨RX1, "isBetween", "(III)Z"⟩
def dkwX1_isBetween_0 : List UInt8 := [26, 27, 161, 0, 12, 26, 28, 163, 0, 7, 4, 167, 0, 4, 3, 172]
abbrev dktX1_isBetween_0 : List UInt8 := dkwX1_isBetween_0 ++ []
theorem dksX1_isBetween_0 : cX1_isBetween.data.toList.drop 0 = dktX1_isBetween_0 := by decide +kernel
theorem dX1_isBetween_0 : decode cX1_isBetween 0 = .ok (.iload_n 0, 1) := dk_26 (dk_at dksX1_isBetween_0 0 rfl rfl)
theorem dX1_isBetween_1 : decode cX1_isBetween 1 = .ok (.iload_n 1, 1) := dk_27 (dk_at dksX1_isBetween_0 1 rfl rfl)
theorem dX1_isBetween_2 : decode cX1_isBetween 2 = .ok (.if_icmp .lt 12, 3) := dk_161 0 12 (dk_at dksX1_isBetween_0 2 rfl rfl)
theorem dX1_isBetween_5 : decode cX1_isBetween 5 = .ok (.iload_n 0, 1) := dk_26 (dk_at dksX1_isBetween_0 5 rfl rfl)
theorem dX1_isBetween_6 : decode cX1_isBetween 6 = .ok (.iload_n 2, 1) := dk_28 (dk_at dksX1_isBetween_0 6 rfl rfl)
theorem dX1_isBetween_7 : decode cX1_isBetween 7 = .ok (.if_icmp .gt 7, 3) := dk_163 0 7 (dk_at dksX1_isBetween_0 7 rfl rfl)
theorem dX1_isBetween_10 : decode cX1_isBetween 10 = .ok (.iconst 1, 1) := dk_4 (dk_at dksX1_isBetween_0 10 rfl rfl)
theorem dX1_isBetween_11 : decode cX1_isBetween 11 = .ok (.goto 4, 3) := dk_167 0 4 (dk_at dksX1_isBetween_0 11 rfl rfl)
theorem dX1_isBetween_14 : decode cX1_isBetween 14 = .ok (.iconst 0, 1) := dk_3 (dk_at dksX1_isBetween_0 14 rfl rfl)
theorem dX1_isBetween_15 : decode cX1_isBetween 15 = .ok (.ireturn, 1) := dk_172 (dk_at dksX1_isBetween_0 15 rfl rfl)
abbrev cX1_requireIndex : ByteArray := prog_1_method_3_code
def yX1_requireIndex : MethodName := ⟨RX1, "requireIndex", "(Z)V"⟩
def dkwX1_requireIndex_0 : List UInt8 := [26, 154, 0, 11, 187, 0, 31, 89, 183, 0, 33, 191, 177]
abbrev dktX1_requireIndex_0 : List UInt8 := dkwX1_requireIndex_0 ++ []
theorem dksX1_requireIndex_0 : cX1_requireIndex.data.toList.drop 0 = dktX1_requireIndex_0 := by decide +kernel
theorem dX1_requireIndex_0 : decode cX1_requireIndex 0 = .ok (.iload_n 0, 1) := dk_26 (dk_at dksX1_requireIndex_0 0 rfl rfl)
theorem dX1_requireIndex_1 : decode cX1_requireIndex 1 = .ok (.ifCond .ne 11, 3) := dk_154 0 11 (dk_at dksX1_requireIndex_0 1 rfl rfl)
theorem dX1_requireIndex_4 : decode cX1_requireIndex 4 = .ok (.new 31, 3) := dk_187 0 31 (dk_at dksX1_requireIndex_0 4 rfl rfl)
theorem dX1_requireIndex_7 : decode cX1_requireIndex 7 = .ok (.dup, 1) := dk_89 (dk_at dksX1_requireIndex_0 7 rfl rfl)
theorem dX1_requireIndex_8 : decode cX1_requireIndex 8 = .ok (.invokespecial 33, 3) := dk_183 0 33 (dk_at dksX1_requireIndex_0 8 rfl rfl)
theorem dX1_requireIndex_11 : decode cX1_requireIndex 11 = .ok (.athrow, 1) := dk_191 (dk_at dksX1_requireIndex_0 11 rfl rfl)
theorem dX1_requireIndex_12 : decode cX1_requireIndex 12 = .ok (.return_, 1) := dk_177 (dk_at dksX1_requireIndex_0 12 rfl rfl)
abbrev cX1_requireArgument : ByteArray := prog_1_method_4_code
def yX1_requireArgument : MethodName := ⟨RX1, "requireArgument", "(Z)V"⟩
def dkwX1_requireArgument_0 : List UInt8 := [26, 154, 0, 11, 187, 0, 34, 89, 183, 0, 36, 191, 177]
abbrev dktX1_requireArgument_0 : List UInt8 := dkwX1_requireArgument_0 ++ []
theorem dksX1_requireArgument_0 : cX1_requireArgument.data.toList.drop 0 = dktX1_requireArgument_0 := by decide +kernel
theorem dX1_requireArgument_0 : decode cX1_requireArgument 0 = .ok (.iload_n 0, 1) := dk_26 (dk_at dksX1_requireArgument_0 0 rfl rfl)
theorem dX1_requireArgument_1 : decode cX1_requireArgument 1 = .ok (.ifCond .ne 11, 3) := dk_154 0 11 (dk_at dksX1_requireArgument_0 1 rfl rfl)
theorem dX1_requireArgument_4 : decode cX1_requireArgument 4 = .ok (.new 34, 3) := dk_187 0 34 (dk_at dksX1_requireArgument_0 4 rfl rfl)
theorem dX1_requireArgument_7 : decode cX1_requireArgument 7 = .ok (.dup, 1) := dk_89 (dk_at dksX1_requireArgument_0 7 rfl rfl)
theorem dX1_requireArgument_8 : decode cX1_requireArgument 8 = .ok (.invokespecial 36, 3) := dk_183 0 36 (dk_at dksX1_requireArgument_0 8 rfl rfl)
theorem dX1_requireArgument_11 : decode cX1_requireArgument 11 = .ok (.athrow, 1) := dk_191 (dk_at dksX1_requireArgument_0 11 rfl rfl)
theorem dX1_requireArgument_12 : decode cX1_requireArgument 12 = .ok (.return_, 1) := dk_177 (dk_at dksX1_requireArgument_0 12 rfl rfl)
abbrev cX1_requireState : ByteArray := prog_1_method_5_code
def yX1_requireState : MethodName := ⟨RX1, "requireState", "(Z)V"⟩
def dkwX1_requireState_0 : List UInt8 := [26, 154, 0, 11, 187, 0, 37, 89, 183, 0, 39, 191, 177]
abbrev dktX1_requireState_0 : List UInt8 := dkwX1_requireState_0 ++ []
theorem dksX1_requireState_0 : cX1_requireState.data.toList.drop 0 = dktX1_requireState_0 := by decide +kernel
theorem dX1_requireState_0 : decode cX1_requireState 0 = .ok (.iload_n 0, 1) := dk_26 (dk_at dksX1_requireState_0 0 rfl rfl)
theorem dX1_requireState_1 : decode cX1_requireState 1 = .ok (.ifCond .ne 11, 3) := dk_154 0 11 (dk_at dksX1_requireState_0 1 rfl rfl)
theorem dX1_requireState_4 : decode cX1_requireState 4 = .ok (.new 37, 3) := dk_187 0 37 (dk_at dksX1_requireState_0 4 rfl rfl)
theorem dX1_requireState_7 : decode cX1_requireState 7 = .ok (.dup, 1) := dk_89 (dk_at dksX1_requireState_0 7 rfl rfl)
theorem dX1_requireState_8 : decode cX1_requireState 8 = .ok (.invokespecial 39, 3) := dk_183 0 39 (dk_at dksX1_requireState_0 8 rfl rfl)
theorem dX1_requireState_11 : decode cX1_requireState 11 = .ok (.athrow, 1) := dk_191 (dk_at dksX1_requireState_0 11 rfl rfl)
theorem dX1_requireState_12 : decode cX1_requireState 12 = .ok (.return_, 1) := dk_177 (dk_at dksX1_requireState_0 12 rfl rfl)
abbrev cX1_requireAllowed : ByteArray := prog_1_method_6_code
def yX1_requireAllowed : MethodName := ⟨RX1, "requireAllowed", "(Z)V"⟩
def dkwX1_requireAllowed_0 : List UInt8 := [26, 154, 0, 11, 187, 0, 40, 89, 183, 0, 42, 191, 177]
abbrev dktX1_requireAllowed_0 : List UInt8 := dkwX1_requireAllowed_0 ++ []
theorem dksX1_requireAllowed_0 : cX1_requireAllowed.data.toList.drop 0 = dktX1_requireAllowed_0 := by decide +kernel
theorem dX1_requireAllowed_0 : decode cX1_requireAllowed 0 = .ok (.iload_n 0, 1) := dk_26 (dk_at dksX1_requireAllowed_0 0 rfl rfl)
theorem dX1_requireAllowed_1 : decode cX1_requireAllowed 1 = .ok (.ifCond .ne 11, 3) := dk_154 0 11 (dk_at dksX1_requireAllowed_0 1 rfl rfl)
theorem dX1_requireAllowed_4 : decode cX1_requireAllowed 4 = .ok (.new 40, 3) := dk_187 0 40 (dk_at dksX1_requireAllowed_0 4 rfl rfl)
theorem dX1_requireAllowed_7 : decode cX1_requireAllowed 7 = .ok (.dup, 1) := dk_89 (dk_at dksX1_requireAllowed_0 7 rfl rfl)
theorem dX1_requireAllowed_8 : decode cX1_requireAllowed 8 = .ok (.invokespecial 42, 3) := dk_183 0 42 (dk_at dksX1_requireAllowed_0 8 rfl rfl)
theorem dX1_requireAllowed_11 : decode cX1_requireAllowed 11 = .ok (.athrow, 1) := dk_191 (dk_at dksX1_requireAllowed_0 11 rfl rfl)
theorem dX1_requireAllowed_12 : decode cX1_requireAllowed 12 = .ok (.return_, 1) := dk_177 (dk_at dksX1_requireAllowed_0 12 rfl rfl)
abbrev cX1_addWord : ByteArray := prog_1_method_10_code
def yX1_addWord : MethodName := ⟨RX1, "addWord", "(II)I"⟩
def dkwX1_addWord_3 : List UInt8 := [185, 0, 46, 1, 0, 172]
abbrev dktX1_addWord_3 : List UInt8 := dkwX1_addWord_3 ++ []
def dkwX1_addWord_2 : List UInt8 := [180, 0, 91, 28, 184, 0, 94, 185, 0, 25, 2, 0, 87, 45, 182, 0, 85, 45, 180, 0, 91]
abbrev dktX1_addWord_2 : List UInt8 := dkwX1_addWord_2 ++ dktX1_addWord_3
def dkwX1_addWord_1 : List UInt8 := [180, 0, 91, 185, 0, 46, 1, 0, 16, 20, 162, 0, 7, 4, 167, 0, 4, 3, 184, 0, 69, 45]
abbrev dktX1_addWord_1 : List UInt8 := dkwX1_addWord_1 ++ dktX1_addWord_2
def dkwX1_addWord_0 : List UInt8 := [42, 27, 182, 0, 62, 78, 28, 4, 16, 60, 184, 0, 50, 184, 0, 66, 45, 182, 0, 72, 184, 0, 79, 45]
abbrev dktX1_addWord_0 : List UInt8 := dkwX1_addWord_0 ++ dktX1_addWord_1
theorem dksX1_addWord_0 : cX1_addWord.data.toList.drop 0 = dktX1_addWord_0 := by decide +kernel
theorem dksX1_addWord_1 : cX1_addWord.data.toList.drop 24 = dktX1_addWord_1 := dk_seg dksX1_addWord_0 24 rfl rfl
theorem dksX1_addWord_2 : cX1_addWord.data.toList.drop 46 = dktX1_addWord_2 := dk_seg dksX1_addWord_1 22 rfl rfl
theorem dksX1_addWord_3 : cX1_addWord.data.toList.drop 67 = dktX1_addWord_3 := dk_seg dksX1_addWord_2 21 rfl rfl
theorem dX1_addWord_0 : decode cX1_addWord 0 = .ok (.aload_n 0, 1) := dk_42 (dk_at dksX1_addWord_0 0 rfl rfl)
theorem dX1_addWord_1 : decode cX1_addWord 1 = .ok (.iload_n 1, 1) := dk_27 (dk_at dksX1_addWord_0 1 rfl rfl)
theorem dX1_addWord_2 : decode cX1_addWord 2 = .ok (.invokevirtual 62, 3) := dk_182 0 62 (dk_at dksX1_addWord_0 2 rfl rfl)
theorem dX1_addWord_5 : decode cX1_addWord 5 = .ok (.astore_n 3, 1) := dk_78 (dk_at dksX1_addWord_0 5 rfl rfl)
theorem dX1_addWord_6 : decode cX1_addWord 6 = .ok (.iload_n 2, 1) := dk_28 (dk_at dksX1_addWord_0 6 rfl rfl)
theorem dX1_addWord_7 : decode cX1_addWord 7 = .ok (.iconst 1, 1) := dk_4 (dk_at dksX1_addWord_0 7 rfl rfl)
theorem dX1_addWord_8 : decode cX1_addWord 8 = .ok (.bipush 60, 2) := dk_16 60 (dk_at dksX1_addWord_0 8 rfl rfl)
theorem dX1_addWord_10 : decode cX1_addWord 10 = .ok (.invokestatic 50, 3) := dk_184 0 50 (dk_at dksX1_addWord_0 10 rfl rfl)
theorem dX1_addWord_13 : decode cX1_addWord 13 = .ok (.invokestatic 66, 3) := dk_184 0 66 (dk_at dksX1_addWord_0 13 rfl rfl)
theorem dX1_addWord_16 : decode cX1_addWord 16 = .ok (.aload_n 3, 1) := dk_45 (dk_at dksX1_addWord_0 16 rfl rfl)
theorem dX1_addWord_17 : decode cX1_addWord 17 = .ok (.invokevirtual 72, 3) := dk_182 0 72 (dk_at dksX1_addWord_0 17 rfl rfl)
theorem dX1_addWord_20 : decode cX1_addWord 20 = .ok (.invokestatic 79, 3) := dk_184 0 79 (dk_at dksX1_addWord_0 20 rfl rfl)
theorem dX1_addWord_23 : decode cX1_addWord 23 = .ok (.aload_n 3, 1) := dk_45 (dk_at dksX1_addWord_0 23 rfl rfl)
theorem dX1_addWord_24 : decode cX1_addWord 24 = .ok (.getfield 91, 3) := dk_180 0 91 (dk_at dksX1_addWord_1 0 rfl rfl)
theorem dX1_addWord_27 : decode cX1_addWord 27 = .ok (.invokeinterface 46 1, 5) := by decide +kernel
theorem dX1_addWord_32 : decode cX1_addWord 32 = .ok (.bipush 20, 2) := dk_16 20 (dk_at dksX1_addWord_1 8 rfl rfl)
theorem dX1_addWord_34 : decode cX1_addWord 34 = .ok (.if_icmp .ge 7, 3) := dk_162 0 7 (dk_at dksX1_addWord_1 10 rfl rfl)
theorem dX1_addWord_37 : decode cX1_addWord 37 = .ok (.iconst 1, 1) := dk_4 (dk_at dksX1_addWord_1 13 rfl rfl)
theorem dX1_addWord_38 : decode cX1_addWord 38 = .ok (.goto 4, 3) := dk_167 0 4 (dk_at dksX1_addWord_1 14 rfl rfl)
theorem dX1_addWord_41 : decode cX1_addWord 41 = .ok (.iconst 0, 1) := dk_3 (dk_at dksX1_addWord_1 17 rfl rfl)
theorem dX1_addWord_42 : decode cX1_addWord 42 = .ok (.invokestatic 69, 3) := dk_184 0 69 (dk_at dksX1_addWord_1 18 rfl rfl)
theorem dX1_addWord_45 : decode cX1_addWord 45 = .ok (.aload_n 3, 1) := dk_45 (dk_at dksX1_addWord_1 21 rfl rfl)
theorem dX1_addWord_46 : decode cX1_addWord 46 = .ok (.getfield 91, 3) := dk_180 0 91 (dk_at dksX1_addWord_2 0 rfl rfl)
theorem dX1_addWord_49 : decode cX1_addWord 49 = .ok (.iload_n 2, 1) := dk_28 (dk_at dksX1_addWord_2 3 rfl rfl)
theorem dX1_addWord_50 : decode cX1_addWord 50 = .ok (.invokestatic 94, 3) := dk_184 0 94 (dk_at dksX1_addWord_2 4 rfl rfl)
theorem dX1_addWord_53 : decode cX1_addWord 53 = .ok (.invokeinterface 25 2, 5) := by decide +kernel
theorem dX1_addWord_58 : decode cX1_addWord 58 = .ok (.pop, 1) := dk_87 (dk_at dksX1_addWord_2 12 rfl rfl)
theorem dX1_addWord_59 : decode cX1_addWord 59 = .ok (.aload_n 3, 1) := dk_45 (dk_at dksX1_addWord_2 13 rfl rfl)
theorem dX1_addWord_60 : decode cX1_addWord 60 = .ok (.invokevirtual 85, 3) := dk_182 0 85 (dk_at dksX1_addWord_2 14 rfl rfl)
theorem dX1_addWord_63 : decode cX1_addWord 63 = .ok (.aload_n 3, 1) := dk_45 (dk_at dksX1_addWord_2 17 rfl rfl)
theorem dX1_addWord_64 : decode cX1_addWord 64 = .ok (.getfield 91, 3) := dk_180 0 91 (dk_at dksX1_addWord_2 18 rfl rfl)
theorem dX1_addWord_67 : decode cX1_addWord 67 = .ok (.invokeinterface 46 1, 5) := by decide +kernel
theorem dX1_addWord_72 : decode cX1_addWord 72 = .ok (.ireturn, 1) := dk_172 (dk_at dksX1_addWord_3 5 rfl rfl)
abbrev cX1_setSize : ByteArray := prog_1_method_11_code
def yX1_setSize : MethodName := ⟨RX1, "setSize", "(III)I"⟩
def dkwX1_setSize_2 : List UInt8 := [181, 0, 100, 25, 4, 29, 181, 0, 103, 25, 4, 182, 0, 85, 21, 5, 172]
abbrev dktX1_setSize_2 : List UInt8 := dkwX1_setSize_2 ++ []
def dkwX1_setSize_1 : List UInt8 := [184, 0, 50, 153, 0, 7, 4, 167, 0, 4, 3, 184, 0, 66, 25, 4, 180, 0, 100, 54, 5, 25, 4, 28]
abbrev dktX1_setSize_1 : List UInt8 := dkwX1_setSize_1 ++ dktX1_setSize_2
def dkwX1_setSize_0 : List UInt8 := [42, 27, 182, 0, 62, 58, 4, 28, 2, 17, 1, 144, 184, 0, 50, 153, 0, 18, 29, 2, 17, 1, 144]
abbrev dktX1_setSize_0 : List UInt8 := dkwX1_setSize_0 ++ dktX1_setSize_1
theorem dksX1_setSize_0 : cX1_setSize.data.toList.drop 0 = dktX1_setSize_0 := by decide +kernel
theorem dksX1_setSize_1 : cX1_setSize.data.toList.drop 23 = dktX1_setSize_1 := dk_seg dksX1_setSize_0 23 rfl rfl
theorem dksX1_setSize_2 : cX1_setSize.data.toList.drop 47 = dktX1_setSize_2 := dk_seg dksX1_setSize_1 24 rfl rfl
theorem dX1_setSize_0 : decode cX1_setSize 0 = .ok (.aload_n 0, 1) := dk_42 (dk_at dksX1_setSize_0 0 rfl rfl)
theorem dX1_setSize_1 : decode cX1_setSize 1 = .ok (.iload_n 1, 1) := dk_27 (dk_at dksX1_setSize_0 1 rfl rfl)
theorem dX1_setSize_2 : decode cX1_setSize 2 = .ok (.invokevirtual 62, 3) := dk_182 0 62 (dk_at dksX1_setSize_0 2 rfl rfl)
theorem dX1_setSize_5 : decode cX1_setSize 5 = .ok (.astore 4, 2) := dk_58 4 (dk_at dksX1_setSize_0 5 rfl rfl)
theorem dX1_setSize_7 : decode cX1_setSize 7 = .ok (.iload_n 2, 1) := dk_28 (dk_at dksX1_setSize_0 7 rfl rfl)
theorem dX1_setSize_8 : decode cX1_setSize 8 = .ok (.iconst (-1), 1) := dk_2 (dk_at dksX1_setSize_0 8 rfl rfl)
theorem dX1_setSize_9 : decode cX1_setSize 9 = .ok (.sipush 400, 3) := dk_17 1 144 (dk_at dksX1_setSize_0 9 rfl rfl)
theorem dX1_setSize_12 : decode cX1_setSize 12 = .ok (.invokestatic 50, 3) := dk_184 0 50 (dk_at dksX1_setSize_0 12 rfl rfl)
theorem dX1_setSize_15 : decode cX1_setSize 15 = .ok (.ifCond .eq 18, 3) := dk_153 0 18 (dk_at dksX1_setSize_0 15 rfl rfl)
theorem dX1_setSize_18 : decode cX1_setSize 18 = .ok (.iload_n 3, 1) := dk_29 (dk_at dksX1_setSize_0 18 rfl rfl)
theorem dX1_setSize_19 : decode cX1_setSize 19 = .ok (.iconst (-1), 1) := dk_2 (dk_at dksX1_setSize_0 19 rfl rfl)
theorem dX1_setSize_20 : decode cX1_setSize 20 = .ok (.sipush 400, 3) := dk_17 1 144 (dk_at dksX1_setSize_0 20 rfl rfl)
theorem dX1_setSize_23 : decode cX1_setSize 23 = .ok (.invokestatic 50, 3) := dk_184 0 50 (dk_at dksX1_setSize_1 0 rfl rfl)
theorem dX1_setSize_26 : decode cX1_setSize 26 = .ok (.ifCond .eq 7, 3) := dk_153 0 7 (dk_at dksX1_setSize_1 3 rfl rfl)
theorem dX1_setSize_29 : decode cX1_setSize 29 = .ok (.iconst 1, 1) := dk_4 (dk_at dksX1_setSize_1 6 rfl rfl)
theorem dX1_setSize_30 : decode cX1_setSize 30 = .ok (.goto 4, 3) := dk_167 0 4 (dk_at dksX1_setSize_1 7 rfl rfl)
theorem dX1_setSize_33 : decode cX1_setSize 33 = .ok (.iconst 0, 1) := dk_3 (dk_at dksX1_setSize_1 10 rfl rfl)
theorem dX1_setSize_34 : decode cX1_setSize 34 = .ok (.invokestatic 66, 3) := dk_184 0 66 (dk_at dksX1_setSize_1 11 rfl rfl)
theorem dX1_setSize_37 : decode cX1_setSize 37 = .ok (.aload 4, 2) := dk_25 4 (dk_at dksX1_setSize_1 14 rfl rfl)
theorem dX1_setSize_39 : decode cX1_setSize 39 = .ok (.getfield 100, 3) := dk_180 0 100 (dk_at dksX1_setSize_1 16 rfl rfl)
theorem dX1_setSize_42 : decode cX1_setSize 42 = .ok (.istore 5, 2) := dk_54 5 (dk_at dksX1_setSize_1 19 rfl rfl)
theorem dX1_setSize_44 : decode cX1_setSize 44 = .ok (.aload 4, 2) := dk_25 4 (dk_at dksX1_setSize_1 21 rfl rfl)
theorem dX1_setSize_46 : decode cX1_setSize 46 = .ok (.iload_n 2, 1) := dk_28 (dk_at dksX1_setSize_1 23 rfl rfl)
theorem dX1_setSize_47 : decode cX1_setSize 47 = .ok (.putfield 100, 3) := dk_181 0 100 (dk_at dksX1_setSize_2 0 rfl rfl)
theorem dX1_setSize_50 : decode cX1_setSize 50 = .ok (.aload 4, 2) := dk_25 4 (dk_at dksX1_setSize_2 3 rfl rfl)
theorem dX1_setSize_52 : decode cX1_setSize 52 = .ok (.iload_n 3, 1) := dk_29 (dk_at dksX1_setSize_2 5 rfl rfl)
theorem dX1_setSize_53 : decode cX1_setSize 53 = .ok (.putfield 103, 3) := dk_181 0 103 (dk_at dksX1_setSize_2 6 rfl rfl)
theorem dX1_setSize_56 : decode cX1_setSize 56 = .ok (.aload 4, 2) := dk_25 4 (dk_at dksX1_setSize_2 9 rfl rfl)
theorem dX1_setSize_58 : decode cX1_setSize 58 = .ok (.invokevirtual 85, 3) := dk_182 0 85 (dk_at dksX1_setSize_2 11 rfl rfl)
theorem dX1_setSize_61 : decode cX1_setSize 61 = .ok (.iload 5, 2) := dk_21 5 (dk_at dksX1_setSize_2 14 rfl rfl)
theorem dX1_setSize_63 : decode cX1_setSize 63 = .ok (.ireturn, 1) := dk_172 (dk_at dksX1_setSize_2 16 rfl rfl)
abbrev cX1_setMargins : ByteArray := prog_1_method_13_code
def yX1_setMargins : MethodName := ⟨RX1, "setMargins", "(IIIII)I"⟩
def dkwX1_setMargins_4 : List UInt8 := [172]
abbrev dktX1_setMargins_4 : List UInt8 := dkwX1_setMargins_4 ++ []
def dkwX1_setMargins_3 : List UInt8 := [181, 0, 113, 25, 6, 21, 4, 181, 0, 116, 25, 6, 21, 5, 181, 0, 119, 25, 6, 182, 0, 85, 21, 7]
abbrev dktX1_setMargins_3 : List UInt8 := dkwX1_setMargins_3 ++ dktX1_setMargins_4
def dkwX1_setMargins_2 : List UInt8 := [167, 0, 4, 3, 184, 0, 66, 25, 6, 180, 0, 110, 54, 7, 25, 6, 28, 181, 0, 110, 25, 6, 29]
abbrev dktX1_setMargins_2 : List UInt8 := dkwX1_setMargins_2 ++ dktX1_setMargins_3
def dkwX1_setMargins_1 : List UInt8 := [153, 0, 25, 21, 4, 3, 184, 0, 106, 153, 0, 16, 21, 5, 3, 184, 0, 106, 153, 0, 7, 4]
abbrev dktX1_setMargins_1 : List UInt8 := dkwX1_setMargins_1 ++ dktX1_setMargins_2
def dkwX1_setMargins_0 : List UInt8 := [42, 27, 182, 0, 62, 58, 6, 28, 16, 216, 184, 0, 106, 153, 0, 34, 29, 16, 216, 184, 0, 106]
abbrev dktX1_setMargins_0 : List UInt8 := dkwX1_setMargins_0 ++ dktX1_setMargins_1
theorem dksX1_setMargins_0 : cX1_setMargins.data.toList.drop 0 = dktX1_setMargins_0 := by decide +kernel
theorem dksX1_setMargins_1 : cX1_setMargins.data.toList.drop 22 = dktX1_setMargins_1 := dk_seg dksX1_setMargins_0 22 rfl rfl
theorem dksX1_setMargins_2 : cX1_setMargins.data.toList.drop 44 = dktX1_setMargins_2 := dk_seg dksX1_setMargins_1 22 rfl rfl
theorem dksX1_setMargins_3 : cX1_setMargins.data.toList.drop 67 = dktX1_setMargins_3 := dk_seg dksX1_setMargins_2 23 rfl rfl
theorem dksX1_setMargins_4 : cX1_setMargins.data.toList.drop 91 = dktX1_setMargins_4 := dk_seg dksX1_setMargins_3 24 rfl rfl
theorem dX1_setMargins_0 : decode cX1_setMargins 0 = .ok (.aload_n 0, 1) := dk_42 (dk_at dksX1_setMargins_0 0 rfl rfl)
theorem dX1_setMargins_1 : decode cX1_setMargins 1 = .ok (.iload_n 1, 1) := dk_27 (dk_at dksX1_setMargins_0 1 rfl rfl)
theorem dX1_setMargins_2 : decode cX1_setMargins 2 = .ok (.invokevirtual 62, 3) := dk_182 0 62 (dk_at dksX1_setMargins_0 2 rfl rfl)
theorem dX1_setMargins_5 : decode cX1_setMargins 5 = .ok (.astore 6, 2) := dk_58 6 (dk_at dksX1_setMargins_0 5 rfl rfl)
theorem dX1_setMargins_7 : decode cX1_setMargins 7 = .ok (.iload_n 2, 1) := dk_28 (dk_at dksX1_setMargins_0 7 rfl rfl)
theorem dX1_setMargins_8 : decode cX1_setMargins 8 = .ok (.bipush (-40), 2) := dk_16 216 (dk_at dksX1_setMargins_0 8 rfl rfl)
theorem dX1_setMargins_10 : decode cX1_setMargins 10 = .ok (.invokestatic 106, 3) := dk_184 0 106 (dk_at dksX1_setMargins_0 10 rfl rfl)
theorem dX1_setMargins_13 : decode cX1_setMargins 13 = .ok (.ifCond .eq 34, 3) := dk_153 0 34 (dk_at dksX1_setMargins_0 13 rfl rfl)
theorem dX1_setMargins_16 : decode cX1_setMargins 16 = .ok (.iload_n 3, 1) := dk_29 (dk_at dksX1_setMargins_0 16 rfl rfl)
theorem dX1_setMargins_17 : decode cX1_setMargins 17 = .ok (.bipush (-40), 2) := dk_16 216 (dk_at dksX1_setMargins_0 17 rfl rfl)
theorem dX1_setMargins_19 : decode cX1_setMargins 19 = .ok (.invokestatic 106, 3) := dk_184 0 106 (dk_at dksX1_setMargins_0 19 rfl rfl)
theorem dX1_setMargins_22 : decode cX1_setMargins 22 = .ok (.ifCond .eq 25, 3) := dk_153 0 25 (dk_at dksX1_setMargins_1 0 rfl rfl)
theorem dX1_setMargins_25 : decode cX1_setMargins 25 = .ok (.iload 4, 2) := dk_21 4 (dk_at dksX1_setMargins_1 3 rfl rfl)
theorem dX1_setMargins_27 : decode cX1_setMargins 27 = .ok (.iconst 0, 1) := dk_3 (dk_at dksX1_setMargins_1 5 rfl rfl)
theorem dX1_setMargins_28 : decode cX1_setMargins 28 = .ok (.invokestatic 106, 3) := dk_184 0 106 (dk_at dksX1_setMargins_1 6 rfl rfl)
theorem dX1_setMargins_31 : decode cX1_setMargins 31 = .ok (.ifCond .eq 16, 3) := dk_153 0 16 (dk_at dksX1_setMargins_1 9 rfl rfl)
theorem dX1_setMargins_34 : decode cX1_setMargins 34 = .ok (.iload 5, 2) := dk_21 5 (dk_at dksX1_setMargins_1 12 rfl rfl)
theorem dX1_setMargins_36 : decode cX1_setMargins 36 = .ok (.iconst 0, 1) := dk_3 (dk_at dksX1_setMargins_1 14 rfl rfl)
theorem dX1_setMargins_37 : decode cX1_setMargins 37 = .ok (.invokestatic 106, 3) := dk_184 0 106 (dk_at dksX1_setMargins_1 15 rfl rfl)
theorem dX1_setMargins_40 : decode cX1_setMargins 40 = .ok (.ifCond .eq 7, 3) := dk_153 0 7 (dk_at dksX1_setMargins_1 18 rfl rfl)
theorem dX1_setMargins_43 : decode cX1_setMargins 43 = .ok (.iconst 1, 1) := dk_4 (dk_at dksX1_setMargins_1 21 rfl rfl)
theorem dX1_setMargins_44 : decode cX1_setMargins 44 = .ok (.goto 4, 3) := dk_167 0 4 (dk_at dksX1_setMargins_2 0 rfl rfl)
theorem dX1_setMargins_47 : decode cX1_setMargins 47 = .ok (.iconst 0, 1) := dk_3 (dk_at dksX1_setMargins_2 3 rfl rfl)
theorem dX1_setMargins_48 : decode cX1_setMargins 48 = .ok (.invokestatic 66, 3) := dk_184 0 66 (dk_at dksX1_setMargins_2 4 rfl rfl)
theorem dX1_setMargins_51 : decode cX1_setMargins 51 = .ok (.aload 6, 2) := dk_25 6 (dk_at dksX1_setMargins_2 7 rfl rfl)
theorem dX1_setMargins_53 : decode cX1_setMargins 53 = .ok (.getfield 110, 3) := dk_180 0 110 (dk_at dksX1_setMargins_2 9 rfl rfl)
theorem dX1_setMargins_56 : decode cX1_setMargins 56 = .ok (.istore 7, 2) := dk_54 7 (dk_at dksX1_setMargins_2 12 rfl rfl)
theorem dX1_setMargins_58 : decode cX1_setMargins 58 = .ok (.aload 6, 2) := dk_25 6 (dk_at dksX1_setMargins_2 14 rfl rfl)
theorem dX1_setMargins_60 : decode cX1_setMargins 60 = .ok (.iload_n 2, 1) := dk_28 (dk_at dksX1_setMargins_2 16 rfl rfl)
theorem dX1_setMargins_61 : decode cX1_setMargins 61 = .ok (.putfield 110, 3) := dk_181 0 110 (dk_at dksX1_setMargins_2 17 rfl rfl)
theorem dX1_setMargins_64 : decode cX1_setMargins 64 = .ok (.aload 6, 2) := dk_25 6 (dk_at dksX1_setMargins_2 20 rfl rfl)
theorem dX1_setMargins_66 : decode cX1_setMargins 66 = .ok (.iload_n 3, 1) := dk_29 (dk_at dksX1_setMargins_2 22 rfl rfl)
theorem dX1_setMargins_67 : decode cX1_setMargins 67 = .ok (.putfield 113, 3) := dk_181 0 113 (dk_at dksX1_setMargins_3 0 rfl rfl)
theorem dX1_setMargins_70 : decode cX1_setMargins 70 = .ok (.aload 6, 2) := dk_25 6 (dk_at dksX1_setMargins_3 3 rfl rfl)
theorem dX1_setMargins_72 : decode cX1_setMargins 72 = .ok (.iload 4, 2) := dk_21 4 (dk_at dksX1_setMargins_3 5 rfl rfl)
theorem dX1_setMargins_74 : decode cX1_setMargins 74 = .ok (.putfield 116, 3) := dk_181 0 116 (dk_at dksX1_setMargins_3 7 rfl rfl)
theorem dX1_setMargins_77 : decode cX1_setMargins 77 = .ok (.aload 6, 2) := dk_25 6 (dk_at dksX1_setMargins_3 10 rfl rfl)
theorem dX1_setMargins_79 : decode cX1_setMargins 79 = .ok (.iload 5, 2) := dk_21 5 (dk_at dksX1_setMargins_3 12 rfl rfl)
theorem dX1_setMargins_81 : decode cX1_setMargins 81 = .ok (.putfield 119, 3) := dk_181 0 119 (dk_at dksX1_setMargins_3 14 rfl rfl)
theorem dX1_setMargins_84 : decode cX1_setMargins 84 = .ok (.aload 6, 2) := dk_25 6 (dk_at dksX1_setMargins_3 17 rfl rfl)
theorem dX1_setMargins_86 : decode cX1_setMargins 86 = .ok (.invokevirtual 85, 3) := dk_182 0 85 (dk_at dksX1_setMargins_3 19 rfl rfl)
theorem dX1_setMargins_89 : decode cX1_setMargins 89 = .ok (.iload 7, 2) := dk_21 7 (dk_at dksX1_setMargins_3 22 rfl rfl)
theorem dX1_setMargins_91 : decode cX1_setMargins 91 = .ok (.ireturn, 1) := dk_172 (dk_at dksX1_setMargins_4 0 rfl rfl)
abbrev cX1_isMargin : ByteArray := prog_1_method_12_code
def yX1_isMargin : MethodName := ⟨RX1, "isMargin", "(II)Z"⟩
def dkwX1_isMargin_0 : List UInt8 := [26, 27, 16, 40, 184, 0, 50, 172]
abbrev dktX1_isMargin_0 : List UInt8 := dkwX1_isMargin_0 ++ []
theorem dksX1_isMargin_0 : cX1_isMargin.data.toList.drop 0 = dktX1_isMargin_0 := by decide +kernel
theorem dX1_isMargin_0 : decode cX1_isMargin 0 = .ok (.iload_n 0, 1) := dk_26 (dk_at dksX1_isMargin_0 0 rfl rfl)
theorem dX1_isMargin_1 : decode cX1_isMargin 1 = .ok (.iload_n 1, 1) := dk_27 (dk_at dksX1_isMargin_0 1 rfl rfl)
theorem dX1_isMargin_2 : decode cX1_isMargin 2 = .ok (.bipush 40, 2) := dk_16 40 (dk_at dksX1_isMargin_0 2 rfl rfl)
theorem dX1_isMargin_4 : decode cX1_isMargin 4 = .ok (.invokestatic 50, 3) := dk_184 0 50 (dk_at dksX1_isMargin_0 4 rfl rfl)
theorem dX1_isMargin_7 : decode cX1_isMargin 7 = .ok (.ireturn, 1) := dk_172 (dk_at dksX1_isMargin_0 7 rfl rfl)
abbrev cX1_setPadding : ByteArray := prog_1_method_14_code
def yX1_setPadding : MethodName := ⟨RX1, "setPadding", "(II)I"⟩
def dkwX1_setPadding_1 : List UInt8 := [181, 0, 122, 45, 182, 0, 85, 21, 4, 172]
abbrev dktX1_setPadding_1 : List UInt8 := dkwX1_setPadding_1 ++ []
def dkwX1_setPadding_0 : List UInt8 := [42, 27, 182, 0, 62, 78, 28, 3, 16, 20, 184, 0, 50, 184, 0, 66, 45, 180, 0, 122, 54, 4, 45, 28]
abbrev dktX1_setPadding_0 : List UInt8 := dkwX1_setPadding_0 ++ dktX1_setPadding_1
theorem dksX1_setPadding_0 : cX1_setPadding.data.toList.drop 0 = dktX1_setPadding_0 := by decide +kernel
theorem dksX1_setPadding_1 : cX1_setPadding.data.toList.drop 24 = dktX1_setPadding_1 := dk_seg dksX1_setPadding_0 24 rfl rfl
theorem dX1_setPadding_0 : decode cX1_setPadding 0 = .ok (.aload_n 0, 1) := dk_42 (dk_at dksX1_setPadding_0 0 rfl rfl)
theorem dX1_setPadding_1 : decode cX1_setPadding 1 = .ok (.iload_n 1, 1) := dk_27 (dk_at dksX1_setPadding_0 1 rfl rfl)
theorem dX1_setPadding_2 : decode cX1_setPadding 2 = .ok (.invokevirtual 62, 3) := dk_182 0 62 (dk_at dksX1_setPadding_0 2 rfl rfl)
theorem dX1_setPadding_5 : decode cX1_setPadding 5 = .ok (.astore_n 3, 1) := dk_78 (dk_at dksX1_setPadding_0 5 rfl rfl)
theorem dX1_setPadding_6 : decode cX1_setPadding 6 = .ok (.iload_n 2, 1) := dk_28 (dk_at dksX1_setPadding_0 6 rfl rfl)
theorem dX1_setPadding_7 : decode cX1_setPadding 7 = .ok (.iconst 0, 1) := dk_3 (dk_at dksX1_setPadding_0 7 rfl rfl)
theorem dX1_setPadding_8 : decode cX1_setPadding 8 = .ok (.bipush 20, 2) := dk_16 20 (dk_at dksX1_setPadding_0 8 rfl rfl)
theorem dX1_setPadding_10 : decode cX1_setPadding 10 = .ok (.invokestatic 50, 3) := dk_184 0 50 (dk_at dksX1_setPadding_0 10 rfl rfl)
theorem dX1_setPadding_13 : decode cX1_setPadding 13 = .ok (.invokestatic 66, 3) := dk_184 0 66 (dk_at dksX1_setPadding_0 13 rfl rfl)
theorem dX1_setPadding_16 : decode cX1_setPadding 16 = .ok (.aload_n 3, 1) := dk_45 (dk_at dksX1_setPadding_0 16 rfl rfl)
theorem dX1_setPadding_17 : decode cX1_setPadding 17 = .ok (.getfield 122, 3) := dk_180 0 122 (dk_at dksX1_setPadding_0 17 rfl rfl)
theorem dX1_setPadding_20 : decode cX1_setPadding 20 = .ok (.istore 4, 2) := dk_54 4 (dk_at dksX1_setPadding_0 20 rfl rfl)
theorem dX1_setPadding_22 : decode cX1_setPadding 22 = .ok (.aload_n 3, 1) := dk_45 (dk_at dksX1_setPadding_0 22 rfl rfl)
theorem dX1_setPadding_23 : decode cX1_setPadding 23 = .ok (.iload_n 2, 1) := dk_28 (dk_at dksX1_setPadding_0 23 rfl rfl)
theorem dX1_setPadding_24 : decode cX1_setPadding 24 = .ok (.putfield 122, 3) := dk_181 0 122 (dk_at dksX1_setPadding_1 0 rfl rfl)
theorem dX1_setPadding_27 : decode cX1_setPadding 27 = .ok (.aload_n 3, 1) := dk_45 (dk_at dksX1_setPadding_1 3 rfl rfl)
theorem dX1_setPadding_28 : decode cX1_setPadding 28 = .ok (.invokevirtual 85, 3) := dk_182 0 85 (dk_at dksX1_setPadding_1 4 rfl rfl)
theorem dX1_setPadding_31 : decode cX1_setPadding 31 = .ok (.iload 4, 2) := dk_21 4 (dk_at dksX1_setPadding_1 7 rfl rfl)
theorem dX1_setPadding_33 : decode cX1_setPadding 33 = .ok (.ireturn, 1) := dk_172 (dk_at dksX1_setPadding_1 9 rfl rfl)
abbrev cX1_setFactors : ByteArray := prog_1_method_15_code
def yX1_setFactors : MethodName := ⟨RX1, "setFactors", "(III)I"⟩
def dkwX1_setFactors_2 : List UInt8 := [25, 4, 29, 181, 0, 128, 25, 4, 182, 0, 85, 21, 5, 172]
abbrev dktX1_setFactors_2 : List UInt8 := dkwX1_setFactors_2 ++ []
def dkwX1_setFactors_1 : List UInt8 := [153, 0, 7, 4, 167, 0, 4, 3, 184, 0, 66, 25, 4, 180, 0, 125, 54, 5, 25, 4, 28, 181, 0, 125]
abbrev dktX1_setFactors_1 : List UInt8 := dkwX1_setFactors_1 ++ dktX1_setFactors_2
def dkwX1_setFactors_0 : List UInt8 := [42, 27, 182, 0, 62, 58, 4, 28, 3, 16, 9, 184, 0, 50, 153, 0, 17, 29, 3, 16, 9, 184, 0, 50]
abbrev dktX1_setFactors_0 : List UInt8 := dkwX1_setFactors_0 ++ dktX1_setFactors_1
theorem dksX1_setFactors_0 : cX1_setFactors.data.toList.drop 0 = dktX1_setFactors_0 := by decide +kernel
theorem dksX1_setFactors_1 : cX1_setFactors.data.toList.drop 24 = dktX1_setFactors_1 := dk_seg dksX1_setFactors_0 24 rfl rfl
theorem dksX1_setFactors_2 : cX1_setFactors.data.toList.drop 48 = dktX1_setFactors_2 := dk_seg dksX1_setFactors_1 24 rfl rfl
theorem dX1_setFactors_0 : decode cX1_setFactors 0 = .ok (.aload_n 0, 1) := dk_42 (dk_at dksX1_setFactors_0 0 rfl rfl)
theorem dX1_setFactors_1 : decode cX1_setFactors 1 = .ok (.iload_n 1, 1) := dk_27 (dk_at dksX1_setFactors_0 1 rfl rfl)
theorem dX1_setFactors_2 : decode cX1_setFactors 2 = .ok (.invokevirtual 62, 3) := dk_182 0 62 (dk_at dksX1_setFactors_0 2 rfl rfl)
theorem dX1_setFactors_5 : decode cX1_setFactors 5 = .ok (.astore 4, 2) := dk_58 4 (dk_at dksX1_setFactors_0 5 rfl rfl)
theorem dX1_setFactors_7 : decode cX1_setFactors 7 = .ok (.iload_n 2, 1) := dk_28 (dk_at dksX1_setFactors_0 7 rfl rfl)
theorem dX1_setFactors_8 : decode cX1_setFactors 8 = .ok (.iconst 0, 1) := dk_3 (dk_at dksX1_setFactors_0 8 rfl rfl)
theorem dX1_setFactors_9 : decode cX1_setFactors 9 = .ok (.bipush 9, 2) := dk_16 9 (dk_at dksX1_setFactors_0 9 rfl rfl)
theorem dX1_setFactors_11 : decode cX1_setFactors 11 = .ok (.invokestatic 50, 3) := dk_184 0 50 (dk_at dksX1_setFactors_0 11 rfl rfl)
theorem dX1_setFactors_14 : decode cX1_setFactors 14 = .ok (.ifCond .eq 17, 3) := dk_153 0 17 (dk_at dksX1_setFactors_0 14 rfl rfl)
theorem dX1_setFactors_17 : decode cX1_setFactors 17 = .ok (.iload_n 3, 1) := dk_29 (dk_at dksX1_setFactors_0 17 rfl rfl)
theorem dX1_setFactors_18 : decode cX1_setFactors 18 = .ok (.iconst 0, 1) := dk_3 (dk_at dksX1_setFactors_0 18 rfl rfl)
theorem dX1_setFactors_19 : decode cX1_setFactors 19 = .ok (.bipush 9, 2) := dk_16 9 (dk_at dksX1_setFactors_0 19 rfl rfl)
theorem dX1_setFactors_21 : decode cX1_setFactors 21 = .ok (.invokestatic 50, 3) := dk_184 0 50 (dk_at dksX1_setFactors_0 21 rfl rfl)
theorem dX1_setFactors_24 : decode cX1_setFactors 24 = .ok (.ifCond .eq 7, 3) := dk_153 0 7 (dk_at dksX1_setFactors_1 0 rfl rfl)
theorem dX1_setFactors_27 : decode cX1_setFactors 27 = .ok (.iconst 1, 1) := dk_4 (dk_at dksX1_setFactors_1 3 rfl rfl)
theorem dX1_setFactors_28 : decode cX1_setFactors 28 = .ok (.goto 4, 3) := dk_167 0 4 (dk_at dksX1_setFactors_1 4 rfl rfl)
theorem dX1_setFactors_31 : decode cX1_setFactors 31 = .ok (.iconst 0, 1) := dk_3 (dk_at dksX1_setFactors_1 7 rfl rfl)
theorem dX1_setFactors_32 : decode cX1_setFactors 32 = .ok (.invokestatic 66, 3) := dk_184 0 66 (dk_at dksX1_setFactors_1 8 rfl rfl)
theorem dX1_setFactors_35 : decode cX1_setFactors 35 = .ok (.aload 4, 2) := dk_25 4 (dk_at dksX1_setFactors_1 11 rfl rfl)
theorem dX1_setFactors_37 : decode cX1_setFactors 37 = .ok (.getfield 125, 3) := dk_180 0 125 (dk_at dksX1_setFactors_1 13 rfl rfl)
theorem dX1_setFactors_40 : decode cX1_setFactors 40 = .ok (.istore 5, 2) := dk_54 5 (dk_at dksX1_setFactors_1 16 rfl rfl)
theorem dX1_setFactors_42 : decode cX1_setFactors 42 = .ok (.aload 4, 2) := dk_25 4 (dk_at dksX1_setFactors_1 18 rfl rfl)
theorem dX1_setFactors_44 : decode cX1_setFactors 44 = .ok (.iload_n 2, 1) := dk_28 (dk_at dksX1_setFactors_1 20 rfl rfl)
theorem dX1_setFactors_45 : decode cX1_setFactors 45 = .ok (.putfield 125, 3) := dk_181 0 125 (dk_at dksX1_setFactors_1 21 rfl rfl)
theorem dX1_setFactors_48 : decode cX1_setFactors 48 = .ok (.aload 4, 2) := dk_25 4 (dk_at dksX1_setFactors_2 0 rfl rfl)
theorem dX1_setFactors_50 : decode cX1_setFactors 50 = .ok (.iload_n 3, 1) := dk_29 (dk_at dksX1_setFactors_2 2 rfl rfl)
theorem dX1_setFactors_51 : decode cX1_setFactors 51 = .ok (.putfield 128, 3) := dk_181 0 128 (dk_at dksX1_setFactors_2 3 rfl rfl)
theorem dX1_setFactors_54 : decode cX1_setFactors 54 = .ok (.aload 4, 2) := dk_25 4 (dk_at dksX1_setFactors_2 6 rfl rfl)
theorem dX1_setFactors_56 : decode cX1_setFactors 56 = .ok (.invokevirtual 85, 3) := dk_182 0 85 (dk_at dksX1_setFactors_2 8 rfl rfl)
theorem dX1_setFactors_59 : decode cX1_setFactors 59 = .ok (.iload 5, 2) := dk_21 5 (dk_at dksX1_setFactors_2 11 rfl rfl)
theorem dX1_setFactors_61 : decode cX1_setFactors 61 = .ok (.ireturn, 1) := dk_172 (dk_at dksX1_setFactors_2 13 rfl rfl)
abbrev cX1_setColumns : ByteArray := prog_1_method_16_code
def yX1_setColumns : MethodName := ⟨RX1, "setColumns", "(II)I"⟩
def dkwX1_setColumns_1 : List UInt8 := [181, 0, 131, 45, 182, 0, 85, 21, 4, 172]
abbrev dktX1_setColumns_1 : List UInt8 := dkwX1_setColumns_1 ++ []
def dkwX1_setColumns_0 : List UInt8 := [42, 27, 182, 0, 62, 78, 28, 4, 7, 184, 0, 50, 184, 0, 66, 45, 180, 0, 131, 54, 4, 45, 28]
abbrev dktX1_setColumns_0 : List UInt8 := dkwX1_setColumns_0 ++ dktX1_setColumns_1
theorem dksX1_setColumns_0 : cX1_setColumns.data.toList.drop 0 = dktX1_setColumns_0 := by decide +kernel
theorem dksX1_setColumns_1 : cX1_setColumns.data.toList.drop 23 = dktX1_setColumns_1 := dk_seg dksX1_setColumns_0 23 rfl rfl
theorem dX1_setColumns_0 : decode cX1_setColumns 0 = .ok (.aload_n 0, 1) := dk_42 (dk_at dksX1_setColumns_0 0 rfl rfl)
theorem dX1_setColumns_1 : decode cX1_setColumns 1 = .ok (.iload_n 1, 1) := dk_27 (dk_at dksX1_setColumns_0 1 rfl rfl)
theorem dX1_setColumns_2 : decode cX1_setColumns 2 = .ok (.invokevirtual 62, 3) := dk_182 0 62 (dk_at dksX1_setColumns_0 2 rfl rfl)
theorem dX1_setColumns_5 : decode cX1_setColumns 5 = .ok (.astore_n 3, 1) := dk_78 (dk_at dksX1_setColumns_0 5 rfl rfl)
theorem dX1_setColumns_6 : decode cX1_setColumns 6 = .ok (.iload_n 2, 1) := dk_28 (dk_at dksX1_setColumns_0 6 rfl rfl)
theorem dX1_setColumns_7 : decode cX1_setColumns 7 = .ok (.iconst 1, 1) := dk_4 (dk_at dksX1_setColumns_0 7 rfl rfl)
theorem dX1_setColumns_8 : decode cX1_setColumns 8 = .ok (.iconst 4, 1) := dk_7 (dk_at dksX1_setColumns_0 8 rfl rfl)
theorem dX1_setColumns_9 : decode cX1_setColumns 9 = .ok (.invokestatic 50, 3) := dk_184 0 50 (dk_at dksX1_setColumns_0 9 rfl rfl)
theorem dX1_setColumns_12 : decode cX1_setColumns 12 = .ok (.invokestatic 66, 3) := dk_184 0 66 (dk_at dksX1_setColumns_0 12 rfl rfl)
theorem dX1_setColumns_15 : decode cX1_setColumns 15 = .ok (.aload_n 3, 1) := dk_45 (dk_at dksX1_setColumns_0 15 rfl rfl)
theorem dX1_setColumns_16 : decode cX1_setColumns 16 = .ok (.getfield 131, 3) := dk_180 0 131 (dk_at dksX1_setColumns_0 16 rfl rfl)
theorem dX1_setColumns_19 : decode cX1_setColumns 19 = .ok (.istore 4, 2) := dk_54 4 (dk_at dksX1_setColumns_0 19 rfl rfl)
theorem dX1_setColumns_21 : decode cX1_setColumns 21 = .ok (.aload_n 3, 1) := dk_45 (dk_at dksX1_setColumns_0 21 rfl rfl)
theorem dX1_setColumns_22 : decode cX1_setColumns 22 = .ok (.iload_n 2, 1) := dk_28 (dk_at dksX1_setColumns_0 22 rfl rfl)
theorem dX1_setColumns_23 : decode cX1_setColumns 23 = .ok (.putfield 131, 3) := dk_181 0 131 (dk_at dksX1_setColumns_1 0 rfl rfl)
theorem dX1_setColumns_26 : decode cX1_setColumns 26 = .ok (.aload_n 3, 1) := dk_45 (dk_at dksX1_setColumns_1 3 rfl rfl)
theorem dX1_setColumns_27 : decode cX1_setColumns 27 = .ok (.invokevirtual 85, 3) := dk_182 0 85 (dk_at dksX1_setColumns_1 4 rfl rfl)
theorem dX1_setColumns_30 : decode cX1_setColumns 30 = .ok (.iload 4, 2) := dk_21 4 (dk_at dksX1_setColumns_1 7 rfl rfl)
theorem dX1_setColumns_32 : decode cX1_setColumns 32 = .ok (.ireturn, 1) := dk_172 (dk_at dksX1_setColumns_1 9 rfl rfl)
abbrev cX1_setFloat : ByteArray := prog_1_method_17_code
def yX1_setFloat : MethodName := ⟨RX1, "setFloat", "(IC)C"⟩
def dkwX1_setFloat_2 : List UInt8 := [21, 4, 172]
abbrev dktX1_setFloat_2 : List UInt8 := dkwX1_setFloat_2 ++ []
def dkwX1_setFloat_1 : List UInt8 := [4, 167, 0, 4, 3, 184, 0, 66, 45, 180, 0, 134, 54, 4, 45, 28, 181, 0, 134, 45, 182, 0, 85]
abbrev dktX1_setFloat_1 : List UInt8 := dkwX1_setFloat_1 ++ dktX1_setFloat_2
def dkwX1_setFloat_0 : List UInt8 := [42, 27, 182, 0, 62, 78, 28, 16, 110, 159, 0, 15, 28, 16, 108, 159, 0, 9, 28, 16, 114, 160, 0, 7]
abbrev dktX1_setFloat_0 : List UInt8 := dkwX1_setFloat_0 ++ dktX1_setFloat_1
theorem dksX1_setFloat_0 : cX1_setFloat.data.toList.drop 0 = dktX1_setFloat_0 := by decide +kernel
theorem dksX1_setFloat_1 : cX1_setFloat.data.toList.drop 24 = dktX1_setFloat_1 := dk_seg dksX1_setFloat_0 24 rfl rfl
theorem dksX1_setFloat_2 : cX1_setFloat.data.toList.drop 47 = dktX1_setFloat_2 := dk_seg dksX1_setFloat_1 23 rfl rfl
theorem dX1_setFloat_0 : decode cX1_setFloat 0 = .ok (.aload_n 0, 1) := dk_42 (dk_at dksX1_setFloat_0 0 rfl rfl)
theorem dX1_setFloat_1 : decode cX1_setFloat 1 = .ok (.iload_n 1, 1) := dk_27 (dk_at dksX1_setFloat_0 1 rfl rfl)
theorem dX1_setFloat_2 : decode cX1_setFloat 2 = .ok (.invokevirtual 62, 3) := dk_182 0 62 (dk_at dksX1_setFloat_0 2 rfl rfl)
theorem dX1_setFloat_5 : decode cX1_setFloat 5 = .ok (.astore_n 3, 1) := dk_78 (dk_at dksX1_setFloat_0 5 rfl rfl)
theorem dX1_setFloat_6 : decode cX1_setFloat 6 = .ok (.iload_n 2, 1) := dk_28 (dk_at dksX1_setFloat_0 6 rfl rfl)
theorem dX1_setFloat_7 : decode cX1_setFloat 7 = .ok (.bipush 110, 2) := dk_16 110 (dk_at dksX1_setFloat_0 7 rfl rfl)
theorem dX1_setFloat_9 : decode cX1_setFloat 9 = .ok (.if_icmp .eq 15, 3) := dk_159 0 15 (dk_at dksX1_setFloat_0 9 rfl rfl)
theorem dX1_setFloat_12 : decode cX1_setFloat 12 = .ok (.iload_n 2, 1) := dk_28 (dk_at dksX1_setFloat_0 12 rfl rfl)
theorem dX1_setFloat_13 : decode cX1_setFloat 13 = .ok (.bipush 108, 2) := dk_16 108 (dk_at dksX1_setFloat_0 13 rfl rfl)
theorem dX1_setFloat_15 : decode cX1_setFloat 15 = .ok (.if_icmp .eq 9, 3) := dk_159 0 9 (dk_at dksX1_setFloat_0 15 rfl rfl)
theorem dX1_setFloat_18 : decode cX1_setFloat 18 = .ok (.iload_n 2, 1) := dk_28 (dk_at dksX1_setFloat_0 18 rfl rfl)
theorem dX1_setFloat_19 : decode cX1_setFloat 19 = .ok (.bipush 114, 2) := dk_16 114 (dk_at dksX1_setFloat_0 19 rfl rfl)
theorem dX1_setFloat_21 : decode cX1_setFloat 21 = .ok (.if_icmp .ne 7, 3) := dk_160 0 7 (dk_at dksX1_setFloat_0 21 rfl rfl)
theorem dX1_setFloat_24 : decode cX1_setFloat 24 = .ok (.iconst 1, 1) := dk_4 (dk_at dksX1_setFloat_1 0 rfl rfl)
theorem dX1_setFloat_25 : decode cX1_setFloat 25 = .ok (.goto 4, 3) := dk_167 0 4 (dk_at dksX1_setFloat_1 1 rfl rfl)
theorem dX1_setFloat_28 : decode cX1_setFloat 28 = .ok (.iconst 0, 1) := dk_3 (dk_at dksX1_setFloat_1 4 rfl rfl)
theorem dX1_setFloat_29 : decode cX1_setFloat 29 = .ok (.invokestatic 66, 3) := dk_184 0 66 (dk_at dksX1_setFloat_1 5 rfl rfl)
theorem dX1_setFloat_32 : decode cX1_setFloat 32 = .ok (.aload_n 3, 1) := dk_45 (dk_at dksX1_setFloat_1 8 rfl rfl)
theorem dX1_setFloat_33 : decode cX1_setFloat 33 = .ok (.getfield 134, 3) := dk_180 0 134 (dk_at dksX1_setFloat_1 9 rfl rfl)
theorem dX1_setFloat_36 : decode cX1_setFloat 36 = .ok (.istore 4, 2) := dk_54 4 (dk_at dksX1_setFloat_1 12 rfl rfl)
theorem dX1_setFloat_38 : decode cX1_setFloat 38 = .ok (.aload_n 3, 1) := dk_45 (dk_at dksX1_setFloat_1 14 rfl rfl)
theorem dX1_setFloat_39 : decode cX1_setFloat 39 = .ok (.iload_n 2, 1) := dk_28 (dk_at dksX1_setFloat_1 15 rfl rfl)
theorem dX1_setFloat_40 : decode cX1_setFloat 40 = .ok (.putfield 134, 3) := dk_181 0 134 (dk_at dksX1_setFloat_1 16 rfl rfl)
theorem dX1_setFloat_43 : decode cX1_setFloat 43 = .ok (.aload_n 3, 1) := dk_45 (dk_at dksX1_setFloat_1 19 rfl rfl)
theorem dX1_setFloat_44 : decode cX1_setFloat 44 = .ok (.invokevirtual 85, 3) := dk_182 0 85 (dk_at dksX1_setFloat_1 20 rfl rfl)
theorem dX1_setFloat_47 : decode cX1_setFloat 47 = .ok (.iload 4, 2) := dk_21 4 (dk_at dksX1_setFloat_2 0 rfl rfl)
theorem dX1_setFloat_49 : decode cX1_setFloat 49 = .ok (.ireturn, 1) := dk_172 (dk_at dksX1_setFloat_2 2 rfl rfl)
abbrev cX1_setPlace : ByteArray := prog_1_method_19_code
def yX1_setPlace : MethodName := ⟨RX1, "setPlace", "(ICII)C"⟩
def dkwX1_setPlace_3 : List UInt8 := [21, 4, 181, 0, 148, 25, 5, 182, 0, 85, 21, 6, 172]
abbrev dktX1_setPlace_3 : List UInt8 := dkwX1_setPlace_3 ++ []
def dkwX1_setPlace_2 : List UInt8 := [184, 0, 66, 25, 5, 180, 0, 142, 54, 6, 25, 5, 28, 181, 0, 142, 25, 5, 29, 181, 0, 145, 25, 5]
abbrev dktX1_setPlace_2 : List UInt8 := dkwX1_setPlace_2 ++ dktX1_setPlace_3
def dkwX1_setPlace_1 : List UInt8 := [160, 0, 22, 29, 184, 0, 138, 153, 0, 15, 21, 4, 184, 0, 138, 153, 0, 7, 4, 167, 0, 4, 3]
abbrev dktX1_setPlace_1 : List UInt8 := dkwX1_setPlace_1 ++ dktX1_setPlace_2
def dkwX1_setPlace_0 : List UInt8 := [42, 27, 182, 0, 62, 58, 5, 28, 16, 115, 159, 0, 15, 28, 16, 114, 159, 0, 9, 28, 16, 97]
abbrev dktX1_setPlace_0 : List UInt8 := dkwX1_setPlace_0 ++ dktX1_setPlace_1
theorem dksX1_setPlace_0 : cX1_setPlace.data.toList.drop 0 = dktX1_setPlace_0 := by decide +kernel
theorem dksX1_setPlace_1 : cX1_setPlace.data.toList.drop 22 = dktX1_setPlace_1 := dk_seg dksX1_setPlace_0 22 rfl rfl
theorem dksX1_setPlace_2 : cX1_setPlace.data.toList.drop 45 = dktX1_setPlace_2 := dk_seg dksX1_setPlace_1 23 rfl rfl
theorem dksX1_setPlace_3 : cX1_setPlace.data.toList.drop 69 = dktX1_setPlace_3 := dk_seg dksX1_setPlace_2 24 rfl rfl
theorem dX1_setPlace_0 : decode cX1_setPlace 0 = .ok (.aload_n 0, 1) := dk_42 (dk_at dksX1_setPlace_0 0 rfl rfl)
theorem dX1_setPlace_1 : decode cX1_setPlace 1 = .ok (.iload_n 1, 1) := dk_27 (dk_at dksX1_setPlace_0 1 rfl rfl)
theorem dX1_setPlace_2 : decode cX1_setPlace 2 = .ok (.invokevirtual 62, 3) := dk_182 0 62 (dk_at dksX1_setPlace_0 2 rfl rfl)
theorem dX1_setPlace_5 : decode cX1_setPlace 5 = .ok (.astore 5, 2) := dk_58 5 (dk_at dksX1_setPlace_0 5 rfl rfl)
theorem dX1_setPlace_7 : decode cX1_setPlace 7 = .ok (.iload_n 2, 1) := dk_28 (dk_at dksX1_setPlace_0 7 rfl rfl)
theorem dX1_setPlace_8 : decode cX1_setPlace 8 = .ok (.bipush 115, 2) := dk_16 115 (dk_at dksX1_setPlace_0 8 rfl rfl)
theorem dX1_setPlace_10 : decode cX1_setPlace 10 = .ok (.if_icmp .eq 15, 3) := dk_159 0 15 (dk_at dksX1_setPlace_0 10 rfl rfl)
theorem dX1_setPlace_13 : decode cX1_setPlace 13 = .ok (.iload_n 2, 1) := dk_28 (dk_at dksX1_setPlace_0 13 rfl rfl)
theorem dX1_setPlace_14 : decode cX1_setPlace 14 = .ok (.bipush 114, 2) := dk_16 114 (dk_at dksX1_setPlace_0 14 rfl rfl)
theorem dX1_setPlace_16 : decode cX1_setPlace 16 = .ok (.if_icmp .eq 9, 3) := dk_159 0 9 (dk_at dksX1_setPlace_0 16 rfl rfl)
theorem dX1_setPlace_19 : decode cX1_setPlace 19 = .ok (.iload_n 2, 1) := dk_28 (dk_at dksX1_setPlace_0 19 rfl rfl)
theorem dX1_setPlace_20 : decode cX1_setPlace 20 = .ok (.bipush 97, 2) := dk_16 97 (dk_at dksX1_setPlace_0 20 rfl rfl)
theorem dX1_setPlace_22 : decode cX1_setPlace 22 = .ok (.if_icmp .ne 22, 3) := dk_160 0 22 (dk_at dksX1_setPlace_1 0 rfl rfl)
theorem dX1_setPlace_25 : decode cX1_setPlace 25 = .ok (.iload_n 3, 1) := dk_29 (dk_at dksX1_setPlace_1 3 rfl rfl)
theorem dX1_setPlace_26 : decode cX1_setPlace 26 = .ok (.invokestatic 138, 3) := dk_184 0 138 (dk_at dksX1_setPlace_1 4 rfl rfl)
theorem dX1_setPlace_29 : decode cX1_setPlace 29 = .ok (.ifCond .eq 15, 3) := dk_153 0 15 (dk_at dksX1_setPlace_1 7 rfl rfl)
theorem dX1_setPlace_32 : decode cX1_setPlace 32 = .ok (.iload 4, 2) := dk_21 4 (dk_at dksX1_setPlace_1 10 rfl rfl)
theorem dX1_setPlace_34 : decode cX1_setPlace 34 = .ok (.invokestatic 138, 3) := dk_184 0 138 (dk_at dksX1_setPlace_1 12 rfl rfl)
theorem dX1_setPlace_37 : decode cX1_setPlace 37 = .ok (.ifCond .eq 7, 3) := dk_153 0 7 (dk_at dksX1_setPlace_1 15 rfl rfl)
theorem dX1_setPlace_40 : decode cX1_setPlace 40 = .ok (.iconst 1, 1) := dk_4 (dk_at dksX1_setPlace_1 18 rfl rfl)
theorem dX1_setPlace_41 : decode cX1_setPlace 41 = .ok (.goto 4, 3) := dk_167 0 4 (dk_at dksX1_setPlace_1 19 rfl rfl)
theorem dX1_setPlace_44 : decode cX1_setPlace 44 = .ok (.iconst 0, 1) := dk_3 (dk_at dksX1_setPlace_1 22 rfl rfl)
theorem dX1_setPlace_45 : decode cX1_setPlace 45 = .ok (.invokestatic 66, 3) := dk_184 0 66 (dk_at dksX1_setPlace_2 0 rfl rfl)
theorem dX1_setPlace_48 : decode cX1_setPlace 48 = .ok (.aload 5, 2) := dk_25 5 (dk_at dksX1_setPlace_2 3 rfl rfl)
theorem dX1_setPlace_50 : decode cX1_setPlace 50 = .ok (.getfield 142, 3) := dk_180 0 142 (dk_at dksX1_setPlace_2 5 rfl rfl)
theorem dX1_setPlace_53 : decode cX1_setPlace 53 = .ok (.istore 6, 2) := dk_54 6 (dk_at dksX1_setPlace_2 8 rfl rfl)
theorem dX1_setPlace_55 : decode cX1_setPlace 55 = .ok (.aload 5, 2) := dk_25 5 (dk_at dksX1_setPlace_2 10 rfl rfl)
theorem dX1_setPlace_57 : decode cX1_setPlace 57 = .ok (.iload_n 2, 1) := dk_28 (dk_at dksX1_setPlace_2 12 rfl rfl)
theorem dX1_setPlace_58 : decode cX1_setPlace 58 = .ok (.putfield 142, 3) := dk_181 0 142 (dk_at dksX1_setPlace_2 13 rfl rfl)
theorem dX1_setPlace_61 : decode cX1_setPlace 61 = .ok (.aload 5, 2) := dk_25 5 (dk_at dksX1_setPlace_2 16 rfl rfl)
theorem dX1_setPlace_63 : decode cX1_setPlace 63 = .ok (.iload_n 3, 1) := dk_29 (dk_at dksX1_setPlace_2 18 rfl rfl)
theorem dX1_setPlace_64 : decode cX1_setPlace 64 = .ok (.putfield 145, 3) := dk_181 0 145 (dk_at dksX1_setPlace_2 19 rfl rfl)
theorem dX1_setPlace_67 : decode cX1_setPlace 67 = .ok (.aload 5, 2) := dk_25 5 (dk_at dksX1_setPlace_2 22 rfl rfl)
theorem dX1_setPlace_69 : decode cX1_setPlace 69 = .ok (.iload 4, 2) := dk_21 4 (dk_at dksX1_setPlace_3 0 rfl rfl)
theorem dX1_setPlace_71 : decode cX1_setPlace 71 = .ok (.putfield 148, 3) := dk_181 0 148 (dk_at dksX1_setPlace_3 2 rfl rfl)
theorem dX1_setPlace_74 : decode cX1_setPlace 74 = .ok (.aload 5, 2) := dk_25 5 (dk_at dksX1_setPlace_3 5 rfl rfl)
theorem dX1_setPlace_76 : decode cX1_setPlace 76 = .ok (.invokevirtual 85, 3) := dk_182 0 85 (dk_at dksX1_setPlace_3 7 rfl rfl)
theorem dX1_setPlace_79 : decode cX1_setPlace 79 = .ok (.iload 6, 2) := dk_21 6 (dk_at dksX1_setPlace_3 10 rfl rfl)
theorem dX1_setPlace_81 : decode cX1_setPlace 81 = .ok (.ireturn, 1) := dk_172 (dk_at dksX1_setPlace_3 12 rfl rfl)
abbrev cX1_isOffset : ByteArray := prog_1_method_18_code
def yX1_isOffset : MethodName := ⟨RX1, "isOffset", "(I)Z"⟩
def dkwX1_isOffset_0 : List UInt8 := [26, 16, 156, 16, 100, 184, 0, 50, 172]
abbrev dktX1_isOffset_0 : List UInt8 := dkwX1_isOffset_0 ++ []
theorem dksX1_isOffset_0 : cX1_isOffset.data.toList.drop 0 = dktX1_isOffset_0 := by decide +kernel
theorem dX1_isOffset_0 : decode cX1_isOffset 0 = .ok (.iload_n 0, 1) := dk_26 (dk_at dksX1_isOffset_0 0 rfl rfl)
theorem dX1_isOffset_1 : decode cX1_isOffset 1 = .ok (.bipush (-100), 2) := dk_16 156 (dk_at dksX1_isOffset_0 1 rfl rfl)
theorem dX1_isOffset_3 : decode cX1_isOffset 3 = .ok (.bipush 100, 2) := dk_16 100 (dk_at dksX1_isOffset_0 3 rfl rfl)
theorem dX1_isOffset_5 : decode cX1_isOffset 5 = .ok (.invokestatic 50, 3) := dk_184 0 50 (dk_at dksX1_isOffset_0 5 rfl rfl)
theorem dX1_isOffset_8 : decode cX1_isOffset 8 = .ok (.ireturn, 1) := dk_172 (dk_at dksX1_isOffset_0 8 rfl rfl)
abbrev cX1_setDepth : ByteArray := prog_1_method_20_code
def yX1_setDepth : MethodName := ⟨RX1, "setDepth", "(II)I"⟩
def dkwX1_setDepth_1 : List UInt8 := [181, 0, 151, 21, 4, 172]
abbrev dktX1_setDepth_1 : List UInt8 := dkwX1_setDepth_1 ++ []
def dkwX1_setDepth_0 : List UInt8 := [42, 27, 182, 0, 62, 78, 28, 16, 251, 8, 184, 0, 50, 184, 0, 66, 45, 180, 0, 151, 54, 4, 45, 28]
abbrev dktX1_setDepth_0 : List UInt8 := dkwX1_setDepth_0 ++ dktX1_setDepth_1
theorem dksX1_setDepth_0 : cX1_setDepth.data.toList.drop 0 = dktX1_setDepth_0 := by decide +kernel
theorem dksX1_setDepth_1 : cX1_setDepth.data.toList.drop 24 = dktX1_setDepth_1 := dk_seg dksX1_setDepth_0 24 rfl rfl
theorem dX1_setDepth_0 : decode cX1_setDepth 0 = .ok (.aload_n 0, 1) := dk_42 (dk_at dksX1_setDepth_0 0 rfl rfl)
theorem dX1_setDepth_1 : decode cX1_setDepth 1 = .ok (.iload_n 1, 1) := dk_27 (dk_at dksX1_setDepth_0 1 rfl rfl)
theorem dX1_setDepth_2 : decode cX1_setDepth 2 = .ok (.invokevirtual 62, 3) := dk_182 0 62 (dk_at dksX1_setDepth_0 2 rfl rfl)
theorem dX1_setDepth_5 : decode cX1_setDepth 5 = .ok (.astore_n 3, 1) := dk_78 (dk_at dksX1_setDepth_0 5 rfl rfl)
theorem dX1_setDepth_6 : decode cX1_setDepth 6 = .ok (.iload_n 2, 1) := dk_28 (dk_at dksX1_setDepth_0 6 rfl rfl)
theorem dX1_setDepth_7 : decode cX1_setDepth 7 = .ok (.bipush (-5), 2) := dk_16 251 (dk_at dksX1_setDepth_0 7 rfl rfl)
theorem dX1_setDepth_9 : decode cX1_setDepth 9 = .ok (.iconst 5, 1) := dk_8 (dk_at dksX1_setDepth_0 9 rfl rfl)
theorem dX1_setDepth_10 : decode cX1_setDepth 10 = .ok (.invokestatic 50, 3) := dk_184 0 50 (dk_at dksX1_setDepth_0 10 rfl rfl)
theorem dX1_setDepth_13 : decode cX1_setDepth 13 = .ok (.invokestatic 66, 3) := dk_184 0 66 (dk_at dksX1_setDepth_0 13 rfl rfl)
theorem dX1_setDepth_16 : decode cX1_setDepth 16 = .ok (.aload_n 3, 1) := dk_45 (dk_at dksX1_setDepth_0 16 rfl rfl)
theorem dX1_setDepth_17 : decode cX1_setDepth 17 = .ok (.getfield 151, 3) := dk_180 0 151 (dk_at dksX1_setDepth_0 17 rfl rfl)
theorem dX1_setDepth_20 : decode cX1_setDepth 20 = .ok (.istore 4, 2) := dk_54 4 (dk_at dksX1_setDepth_0 20 rfl rfl)
theorem dX1_setDepth_22 : decode cX1_setDepth 22 = .ok (.aload_n 3, 1) := dk_45 (dk_at dksX1_setDepth_0 22 rfl rfl)
theorem dX1_setDepth_23 : decode cX1_setDepth 23 = .ok (.iload_n 2, 1) := dk_28 (dk_at dksX1_setDepth_0 23 rfl rfl)
theorem dX1_setDepth_24 : decode cX1_setDepth 24 = .ok (.putfield 151, 3) := dk_181 0 151 (dk_at dksX1_setDepth_1 0 rfl rfl)
theorem dX1_setDepth_27 : decode cX1_setDepth 27 = .ok (.iload 4, 2) := dk_21 4 (dk_at dksX1_setDepth_1 3 rfl rfl)
theorem dX1_setDepth_29 : decode cX1_setDepth 29 = .ok (.ireturn, 1) := dk_172 (dk_at dksX1_setDepth_1 5 rfl rfl)
abbrev cX1_setClear : ByteArray := prog_1_method_21_code
def yX1_setClear : MethodName := ⟨RX1, "setClear", "(IZ)Z"⟩
def dkwX1_setClear_0 : List UInt8 := [42, 27, 182, 0, 62, 78, 45, 180, 0, 154, 54, 4, 45, 28, 181, 0, 154, 45, 182, 0, 85, 21, 4, 172]
abbrev dktX1_setClear_0 : List UInt8 := dkwX1_setClear_0 ++ []
theorem dksX1_setClear_0 : cX1_setClear.data.toList.drop 0 = dktX1_setClear_0 := by decide +kernel
theorem dX1_setClear_0 : decode cX1_setClear 0 = .ok (.aload_n 0, 1) := dk_42 (dk_at dksX1_setClear_0 0 rfl rfl)
theorem dX1_setClear_1 : decode cX1_setClear 1 = .ok (.iload_n 1, 1) := dk_27 (dk_at dksX1_setClear_0 1 rfl rfl)
theorem dX1_setClear_2 : decode cX1_setClear 2 = .ok (.invokevirtual 62, 3) := dk_182 0 62 (dk_at dksX1_setClear_0 2 rfl rfl)
theorem dX1_setClear_5 : decode cX1_setClear 5 = .ok (.astore_n 3, 1) := dk_78 (dk_at dksX1_setClear_0 5 rfl rfl)
theorem dX1_setClear_6 : decode cX1_setClear 6 = .ok (.aload_n 3, 1) := dk_45 (dk_at dksX1_setClear_0 6 rfl rfl)
theorem dX1_setClear_7 : decode cX1_setClear 7 = .ok (.getfield 154, 3) := dk_180 0 154 (dk_at dksX1_setClear_0 7 rfl rfl)
theorem dX1_setClear_10 : decode cX1_setClear 10 = .ok (.istore 4, 2) := dk_54 4 (dk_at dksX1_setClear_0 10 rfl rfl)
theorem dX1_setClear_12 : decode cX1_setClear 12 = .ok (.aload_n 3, 1) := dk_45 (dk_at dksX1_setClear_0 12 rfl rfl)
theorem dX1_setClear_13 : decode cX1_setClear 13 = .ok (.iload_n 2, 1) := dk_28 (dk_at dksX1_setClear_0 13 rfl rfl)
theorem dX1_setClear_14 : decode cX1_setClear 14 = .ok (.putfield 154, 3) := dk_181 0 154 (dk_at dksX1_setClear_0 14 rfl rfl)
theorem dX1_setClear_17 : decode cX1_setClear 17 = .ok (.aload_n 3, 1) := dk_45 (dk_at dksX1_setClear_0 17 rfl rfl)
theorem dX1_setClear_18 : decode cX1_setClear 18 = .ok (.invokevirtual 85, 3) := dk_182 0 85 (dk_at dksX1_setClear_0 18 rfl rfl)
theorem dX1_setClear_21 : decode cX1_setClear 21 = .ok (.iload 4, 2) := dk_21 4 (dk_at dksX1_setClear_0 21 rfl rfl)
theorem dX1_setClear_23 : decode cX1_setClear 23 = .ok (.ireturn, 1) := dk_172 (dk_at dksX1_setClear_0 23 rfl rfl)
abbrev cX1_setBreak : ByteArray := prog_1_method_22_code
def yX1_setBreak : MethodName := ⟨RX1, "setBreak", "(IC)C"⟩
def dkwX1_setBreak_1 : List UInt8 := [4, 167, 0, 4, 3, 184, 0, 66, 45, 180, 0, 158, 54, 4, 45, 28, 181, 0, 158, 21, 4, 172]
abbrev dktX1_setBreak_1 : List UInt8 := dkwX1_setBreak_1 ++ []
def dkwX1_setBreak_0 : List UInt8 := [42, 27, 182, 0, 62, 78, 28, 16, 97, 159, 0, 15, 28, 16, 102, 159, 0, 9, 28, 16, 118, 160, 0, 7]
abbrev dktX1_setBreak_0 : List UInt8 := dkwX1_setBreak_0 ++ dktX1_setBreak_1
theorem dksX1_setBreak_0 : cX1_setBreak.data.toList.drop 0 = dktX1_setBreak_0 := by decide +kernel
theorem dksX1_setBreak_1 : cX1_setBreak.data.toList.drop 24 = dktX1_setBreak_1 := dk_seg dksX1_setBreak_0 24 rfl rfl
theorem dX1_setBreak_0 : decode cX1_setBreak 0 = .ok (.aload_n 0, 1) := dk_42 (dk_at dksX1_setBreak_0 0 rfl rfl)
theorem dX1_setBreak_1 : decode cX1_setBreak 1 = .ok (.iload_n 1, 1) := dk_27 (dk_at dksX1_setBreak_0 1 rfl rfl)
theorem dX1_setBreak_2 : decode cX1_setBreak 2 = .ok (.invokevirtual 62, 3) := dk_182 0 62 (dk_at dksX1_setBreak_0 2 rfl rfl)
theorem dX1_setBreak_5 : decode cX1_setBreak 5 = .ok (.astore_n 3, 1) := dk_78 (dk_at dksX1_setBreak_0 5 rfl rfl)
theorem dX1_setBreak_6 : decode cX1_setBreak 6 = .ok (.iload_n 2, 1) := dk_28 (dk_at dksX1_setBreak_0 6 rfl rfl)
theorem dX1_setBreak_7 : decode cX1_setBreak 7 = .ok (.bipush 97, 2) := dk_16 97 (dk_at dksX1_setBreak_0 7 rfl rfl)
theorem dX1_setBreak_9 : decode cX1_setBreak 9 = .ok (.if_icmp .eq 15, 3) := dk_159 0 15 (dk_at dksX1_setBreak_0 9 rfl rfl)
theorem dX1_setBreak_12 : decode cX1_setBreak 12 = .ok (.iload_n 2, 1) := dk_28 (dk_at dksX1_setBreak_0 12 rfl rfl)
theorem dX1_setBreak_13 : decode cX1_setBreak 13 = .ok (.bipush 102, 2) := dk_16 102 (dk_at dksX1_setBreak_0 13 rfl rfl)
theorem dX1_setBreak_15 : decode cX1_setBreak 15 = .ok (.if_icmp .eq 9, 3) := dk_159 0 9 (dk_at dksX1_setBreak_0 15 rfl rfl)
theorem dX1_setBreak_18 : decode cX1_setBreak 18 = .ok (.iload_n 2, 1) := dk_28 (dk_at dksX1_setBreak_0 18 rfl rfl)
theorem dX1_setBreak_19 : decode cX1_setBreak 19 = .ok (.bipush 118, 2) := dk_16 118 (dk_at dksX1_setBreak_0 19 rfl rfl)
theorem dX1_setBreak_21 : decode cX1_setBreak 21 = .ok (.if_icmp .ne 7, 3) := dk_160 0 7 (dk_at dksX1_setBreak_0 21 rfl rfl)
theorem dX1_setBreak_24 : decode cX1_setBreak 24 = .ok (.iconst 1, 1) := dk_4 (dk_at dksX1_setBreak_1 0 rfl rfl)
theorem dX1_setBreak_25 : decode cX1_setBreak 25 = .ok (.goto 4, 3) := dk_167 0 4 (dk_at dksX1_setBreak_1 1 rfl rfl)
theorem dX1_setBreak_28 : decode cX1_setBreak 28 = .ok (.iconst 0, 1) := dk_3 (dk_at dksX1_setBreak_1 4 rfl rfl)
theorem dX1_setBreak_29 : decode cX1_setBreak 29 = .ok (.invokestatic 66, 3) := dk_184 0 66 (dk_at dksX1_setBreak_1 5 rfl rfl)
theorem dX1_setBreak_32 : decode cX1_setBreak 32 = .ok (.aload_n 3, 1) := dk_45 (dk_at dksX1_setBreak_1 8 rfl rfl)
theorem dX1_setBreak_33 : decode cX1_setBreak 33 = .ok (.getfield 158, 3) := dk_180 0 158 (dk_at dksX1_setBreak_1 9 rfl rfl)
theorem dX1_setBreak_36 : decode cX1_setBreak 36 = .ok (.istore 4, 2) := dk_54 4 (dk_at dksX1_setBreak_1 12 rfl rfl)
theorem dX1_setBreak_38 : decode cX1_setBreak 38 = .ok (.aload_n 3, 1) := dk_45 (dk_at dksX1_setBreak_1 14 rfl rfl)
theorem dX1_setBreak_39 : decode cX1_setBreak 39 = .ok (.iload_n 2, 1) := dk_28 (dk_at dksX1_setBreak_1 15 rfl rfl)
theorem dX1_setBreak_40 : decode cX1_setBreak 40 = .ok (.putfield 158, 3) := dk_181 0 158 (dk_at dksX1_setBreak_1 16 rfl rfl)
theorem dX1_setBreak_43 : decode cX1_setBreak 43 = .ok (.iload 4, 2) := dk_21 4 (dk_at dksX1_setBreak_1 19 rfl rfl)
theorem dX1_setBreak_45 : decode cX1_setBreak 45 = .ok (.ireturn, 1) := dk_172 (dk_at dksX1_setBreak_1 21 rfl rfl)
abbrev cX1_setAlignment : ByteArray := prog_1_method_23_code
def yX1_setAlignment : MethodName := ⟨RX1, "setAlignment", "(IC)C"⟩
def dkwX1_setAlignment_2 : List UInt8 := [21, 4, 172]
abbrev dktX1_setAlignment_2 : List UInt8 := dkwX1_setAlignment_2 ++ []
def dkwX1_setAlignment_1 : List UInt8 := [4, 167, 0, 4, 3, 184, 0, 66, 45, 180, 0, 161, 54, 4, 45, 28, 181, 0, 161, 45, 182, 0, 85]
abbrev dktX1_setAlignment_1 : List UInt8 := dkwX1_setAlignment_1 ++ dktX1_setAlignment_2
def dkwX1_setAlignment_0 : List UInt8 := [42, 27, 182, 0, 62, 78, 28, 16, 108, 159, 0, 15, 28, 16, 99, 159, 0, 9, 28, 16, 114, 160, 0, 7]
abbrev dktX1_setAlignment_0 : List UInt8 := dkwX1_setAlignment_0 ++ dktX1_setAlignment_1
theorem dksX1_setAlignment_0 : cX1_setAlignment.data.toList.drop 0 = dktX1_setAlignment_0 := by decide +kernel
theorem dksX1_setAlignment_1 : cX1_setAlignment.data.toList.drop 24 = dktX1_setAlignment_1 := dk_seg dksX1_setAlignment_0 24 rfl rfl
theorem dksX1_setAlignment_2 : cX1_setAlignment.data.toList.drop 47 = dktX1_setAlignment_2 := dk_seg dksX1_setAlignment_1 23 rfl rfl
theorem dX1_setAlignment_0 : decode cX1_setAlignment 0 = .ok (.aload_n 0, 1) := dk_42 (dk_at dksX1_setAlignment_0 0 rfl rfl)
theorem dX1_setAlignment_1 : decode cX1_setAlignment 1 = .ok (.iload_n 1, 1) := dk_27 (dk_at dksX1_setAlignment_0 1 rfl rfl)
theorem dX1_setAlignment_2 : decode cX1_setAlignment 2 = .ok (.invokevirtual 62, 3) := dk_182 0 62 (dk_at dksX1_setAlignment_0 2 rfl rfl)
theorem dX1_setAlignment_5 : decode cX1_setAlignment 5 = .ok (.astore_n 3, 1) := dk_78 (dk_at dksX1_setAlignment_0 5 rfl rfl)
theorem dX1_setAlignment_6 : decode cX1_setAlignment 6 = .ok (.iload_n 2, 1) := dk_28 (dk_at dksX1_setAlignment_0 6 rfl rfl)
theorem dX1_setAlignment_7 : decode cX1_setAlignment 7 = .ok (.bipush 108, 2) := dk_16 108 (dk_at dksX1_setAlignment_0 7 rfl rfl)
theorem dX1_setAlignment_9 : decode cX1_setAlignment 9 = .ok (.if_icmp .eq 15, 3) := dk_159 0 15 (dk_at dksX1_setAlignment_0 9 rfl rfl)
theorem dX1_setAlignment_12 : decode cX1_setAlignment 12 = .ok (.iload_n 2, 1) := dk_28 (dk_at dksX1_setAlignment_0 12 rfl rfl)
theorem dX1_setAlignment_13 : decode cX1_setAlignment 13 = .ok (.bipush 99, 2) := dk_16 99 (dk_at dksX1_setAlignment_0 13 rfl rfl)
theorem dX1_setAlignment_15 : decode cX1_setAlignment 15 = .ok (.if_icmp .eq 9, 3) := dk_159 0 9 (dk_at dksX1_setAlignment_0 15 rfl rfl)
theorem dX1_setAlignment_18 : decode cX1_setAlignment 18 = .ok (.iload_n 2, 1) := dk_28 (dk_at dksX1_setAlignment_0 18 rfl rfl)
theorem dX1_setAlignment_19 : decode cX1_setAlignment 19 = .ok (.bipush 114, 2) := dk_16 114 (dk_at dksX1_setAlignment_0 19 rfl rfl)
theorem dX1_setAlignment_21 : decode cX1_setAlignment 21 = .ok (.if_icmp .ne 7, 3) := dk_160 0 7 (dk_at dksX1_setAlignment_0 21 rfl rfl)
theorem dX1_setAlignment_24 : decode cX1_setAlignment 24 = .ok (.iconst 1, 1) := dk_4 (dk_at dksX1_setAlignment_1 0 rfl rfl)
theorem dX1_setAlignment_25 : decode cX1_setAlignment 25 = .ok (.goto 4, 3) := dk_167 0 4 (dk_at dksX1_setAlignment_1 1 rfl rfl)
theorem dX1_setAlignment_28 : decode cX1_setAlignment 28 = .ok (.iconst 0, 1) := dk_3 (dk_at dksX1_setAlignment_1 4 rfl rfl)
theorem dX1_setAlignment_29 : decode cX1_setAlignment 29 = .ok (.invokestatic 66, 3) := dk_184 0 66 (dk_at dksX1_setAlignment_1 5 rfl rfl)
theorem dX1_setAlignment_32 : decode cX1_setAlignment 32 = .ok (.aload_n 3, 1) := dk_45 (dk_at dksX1_setAlignment_1 8 rfl rfl)
theorem dX1_setAlignment_33 : decode cX1_setAlignment 33 = .ok (.getfield 161, 3) := dk_180 0 161 (dk_at dksX1_setAlignment_1 9 rfl rfl)
theorem dX1_setAlignment_36 : decode cX1_setAlignment 36 = .ok (.istore 4, 2) := dk_54 4 (dk_at dksX1_setAlignment_1 12 rfl rfl)
theorem dX1_setAlignment_38 : decode cX1_setAlignment 38 = .ok (.aload_n 3, 1) := dk_45 (dk_at dksX1_setAlignment_1 14 rfl rfl)
theorem dX1_setAlignment_39 : decode cX1_setAlignment 39 = .ok (.iload_n 2, 1) := dk_28 (dk_at dksX1_setAlignment_1 15 rfl rfl)
theorem dX1_setAlignment_40 : decode cX1_setAlignment 40 = .ok (.putfield 161, 3) := dk_181 0 161 (dk_at dksX1_setAlignment_1 16 rfl rfl)
theorem dX1_setAlignment_43 : decode cX1_setAlignment 43 = .ok (.aload_n 3, 1) := dk_45 (dk_at dksX1_setAlignment_1 19 rfl rfl)
theorem dX1_setAlignment_44 : decode cX1_setAlignment 44 = .ok (.invokevirtual 85, 3) := dk_182 0 85 (dk_at dksX1_setAlignment_1 20 rfl rfl)
theorem dX1_setAlignment_47 : decode cX1_setAlignment 47 = .ok (.iload 4, 2) := dk_21 4 (dk_at dksX1_setAlignment_2 0 rfl rfl)
theorem dX1_setAlignment_49 : decode cX1_setAlignment 49 = .ok (.ireturn, 1) := dk_172 (dk_at dksX1_setAlignment_2 2 rfl rfl)
abbrev cX1_layOut : ByteArray := prog_1_method_32_code
def yX1_layOut : MethodName := ⟨RX1, "layOut", "(I)I"⟩
def dkwX1_layOut_2 : List UInt8 := [180, 0, 237, 172]
abbrev dktX1_layOut_2 : List UInt8 := dkwX1_layOut_2 ++ []
def dkwX1_layOut_1 : List UInt8 := [182, 0, 230, 42, 27, 181, 0, 16, 42, 89, 180, 0, 234, 44, 180, 0, 237, 96, 181, 0, 234, 44]
abbrev dktX1_layOut_1 : List UInt8 := dkwX1_layOut_1 ++ dktX1_layOut_2
def dkwX1_layOut_0 : List UInt8 := [27, 3, 17, 1, 144, 184, 0, 50, 184, 0, 66, 187, 0, 225, 89, 42, 3, 183, 0, 227, 77, 44, 27]
abbrev dktX1_layOut_0 : List UInt8 := dkwX1_layOut_0 ++ dktX1_layOut_1
theorem dksX1_layOut_0 : cX1_layOut.data.toList.drop 0 = dktX1_layOut_0 := by decide +kernel
theorem dksX1_layOut_1 : cX1_layOut.data.toList.drop 23 = dktX1_layOut_1 := dk_seg dksX1_layOut_0 23 rfl rfl
theorem dksX1_layOut_2 : cX1_layOut.data.toList.drop 45 = dktX1_layOut_2 := dk_seg dksX1_layOut_1 22 rfl rfl
theorem dX1_layOut_0 : decode cX1_layOut 0 = .ok (.iload_n 1, 1) := dk_27 (dk_at dksX1_layOut_0 0 rfl rfl)
theorem dX1_layOut_1 : decode cX1_layOut 1 = .ok (.iconst 0, 1) := dk_3 (dk_at dksX1_layOut_0 1 rfl rfl)
theorem dX1_layOut_2 : decode cX1_layOut 2 = .ok (.sipush 400, 3) := dk_17 1 144 (dk_at dksX1_layOut_0 2 rfl rfl)
theorem dX1_layOut_5 : decode cX1_layOut 5 = .ok (.invokestatic 50, 3) := dk_184 0 50 (dk_at dksX1_layOut_0 5 rfl rfl)
theorem dX1_layOut_8 : decode cX1_layOut 8 = .ok (.invokestatic 66, 3) := dk_184 0 66 (dk_at dksX1_layOut_0 8 rfl rfl)
theorem dX1_layOut_11 : decode cX1_layOut 11 = .ok (.new 225, 3) := dk_187 0 225 (dk_at dksX1_layOut_0 11 rfl rfl)
theorem dX1_layOut_14 : decode cX1_layOut 14 = .ok (.dup, 1) := dk_89 (dk_at dksX1_layOut_0 14 rfl rfl)
theorem dX1_layOut_15 : decode cX1_layOut 15 = .ok (.aload_n 0, 1) := dk_42 (dk_at dksX1_layOut_0 15 rfl rfl)
theorem dX1_layOut_16 : decode cX1_layOut 16 = .ok (.iconst 0, 1) := dk_3 (dk_at dksX1_layOut_0 16 rfl rfl)
theorem dX1_layOut_17 : decode cX1_layOut 17 = .ok (.invokespecial 227, 3) := dk_183 0 227 (dk_at dksX1_layOut_0 17 rfl rfl)
theorem dX1_layOut_20 : decode cX1_layOut 20 = .ok (.astore_n 2, 1) := dk_77 (dk_at dksX1_layOut_0 20 rfl rfl)
theorem dX1_layOut_21 : decode cX1_layOut 21 = .ok (.aload_n 2, 1) := dk_44 (dk_at dksX1_layOut_0 21 rfl rfl)
theorem dX1_layOut_22 : decode cX1_layOut 22 = .ok (.iload_n 1, 1) := dk_27 (dk_at dksX1_layOut_0 22 rfl rfl)
theorem dX1_layOut_23 : decode cX1_layOut 23 = .ok (.invokevirtual 230, 3) := dk_182 0 230 (dk_at dksX1_layOut_1 0 rfl rfl)
theorem dX1_layOut_26 : decode cX1_layOut 26 = .ok (.aload_n 0, 1) := dk_42 (dk_at dksX1_layOut_1 3 rfl rfl)
theorem dX1_layOut_27 : decode cX1_layOut 27 = .ok (.iload_n 1, 1) := dk_27 (dk_at dksX1_layOut_1 4 rfl rfl)
theorem dX1_layOut_28 : decode cX1_layOut 28 = .ok (.putfield 16, 3) := dk_181 0 16 (dk_at dksX1_layOut_1 5 rfl rfl)
theorem dX1_layOut_31 : decode cX1_layOut 31 = .ok (.aload_n 0, 1) := dk_42 (dk_at dksX1_layOut_1 8 rfl rfl)
theorem dX1_layOut_32 : decode cX1_layOut 32 = .ok (.dup, 1) := dk_89 (dk_at dksX1_layOut_1 9 rfl rfl)
theorem dX1_layOut_33 : decode cX1_layOut 33 = .ok (.getfield 234, 3) := dk_180 0 234 (dk_at dksX1_layOut_1 10 rfl rfl)
theorem dX1_layOut_36 : decode cX1_layOut 36 = .ok (.aload_n 2, 1) := dk_44 (dk_at dksX1_layOut_1 13 rfl rfl)
theorem dX1_layOut_37 : decode cX1_layOut 37 = .ok (.getfield 237, 3) := dk_180 0 237 (dk_at dksX1_layOut_1 14 rfl rfl)
theorem dX1_layOut_40 : decode cX1_layOut 40 = .ok (.iadd, 1) := dk_96 (dk_at dksX1_layOut_1 17 rfl rfl)
theorem dX1_layOut_41 : decode cX1_layOut 41 = .ok (.putfield 234, 3) := dk_181 0 234 (dk_at dksX1_layOut_1 18 rfl rfl)
theorem dX1_layOut_44 : decode cX1_layOut 44 = .ok (.aload_n 2, 1) := dk_44 (dk_at dksX1_layOut_1 21 rfl rfl)
theorem dX1_layOut_45 : decode cX1_layOut 45 = .ok (.getfield 237, 3) := dk_180 0 237 (dk_at dksX1_layOut_2 0 rfl rfl)
theorem dX1_layOut_48 : decode cX1_layOut 48 = .ok (.ireturn, 1) := dk_172 (dk_at dksX1_layOut_2 3 rfl rfl)
abbrev cX1_xOf : ByteArray := prog_1_method_34_code
def yX1_xOf : MethodName := ⟨RX1, "xOf", "(I)I"⟩
def dkwX1_xOf_0 : List UInt8 := [42, 27, 182, 0, 240, 182, 0, 243, 172]
abbrev dktX1_xOf_0 : List UInt8 := dkwX1_xOf_0 ++ []
theorem dksX1_xOf_0 : cX1_xOf.data.toList.drop 0 = dktX1_xOf_0 := by decide +kernel
theorem dX1_xOf_0 : decode cX1_xOf 0 = .ok (.aload_n 0, 1) := dk_42 (dk_at dksX1_xOf_0 0 rfl rfl)
theorem dX1_xOf_1 : decode cX1_xOf 1 = .ok (.iload_n 1, 1) := dk_27 (dk_at dksX1_xOf_0 1 rfl rfl)
theorem dX1_xOf_2 : decode cX1_xOf 2 = .ok (.invokevirtual 240, 3) := dk_182 0 240 (dk_at dksX1_xOf_0 2 rfl rfl)
theorem dX1_xOf_5 : decode cX1_xOf 5 = .ok (.invokevirtual 243, 3) := dk_182 0 243 (dk_at dksX1_xOf_0 5 rfl rfl)
theorem dX1_xOf_8 : decode cX1_xOf 8 = .ok (.ireturn, 1) := dk_172 (dk_at dksX1_xOf_0 8 rfl rfl)
abbrev cX1_laid : ByteArray := prog_1_method_33_code
def yX1_laid : MethodName := ⟨RX1, "laid", "(I)LColumnarPress$Box;"⟩
def dkwX1_laid_0 : List UInt8 := [42, 27, 182, 0, 62, 77, 42, 180, 0, 16, 2, 159, 0, 7, 4, 167, 0, 4, 3, 184, 0, 69, 44, 176]
abbrev dktX1_laid_0 : List UInt8 := dkwX1_laid_0 ++ []
theorem dksX1_laid_0 : cX1_laid.data.toList.drop 0 = dktX1_laid_0 := by decide +kernel
theorem dX1_laid_0 : decode cX1_laid 0 = .ok (.aload_n 0, 1) := dk_42 (dk_at dksX1_laid_0 0 rfl rfl)
theorem dX1_laid_1 : decode cX1_laid 1 = .ok (.iload_n 1, 1) := dk_27 (dk_at dksX1_laid_0 1 rfl rfl)
theorem dX1_laid_2 : decode cX1_laid 2 = .ok (.invokevirtual 62, 3) := dk_182 0 62 (dk_at dksX1_laid_0 2 rfl rfl)
theorem dX1_laid_5 : decode cX1_laid 5 = .ok (.astore_n 2, 1) := dk_77 (dk_at dksX1_laid_0 5 rfl rfl)
theorem dX1_laid_6 : decode cX1_laid 6 = .ok (.aload_n 0, 1) := dk_42 (dk_at dksX1_laid_0 6 rfl rfl)
theorem dX1_laid_7 : decode cX1_laid 7 = .ok (.getfield 16, 3) := dk_180 0 16 (dk_at dksX1_laid_0 7 rfl rfl)
theorem dX1_laid_10 : decode cX1_laid 10 = .ok (.iconst (-1), 1) := dk_2 (dk_at dksX1_laid_0 10 rfl rfl)
theorem dX1_laid_11 : decode cX1_laid 11 = .ok (.if_icmp .eq 7, 3) := dk_159 0 7 (dk_at dksX1_laid_0 11 rfl rfl)
theorem dX1_laid_14 : decode cX1_laid 14 = .ok (.iconst 1, 1) := dk_4 (dk_at dksX1_laid_0 14 rfl rfl)
theorem dX1_laid_15 : decode cX1_laid 15 = .ok (.goto 4, 3) := dk_167 0 4 (dk_at dksX1_laid_0 15 rfl rfl)
theorem dX1_laid_18 : decode cX1_laid 18 = .ok (.iconst 0, 1) := dk_3 (dk_at dksX1_laid_0 18 rfl rfl)
theorem dX1_laid_19 : decode cX1_laid 19 = .ok (.invokestatic 69, 3) := dk_184 0 69 (dk_at dksX1_laid_0 19 rfl rfl)
theorem dX1_laid_22 : decode cX1_laid 22 = .ok (.aload_n 2, 1) := dk_44 (dk_at dksX1_laid_0 22 rfl rfl)
theorem dX1_laid_23 : decode cX1_laid 23 = .ok (.areturn, 1) := dk_176 (dk_at dksX1_laid_0 23 rfl rfl)
abbrev cX1_yOf : ByteArray := prog_1_method_35_code
def yX1_yOf : MethodName := ⟨RX1, "yOf", "(I)I"⟩
def dkwX1_yOf_0 : List UInt8 := [42, 27, 182, 0, 240, 182, 0, 246, 172]
abbrev dktX1_yOf_0 : List UInt8 := dkwX1_yOf_0 ++ []
theorem dksX1_yOf_0 : cX1_yOf.data.toList.drop 0 = dktX1_yOf_0 := by decide +kernel
theorem dX1_yOf_0 : decode cX1_yOf 0 = .ok (.aload_n 0, 1) := dk_42 (dk_at dksX1_yOf_0 0 rfl rfl)
theorem dX1_yOf_1 : decode cX1_yOf 1 = .ok (.iload_n 1, 1) := dk_27 (dk_at dksX1_yOf_0 1 rfl rfl)
theorem dX1_yOf_2 : decode cX1_yOf 2 = .ok (.invokevirtual 240, 3) := dk_182 0 240 (dk_at dksX1_yOf_0 2 rfl rfl)
theorem dX1_yOf_5 : decode cX1_yOf 5 = .ok (.invokevirtual 246, 3) := dk_182 0 246 (dk_at dksX1_yOf_0 5 rfl rfl)
theorem dX1_yOf_8 : decode cX1_yOf 8 = .ok (.ireturn, 1) := dk_172 (dk_at dksX1_yOf_0 8 rfl rfl)
abbrev cX1_widthOf : ByteArray := prog_1_method_36_code
def yX1_widthOf : MethodName := ⟨RX1, "widthOf", "(I)I"⟩
def dkwX1_widthOf_0 : List UInt8 := [42, 27, 182, 0, 240, 180, 0, 249, 180, 0, 253, 172]
abbrev dktX1_widthOf_0 : List UInt8 := dkwX1_widthOf_0 ++ []
theorem dksX1_widthOf_0 : cX1_widthOf.data.toList.drop 0 = dktX1_widthOf_0 := by decide +kernel
theorem dX1_widthOf_0 : decode cX1_widthOf 0 = .ok (.aload_n 0, 1) := dk_42 (dk_at dksX1_widthOf_0 0 rfl rfl)
theorem dX1_widthOf_1 : decode cX1_widthOf 1 = .ok (.iload_n 1, 1) := dk_27 (dk_at dksX1_widthOf_0 1 rfl rfl)
theorem dX1_widthOf_2 : decode cX1_widthOf 2 = .ok (.invokevirtual 240, 3) := dk_182 0 240 (dk_at dksX1_widthOf_0 2 rfl rfl)
theorem dX1_widthOf_5 : decode cX1_widthOf 5 = .ok (.getfield 249, 3) := dk_180 0 249 (dk_at dksX1_widthOf_0 5 rfl rfl)
theorem dX1_widthOf_8 : decode cX1_widthOf 8 = .ok (.getfield 253, 3) := dk_180 0 253 (dk_at dksX1_widthOf_0 8 rfl rfl)
theorem dX1_widthOf_11 : decode cX1_widthOf 11 = .ok (.ireturn, 1) := dk_172 (dk_at dksX1_widthOf_0 11 rfl rfl)
abbrev cX1_heightOf : ByteArray := prog_1_method_37_code
def yX1_heightOf : MethodName := ⟨RX1, "heightOf", "(I)I"⟩
def dkwX1_heightOf_0 : List UInt8 := [42, 27, 182, 0, 240, 180, 0, 249, 180, 1, 0, 172]
abbrev dktX1_heightOf_0 : List UInt8 := dkwX1_heightOf_0 ++ []
theorem dksX1_heightOf_0 : cX1_heightOf.data.toList.drop 0 = dktX1_heightOf_0 := by decide +kernel
theorem dX1_heightOf_0 : decode cX1_heightOf 0 = .ok (.aload_n 0, 1) := dk_42 (dk_at dksX1_heightOf_0 0 rfl rfl)
theorem dX1_heightOf_1 : decode cX1_heightOf 1 = .ok (.iload_n 1, 1) := dk_27 (dk_at dksX1_heightOf_0 1 rfl rfl)
theorem dX1_heightOf_2 : decode cX1_heightOf 2 = .ok (.invokevirtual 240, 3) := dk_182 0 240 (dk_at dksX1_heightOf_0 2 rfl rfl)
theorem dX1_heightOf_5 : decode cX1_heightOf 5 = .ok (.getfield 249, 3) := dk_180 0 249 (dk_at dksX1_heightOf_0 5 rfl rfl)
theorem dX1_heightOf_8 : decode cX1_heightOf 8 = .ok (.getfield 256, 3) := dk_180 1 0 (dk_at dksX1_heightOf_0 8 rfl rfl)
theorem dX1_heightOf_11 : decode cX1_heightOf 11 = .ok (.ireturn, 1) := dk_172 (dk_at dksX1_heightOf_0 11 rfl rfl)
abbrev cX1_lines : ByteArray := prog_1_method_39_code
def yX1_lines : MethodName := ⟨RX1, "lines", "(I)I"⟩
def dkwX1_lines_0 : List UInt8 := [42, 27, 182, 1, 4, 185, 0, 46, 1, 0, 172]
abbrev dktX1_lines_0 : List UInt8 := dkwX1_lines_0 ++ []
theorem dksX1_lines_0 : cX1_lines.data.toList.drop 0 = dktX1_lines_0 := by decide +kernel
theorem dX1_lines_0 : decode cX1_lines 0 = .ok (.aload_n 0, 1) := dk_42 (dk_at dksX1_lines_0 0 rfl rfl)
theorem dX1_lines_1 : decode cX1_lines 1 = .ok (.iload_n 1, 1) := dk_27 (dk_at dksX1_lines_0 1 rfl rfl)
theorem dX1_lines_2 : decode cX1_lines 2 = .ok (.invokevirtual 260, 3) := dk_182 1 4 (dk_at dksX1_lines_0 2 rfl rfl)
theorem dX1_lines_5 : decode cX1_lines 5 = .ok (.invokeinterface 46 1, 5) := by decide +kernel
theorem dX1_lines_10 : decode cX1_lines 10 = .ok (.ireturn, 1) := dk_172 (dk_at dksX1_lines_0 10 rfl rfl)
abbrev cX1_linesOf : ByteArray := prog_1_method_38_code
def yX1_linesOf : MethodName := ⟨RX1, "linesOf", "(I)Ljava/util/List;"⟩
def dkwX1_linesOf_0 : List UInt8 := [42, 27, 182, 0, 240, 77, 44, 182, 0, 72, 184, 0, 79, 44, 180, 0, 249, 180, 1, 1, 176]
abbrev dktX1_linesOf_0 : List UInt8 := dkwX1_linesOf_0 ++ []
theorem dksX1_linesOf_0 : cX1_linesOf.data.toList.drop 0 = dktX1_linesOf_0 := by decide +kernel
theorem dX1_linesOf_0 : decode cX1_linesOf 0 = .ok (.aload_n 0, 1) := dk_42 (dk_at dksX1_linesOf_0 0 rfl rfl)
theorem dX1_linesOf_1 : decode cX1_linesOf 1 = .ok (.iload_n 1, 1) := dk_27 (dk_at dksX1_linesOf_0 1 rfl rfl)
theorem dX1_linesOf_2 : decode cX1_linesOf 2 = .ok (.invokevirtual 240, 3) := dk_182 0 240 (dk_at dksX1_linesOf_0 2 rfl rfl)
theorem dX1_linesOf_5 : decode cX1_linesOf 5 = .ok (.astore_n 2, 1) := dk_77 (dk_at dksX1_linesOf_0 5 rfl rfl)
theorem dX1_linesOf_6 : decode cX1_linesOf 6 = .ok (.aload_n 2, 1) := dk_44 (dk_at dksX1_linesOf_0 6 rfl rfl)
theorem dX1_linesOf_7 : decode cX1_linesOf 7 = .ok (.invokevirtual 72, 3) := dk_182 0 72 (dk_at dksX1_linesOf_0 7 rfl rfl)
theorem dX1_linesOf_10 : decode cX1_linesOf 10 = .ok (.invokestatic 79, 3) := dk_184 0 79 (dk_at dksX1_linesOf_0 10 rfl rfl)
theorem dX1_linesOf_13 : decode cX1_linesOf 13 = .ok (.aload_n 2, 1) := dk_44 (dk_at dksX1_linesOf_0 13 rfl rfl)
theorem dX1_linesOf_14 : decode cX1_linesOf 14 = .ok (.getfield 249, 3) := dk_180 0 249 (dk_at dksX1_linesOf_0 14 rfl rfl)
theorem dX1_linesOf_17 : decode cX1_linesOf 17 = .ok (.getfield 257, 3) := dk_180 1 1 (dk_at dksX1_linesOf_0 17 rfl rfl)
theorem dX1_linesOf_20 : decode cX1_linesOf 20 = .ok (.areturn, 1) := dk_176 (dk_at dksX1_linesOf_0 20 rfl rfl)
abbrev cX1_wordsIn : ByteArray := prog_1_method_41_code
def yX1_wordsIn : MethodName := ⟨RX1, "wordsIn", "(II)I"⟩
def dkwX1_wordsIn_0 : List UInt8 := [42, 27, 28, 182, 1, 13, 182, 1, 17, 172]
abbrev dktX1_wordsIn_0 : List UInt8 := dkwX1_wordsIn_0 ++ []
theorem dksX1_wordsIn_0 : cX1_wordsIn.data.toList.drop 0 = dktX1_wordsIn_0 := by decide +kernel
theorem dX1_wordsIn_0 : decode cX1_wordsIn 0 = .ok (.aload_n 0, 1) := dk_42 (dk_at dksX1_wordsIn_0 0 rfl rfl)
theorem dX1_wordsIn_1 : decode cX1_wordsIn 1 = .ok (.iload_n 1, 1) := dk_27 (dk_at dksX1_wordsIn_0 1 rfl rfl)
theorem dX1_wordsIn_2 : decode cX1_wordsIn 2 = .ok (.iload_n 2, 1) := dk_28 (dk_at dksX1_wordsIn_0 2 rfl rfl)
theorem dX1_wordsIn_3 : decode cX1_wordsIn 3 = .ok (.invokevirtual 269, 3) := dk_182 1 13 (dk_at dksX1_wordsIn_0 3 rfl rfl)
theorem dX1_wordsIn_6 : decode cX1_wordsIn 6 = .ok (.invokevirtual 273, 3) := dk_182 1 17 (dk_at dksX1_wordsIn_0 6 rfl rfl)
theorem dX1_wordsIn_9 : decode cX1_wordsIn 9 = .ok (.ireturn, 1) := dk_172 (dk_at dksX1_wordsIn_0 9 rfl rfl)
abbrev cX1_lineAt : ByteArray := prog_1_method_40_code
def yX1_lineAt : MethodName := ⟨RX1, "lineAt", "(II)LColumnarPress$Line;"⟩
def dkwX1_lineAt_1 : List UInt8 := [185, 0, 58, 2, 0, 192, 1, 11, 176]
abbrev dktX1_lineAt_1 : List UInt8 := dkwX1_lineAt_1 ++ []
def dkwX1_lineAt_0 : List UInt8 := [42, 27, 182, 1, 4, 78, 28, 3, 45, 185, 0, 46, 1, 0, 4, 100, 184, 0, 50, 184, 1, 8, 45, 28]
abbrev dktX1_lineAt_0 : List UInt8 := dkwX1_lineAt_0 ++ dktX1_lineAt_1
theorem dksX1_lineAt_0 : cX1_lineAt.data.toList.drop 0 = dktX1_lineAt_0 := by decide +kernel
theorem dksX1_lineAt_1 : cX1_lineAt.data.toList.drop 24 = dktX1_lineAt_1 := dk_seg dksX1_lineAt_0 24 rfl rfl
theorem dX1_lineAt_0 : decode cX1_lineAt 0 = .ok (.aload_n 0, 1) := dk_42 (dk_at dksX1_lineAt_0 0 rfl rfl)
theorem dX1_lineAt_1 : decode cX1_lineAt 1 = .ok (.iload_n 1, 1) := dk_27 (dk_at dksX1_lineAt_0 1 rfl rfl)
theorem dX1_lineAt_2 : decode cX1_lineAt 2 = .ok (.invokevirtual 260, 3) := dk_182 1 4 (dk_at dksX1_lineAt_0 2 rfl rfl)
theorem dX1_lineAt_5 : decode cX1_lineAt 5 = .ok (.astore_n 3, 1) := dk_78 (dk_at dksX1_lineAt_0 5 rfl rfl)
theorem dX1_lineAt_6 : decode cX1_lineAt 6 = .ok (.iload_n 2, 1) := dk_28 (dk_at dksX1_lineAt_0 6 rfl rfl)
theorem dX1_lineAt_7 : decode cX1_lineAt 7 = .ok (.iconst 0, 1) := dk_3 (dk_at dksX1_lineAt_0 7 rfl rfl)
theorem dX1_lineAt_8 : decode cX1_lineAt 8 = .ok (.aload_n 3, 1) := dk_45 (dk_at dksX1_lineAt_0 8 rfl rfl)
theorem dX1_lineAt_9 : decode cX1_lineAt 9 = .ok (.invokeinterface 46 1, 5) := by decide +kernel
theorem dX1_lineAt_14 : decode cX1_lineAt 14 = .ok (.iconst 1, 1) := dk_4 (dk_at dksX1_lineAt_0 14 rfl rfl)
theorem dX1_lineAt_15 : decode cX1_lineAt 15 = .ok (.isub, 1) := dk_100 (dk_at dksX1_lineAt_0 15 rfl rfl)
theorem dX1_lineAt_16 : decode cX1_lineAt 16 = .ok (.invokestatic 50, 3) := dk_184 0 50 (dk_at dksX1_lineAt_0 16 rfl rfl)
theorem dX1_lineAt_19 : decode cX1_lineAt 19 = .ok (.invokestatic 264, 3) := dk_184 1 8 (dk_at dksX1_lineAt_0 19 rfl rfl)
theorem dX1_lineAt_22 : decode cX1_lineAt 22 = .ok (.aload_n 3, 1) := dk_45 (dk_at dksX1_lineAt_0 22 rfl rfl)
theorem dX1_lineAt_23 : decode cX1_lineAt 23 = .ok (.iload_n 2, 1) := dk_28 (dk_at dksX1_lineAt_0 23 rfl rfl)
theorem dX1_lineAt_24 : decode cX1_lineAt 24 = .ok (.invokeinterface 58 2, 5) := by decide +kernel
theorem dX1_lineAt_29 : decode cX1_lineAt 29 = .ok (.checkcast 267, 3) := dk_192 1 11 (dk_at dksX1_lineAt_1 5 rfl rfl)
theorem dX1_lineAt_32 : decode cX1_lineAt 32 = .ok (.areturn, 1) := dk_176 (dk_at dksX1_lineAt_1 8 rfl rfl)
abbrev cX1_requireElement : ByteArray := prog_1_method_7_code
def yX1_requireElement : MethodName := ⟨RX1, "requireElement", "(Z)V"⟩
def dkwX1_requireElement_0 : List UInt8 := [26, 154, 0, 11, 187, 0, 43, 89, 183, 0, 45, 191, 177]
abbrev dktX1_requireElement_0 : List UInt8 := dkwX1_requireElement_0 ++ []
theorem dksX1_requireElement_0 : cX1_requireElement.data.toList.drop 0 = dktX1_requireElement_0 := by decide +kernel
theorem dX1_requireElement_0 : decode cX1_requireElement 0 = .ok (.iload_n 0, 1) := dk_26 (dk_at dksX1_requireElement_0 0 rfl rfl)
theorem dX1_requireElement_1 : decode cX1_requireElement 1 = .ok (.ifCond .ne 11, 3) := dk_154 0 11 (dk_at dksX1_requireElement_0 1 rfl rfl)
theorem dX1_requireElement_4 : decode cX1_requireElement 4 = .ok (.new 43, 3) := dk_187 0 43 (dk_at dksX1_requireElement_0 4 rfl rfl)
theorem dX1_requireElement_7 : decode cX1_requireElement 7 = .ok (.dup, 1) := dk_89 (dk_at dksX1_requireElement_0 7 rfl rfl)
theorem dX1_requireElement_8 : decode cX1_requireElement 8 = .ok (.invokespecial 45, 3) := dk_183 0 45 (dk_at dksX1_requireElement_0 8 rfl rfl)
theorem dX1_requireElement_11 : decode cX1_requireElement 11 = .ok (.athrow, 1) := dk_191 (dk_at dksX1_requireElement_0 11 rfl rfl)
theorem dX1_requireElement_12 : decode cX1_requireElement 12 = .ok (.return_, 1) := dk_177 (dk_at dksX1_requireElement_0 12 rfl rfl)
abbrev cX1_lineX : ByteArray := prog_1_method_42_code
def yX1_lineX : MethodName := ⟨RX1, "lineX", "(II)I"⟩
def dkwX1_lineX_0 : List UInt8 := [42, 27, 28, 182, 1, 13, 182, 1, 19, 172]
abbrev dktX1_lineX_0 : List UInt8 := dkwX1_lineX_0 ++ []
theorem dksX1_lineX_0 : cX1_lineX.data.toList.drop 0 = dktX1_lineX_0 := by decide +kernel
theorem dX1_lineX_0 : decode cX1_lineX 0 = .ok (.aload_n 0, 1) := dk_42 (dk_at dksX1_lineX_0 0 rfl rfl)
theorem dX1_lineX_1 : decode cX1_lineX 1 = .ok (.iload_n 1, 1) := dk_27 (dk_at dksX1_lineX_0 1 rfl rfl)
theorem dX1_lineX_2 : decode cX1_lineX 2 = .ok (.iload_n 2, 1) := dk_28 (dk_at dksX1_lineX_0 2 rfl rfl)
theorem dX1_lineX_3 : decode cX1_lineX 3 = .ok (.invokevirtual 269, 3) := dk_182 1 13 (dk_at dksX1_lineX_0 3 rfl rfl)
theorem dX1_lineX_6 : decode cX1_lineX 6 = .ok (.invokevirtual 275, 3) := dk_182 1 19 (dk_at dksX1_lineX_0 6 rfl rfl)
theorem dX1_lineX_9 : decode cX1_lineX 9 = .ok (.ireturn, 1) := dk_172 (dk_at dksX1_lineX_0 9 rfl rfl)
abbrev cX1_lineY : ByteArray := prog_1_method_43_code
def yX1_lineY : MethodName := ⟨RX1, "lineY", "(II)I"⟩
def dkwX1_lineY_0 : List UInt8 := [42, 27, 28, 182, 1, 13, 182, 1, 20, 172]
abbrev dktX1_lineY_0 : List UInt8 := dkwX1_lineY_0 ++ []
theorem dksX1_lineY_0 : cX1_lineY.data.toList.drop 0 = dktX1_lineY_0 := by decide +kernel
theorem dX1_lineY_0 : decode cX1_lineY 0 = .ok (.aload_n 0, 1) := dk_42 (dk_at dksX1_lineY_0 0 rfl rfl)
theorem dX1_lineY_1 : decode cX1_lineY 1 = .ok (.iload_n 1, 1) := dk_27 (dk_at dksX1_lineY_0 1 rfl rfl)
theorem dX1_lineY_2 : decode cX1_lineY 2 = .ok (.iload_n 2, 1) := dk_28 (dk_at dksX1_lineY_0 2 rfl rfl)
theorem dX1_lineY_3 : decode cX1_lineY 3 = .ok (.invokevirtual 269, 3) := dk_182 1 13 (dk_at dksX1_lineY_0 3 rfl rfl)
theorem dX1_lineY_6 : decode cX1_lineY 6 = .ok (.invokevirtual 276, 3) := dk_182 1 20 (dk_at dksX1_lineY_0 6 rfl rfl)
theorem dX1_lineY_9 : decode cX1_lineY 9 = .ok (.ireturn, 1) := dk_172 (dk_at dksX1_lineY_0 9 rfl rfl)
abbrev cX1_leastWidth : ByteArray := prog_1_method_44_code
def yX1_leastWidth : MethodName := ⟨RX1, "leastWidth", "(I)I"⟩
def dkwX1_leastWidth_0 : List UInt8 := [42, 27, 182, 0, 62, 4, 184, 0, 189, 172]
abbrev dktX1_leastWidth_0 : List UInt8 := dkwX1_leastWidth_0 ++ []
theorem dksX1_leastWidth_0 : cX1_leastWidth.data.toList.drop 0 = dktX1_leastWidth_0 := by decide +kernel
theorem dX1_leastWidth_0 : decode cX1_leastWidth 0 = .ok (.aload_n 0, 1) := dk_42 (dk_at dksX1_leastWidth_0 0 rfl rfl)
theorem dX1_leastWidth_1 : decode cX1_leastWidth 1 = .ok (.iload_n 1, 1) := dk_27 (dk_at dksX1_leastWidth_0 1 rfl rfl)
theorem dX1_leastWidth_2 : decode cX1_leastWidth 2 = .ok (.invokevirtual 62, 3) := dk_182 0 62 (dk_at dksX1_leastWidth_0 2 rfl rfl)
theorem dX1_leastWidth_5 : decode cX1_leastWidth 5 = .ok (.iconst 1, 1) := dk_4 (dk_at dksX1_leastWidth_0 5 rfl rfl)
theorem dX1_leastWidth_6 : decode cX1_leastWidth 6 = .ok (.invokestatic 189, 3) := dk_184 0 189 (dk_at dksX1_leastWidth_0 6 rfl rfl)
theorem dX1_leastWidth_9 : decode cX1_leastWidth 9 = .ok (.ireturn, 1) := dk_172 (dk_at dksX1_leastWidth_0 9 rfl rfl)
abbrev cX1_greatestWidth : ByteArray := prog_1_method_45_code
def yX1_greatestWidth : MethodName := ⟨RX1, "greatestWidth", "(I)I"⟩
def dkwX1_greatestWidth_0 : List UInt8 := [42, 27, 182, 0, 62, 3, 184, 0, 189, 172]
abbrev dktX1_greatestWidth_0 : List UInt8 := dkwX1_greatestWidth_0 ++ []
theorem dksX1_greatestWidth_0 : cX1_greatestWidth.data.toList.drop 0 = dktX1_greatestWidth_0 := by decide +kernel
theorem dX1_greatestWidth_0 : decode cX1_greatestWidth 0 = .ok (.aload_n 0, 1) := dk_42 (dk_at dksX1_greatestWidth_0 0 rfl rfl)
theorem dX1_greatestWidth_1 : decode cX1_greatestWidth 1 = .ok (.iload_n 1, 1) := dk_27 (dk_at dksX1_greatestWidth_0 1 rfl rfl)
theorem dX1_greatestWidth_2 : decode cX1_greatestWidth 2 = .ok (.invokevirtual 62, 3) := dk_182 0 62 (dk_at dksX1_greatestWidth_0 2 rfl rfl)
theorem dX1_greatestWidth_5 : decode cX1_greatestWidth 5 = .ok (.iconst 0, 1) := dk_3 (dk_at dksX1_greatestWidth_0 5 rfl rfl)
theorem dX1_greatestWidth_6 : decode cX1_greatestWidth 6 = .ok (.invokestatic 189, 3) := dk_184 0 189 (dk_at dksX1_greatestWidth_0 6 rfl rfl)
theorem dX1_greatestWidth_9 : decode cX1_greatestWidth 9 = .ok (.ireturn, 1) := dk_172 (dk_at dksX1_greatestWidth_0 9 rfl rfl)
abbrev cX1_hit : ByteArray := prog_1_method_47_code
def yX1_hit : MethodName := ⟨RX1, "hit", "(II)I"⟩
def dkwX1_hit_6 : List UInt8 := [184, 1, 8, 45, 180, 0, 88, 172]
abbrev dktX1_hit_6 : List UInt8 := dkwX1_hit_6 ++ []
def dkwX1_hit_5 : List UInt8 := [161, 0, 8, 25, 5, 167, 0, 4, 45, 78, 167, 255, 159, 45, 198, 0, 7, 4, 167, 0, 4, 3]
abbrev dktX1_hit_5 : List UInt8 := dkwX1_hit_5 ++ dktX1_hit_6
def dkwX1_hit_4 : List UInt8 := [167, 0, 4, 3, 54, 6, 21, 6, 153, 0, 24, 45, 198, 0, 15, 25, 5, 180, 0, 151, 45, 180, 0, 151]
abbrev dktX1_hit_4 : List UInt8 := dkwX1_hit_4 ++ dktX1_hit_5
def dkwX1_hit_3 : List UInt8 := [153, 0, 27, 28, 25, 5, 182, 0, 246, 25, 5, 180, 0, 249, 180, 1, 0, 184, 1, 21, 153, 0, 7, 4]
abbrev dktX1_hit_3 : List UInt8 := dkwX1_hit_3 ++ dktX1_hit_4
def dkwX1_hit_2 : List UInt8 := [192, 0, 20, 58, 5, 27, 25, 5, 182, 0, 243, 25, 5, 180, 0, 249, 180, 0, 253, 184, 1, 21]
abbrev dktX1_hit_2 : List UInt8 := dkwX1_hit_2 ++ dktX1_hit_3
def dkwX1_hit_1 : List UInt8 := [185, 0, 164, 1, 0, 58, 4, 25, 4, 185, 0, 168, 1, 0, 153, 0, 93, 25, 4, 185, 0, 173, 1, 0]
abbrev dktX1_hit_1 : List UInt8 := dkwX1_hit_1 ++ dktX1_hit_2
def dkwX1_hit_0 : List UInt8 := [42, 180, 0, 16, 2, 159, 0, 7, 4, 167, 0, 4, 3, 184, 0, 69, 1, 78, 42, 180, 0, 10]
abbrev dktX1_hit_0 : List UInt8 := dkwX1_hit_0 ++ dktX1_hit_1
theorem dksX1_hit_0 : cX1_hit.data.toList.drop 0 = dktX1_hit_0 := by decide +kernel
theorem dksX1_hit_1 : cX1_hit.data.toList.drop 22 = dktX1_hit_1 := dk_seg dksX1_hit_0 22 rfl rfl
theorem dksX1_hit_2 : cX1_hit.data.toList.drop 46 = dktX1_hit_2 := dk_seg dksX1_hit_1 24 rfl rfl
theorem dksX1_hit_3 : cX1_hit.data.toList.drop 68 = dktX1_hit_3 := dk_seg dksX1_hit_2 22 rfl rfl
theorem dksX1_hit_4 : cX1_hit.data.toList.drop 92 = dktX1_hit_4 := dk_seg dksX1_hit_3 24 rfl rfl
theorem dksX1_hit_5 : cX1_hit.data.toList.drop 116 = dktX1_hit_5 := dk_seg dksX1_hit_4 24 rfl rfl
theorem dksX1_hit_6 : cX1_hit.data.toList.drop 138 = dktX1_hit_6 := dk_seg dksX1_hit_5 22 rfl rfl
theorem dX1_hit_0 : decode cX1_hit 0 = .ok (.aload_n 0, 1) := dk_42 (dk_at dksX1_hit_0 0 rfl rfl)
theorem dX1_hit_1 : decode cX1_hit 1 = .ok (.getfield 16, 3) := dk_180 0 16 (dk_at dksX1_hit_0 1 rfl rfl)
theorem dX1_hit_4 : decode cX1_hit 4 = .ok (.iconst (-1), 1) := dk_2 (dk_at dksX1_hit_0 4 rfl rfl)
theorem dX1_hit_5 : decode cX1_hit 5 = .ok (.if_icmp .eq 7, 3) := dk_159 0 7 (dk_at dksX1_hit_0 5 rfl rfl)
theorem dX1_hit_8 : decode cX1_hit 8 = .ok (.iconst 1, 1) := dk_4 (dk_at dksX1_hit_0 8 rfl rfl)
theorem dX1_hit_9 : decode cX1_hit 9 = .ok (.goto 4, 3) := dk_167 0 4 (dk_at dksX1_hit_0 9 rfl rfl)
theorem dX1_hit_12 : decode cX1_hit 12 = .ok (.iconst 0, 1) := dk_3 (dk_at dksX1_hit_0 12 rfl rfl)
theorem dX1_hit_13 : decode cX1_hit 13 = .ok (.invokestatic 69, 3) := dk_184 0 69 (dk_at dksX1_hit_0 13 rfl rfl)
theorem dX1_hit_16 : decode cX1_hit 16 = .ok (.aconst_null, 1) := dk_1 (dk_at dksX1_hit_0 16 rfl rfl)
theorem dX1_hit_17 : decode cX1_hit 17 = .ok (.astore_n 3, 1) := dk_78 (dk_at dksX1_hit_0 17 rfl rfl)
theorem dX1_hit_18 : decode cX1_hit 18 = .ok (.aload_n 0, 1) := dk_42 (dk_at dksX1_hit_0 18 rfl rfl)
theorem dX1_hit_19 : decode cX1_hit 19 = .ok (.getfield 10, 3) := dk_180 0 10 (dk_at dksX1_hit_0 19 rfl rfl)
theorem dX1_hit_22 : decode cX1_hit 22 = .ok (.invokeinterface 164 1, 5) := by decide +kernel
theorem dX1_hit_27 : decode cX1_hit 27 = .ok (.astore 4, 2) := dk_58 4 (dk_at dksX1_hit_1 5 rfl rfl)
theorem dX1_hit_29 : decode cX1_hit 29 = .ok (.aload 4, 2) := dk_25 4 (dk_at dksX1_hit_1 7 rfl rfl)
theorem dX1_hit_31 : decode cX1_hit 31 = .ok (.invokeinterface 168 1, 5) := by decide +kernel
theorem dX1_hit_36 : decode cX1_hit 36 = .ok (.ifCond .eq 93, 3) := dk_153 0 93 (dk_at dksX1_hit_1 14 rfl rfl)
theorem dX1_hit_39 : decode cX1_hit 39 = .ok (.aload 4, 2) := dk_25 4 (dk_at dksX1_hit_1 17 rfl rfl)
theorem dX1_hit_41 : decode cX1_hit 41 = .ok (.invokeinterface 173 1, 5) := by decide +kernel
theorem dX1_hit_46 : decode cX1_hit 46 = .ok (.checkcast 20, 3) := dk_192 0 20 (dk_at dksX1_hit_2 0 rfl rfl)
theorem dX1_hit_49 : decode cX1_hit 49 = .ok (.astore 5, 2) := dk_58 5 (dk_at dksX1_hit_2 3 rfl rfl)
theorem dX1_hit_51 : decode cX1_hit 51 = .ok (.iload_n 1, 1) := dk_27 (dk_at dksX1_hit_2 5 rfl rfl)
theorem dX1_hit_52 : decode cX1_hit 52 = .ok (.aload 5, 2) := dk_25 5 (dk_at dksX1_hit_2 6 rfl rfl)
theorem dX1_hit_54 : decode cX1_hit 54 = .ok (.invokevirtual 243, 3) := dk_182 0 243 (dk_at dksX1_hit_2 8 rfl rfl)
theorem dX1_hit_57 : decode cX1_hit 57 = .ok (.aload 5, 2) := dk_25 5 (dk_at dksX1_hit_2 11 rfl rfl)
theorem dX1_hit_59 : decode cX1_hit 59 = .ok (.getfield 249, 3) := dk_180 0 249 (dk_at dksX1_hit_2 13 rfl rfl)
theorem dX1_hit_62 : decode cX1_hit 62 = .ok (.getfield 253, 3) := dk_180 0 253 (dk_at dksX1_hit_2 16 rfl rfl)
theorem dX1_hit_65 : decode cX1_hit 65 = .ok (.invokestatic 277, 3) := dk_184 1 21 (dk_at dksX1_hit_2 19 rfl rfl)
theorem dX1_hit_68 : decode cX1_hit 68 = .ok (.ifCond .eq 27, 3) := dk_153 0 27 (dk_at dksX1_hit_3 0 rfl rfl)
theorem dX1_hit_71 : decode cX1_hit 71 = .ok (.iload_n 2, 1) := dk_28 (dk_at dksX1_hit_3 3 rfl rfl)
theorem dX1_hit_72 : decode cX1_hit 72 = .ok (.aload 5, 2) := dk_25 5 (dk_at dksX1_hit_3 4 rfl rfl)
theorem dX1_hit_74 : decode cX1_hit 74 = .ok (.invokevirtual 246, 3) := dk_182 0 246 (dk_at dksX1_hit_3 6 rfl rfl)
theorem dX1_hit_77 : decode cX1_hit 77 = .ok (.aload 5, 2) := dk_25 5 (dk_at dksX1_hit_3 9 rfl rfl)
theorem dX1_hit_79 : decode cX1_hit 79 = .ok (.getfield 249, 3) := dk_180 0 249 (dk_at dksX1_hit_3 11 rfl rfl)
theorem dX1_hit_82 : decode cX1_hit 82 = .ok (.getfield 256, 3) := dk_180 1 0 (dk_at dksX1_hit_3 14 rfl rfl)
theorem dX1_hit_85 : decode cX1_hit 85 = .ok (.invokestatic 277, 3) := dk_184 1 21 (dk_at dksX1_hit_3 17 rfl rfl)
theorem dX1_hit_88 : decode cX1_hit 88 = .ok (.ifCond .eq 7, 3) := dk_153 0 7 (dk_at dksX1_hit_3 20 rfl rfl)
theorem dX1_hit_91 : decode cX1_hit 91 = .ok (.iconst 1, 1) := dk_4 (dk_at dksX1_hit_3 23 rfl rfl)
theorem dX1_hit_92 : decode cX1_hit 92 = .ok (.goto 4, 3) := dk_167 0 4 (dk_at dksX1_hit_4 0 rfl rfl)
theorem dX1_hit_95 : decode cX1_hit 95 = .ok (.iconst 0, 1) := dk_3 (dk_at dksX1_hit_4 3 rfl rfl)
theorem dX1_hit_96 : decode cX1_hit 96 = .ok (.istore 6, 2) := dk_54 6 (dk_at dksX1_hit_4 4 rfl rfl)
theorem dX1_hit_98 : decode cX1_hit 98 = .ok (.iload 6, 2) := dk_21 6 (dk_at dksX1_hit_4 6 rfl rfl)
theorem dX1_hit_100 : decode cX1_hit 100 = .ok (.ifCond .eq 24, 3) := dk_153 0 24 (dk_at dksX1_hit_4 8 rfl rfl)
theorem dX1_hit_103 : decode cX1_hit 103 = .ok (.aload_n 3, 1) := dk_45 (dk_at dksX1_hit_4 11 rfl rfl)
theorem dX1_hit_104 : decode cX1_hit 104 = .ok (.ifnull 15, 3) := dk_198 0 15 (dk_at dksX1_hit_4 12 rfl rfl)
theorem dX1_hit_107 : decode cX1_hit 107 = .ok (.aload 5, 2) := dk_25 5 (dk_at dksX1_hit_4 15 rfl rfl)
theorem dX1_hit_109 : decode cX1_hit 109 = .ok (.getfield 151, 3) := dk_180 0 151 (dk_at dksX1_hit_4 17 rfl rfl)
theorem dX1_hit_112 : decode cX1_hit 112 = .ok (.aload_n 3, 1) := dk_45 (dk_at dksX1_hit_4 20 rfl rfl)
theorem dX1_hit_113 : decode cX1_hit 113 = .ok (.getfield 151, 3) := dk_180 0 151 (dk_at dksX1_hit_4 21 rfl rfl)
theorem dX1_hit_116 : decode cX1_hit 116 = .ok (.if_icmp .lt 8, 3) := dk_161 0 8 (dk_at dksX1_hit_5 0 rfl rfl)
theorem dX1_hit_119 : decode cX1_hit 119 = .ok (.aload 5, 2) := dk_25 5 (dk_at dksX1_hit_5 3 rfl rfl)
theorem dX1_hit_121 : decode cX1_hit 121 = .ok (.goto 4, 3) := dk_167 0 4 (dk_at dksX1_hit_5 5 rfl rfl)
theorem dX1_hit_124 : decode cX1_hit 124 = .ok (.aload_n 3, 1) := dk_45 (dk_at dksX1_hit_5 8 rfl rfl)
theorem dX1_hit_125 : decode cX1_hit 125 = .ok (.astore_n 3, 1) := dk_78 (dk_at dksX1_hit_5 9 rfl rfl)
theorem dX1_hit_126 : decode cX1_hit 126 = .ok (.goto (-97), 3) := dk_167 255 159 (dk_at dksX1_hit_5 10 rfl rfl)
theorem dX1_hit_129 : decode cX1_hit 129 = .ok (.aload_n 3, 1) := dk_45 (dk_at dksX1_hit_5 13 rfl rfl)
theorem dX1_hit_130 : decode cX1_hit 130 = .ok (.ifnull 7, 3) := dk_198 0 7 (dk_at dksX1_hit_5 14 rfl rfl)
theorem dX1_hit_133 : decode cX1_hit 133 = .ok (.iconst 1, 1) := dk_4 (dk_at dksX1_hit_5 17 rfl rfl)
theorem dX1_hit_134 : decode cX1_hit 134 = .ok (.goto 4, 3) := dk_167 0 4 (dk_at dksX1_hit_5 18 rfl rfl)
theorem dX1_hit_137 : decode cX1_hit 137 = .ok (.iconst 0, 1) := dk_3 (dk_at dksX1_hit_5 21 rfl rfl)
theorem dX1_hit_138 : decode cX1_hit 138 = .ok (.invokestatic 264, 3) := dk_184 1 8 (dk_at dksX1_hit_6 0 rfl rfl)
theorem dX1_hit_141 : decode cX1_hit 141 = .ok (.aload_n 3, 1) := dk_45 (dk_at dksX1_hit_6 3 rfl rfl)
theorem dX1_hit_142 : decode cX1_hit 142 = .ok (.getfield 88, 3) := dk_180 0 88 (dk_at dksX1_hit_6 4 rfl rfl)
theorem dX1_hit_145 : decode cX1_hit 145 = .ok (.ireturn, 1) := dk_172 (dk_at dksX1_hit_6 7 rfl rfl)
abbrev cX1_isIn : ByteArray := prog_1_method_46_code
def yX1_isIn : MethodName := ⟨RX1, "isIn", "(III)Z"⟩
def dkwX1_isIn_0 : List UInt8 := [26, 27, 161, 0, 14, 26, 27, 28, 96, 162, 0, 7, 4, 167, 0, 4, 3, 172]
abbrev dktX1_isIn_0 : List UInt8 := dkwX1_isIn_0 ++ []
theorem dksX1_isIn_0 : cX1_isIn.data.toList.drop 0 = dktX1_isIn_0 := by decide +kernel
theorem dX1_isIn_0 : decode cX1_isIn 0 = .ok (.iload_n 0, 1) := dk_26 (dk_at dksX1_isIn_0 0 rfl rfl)
theorem dX1_isIn_1 : decode cX1_isIn 1 = .ok (.iload_n 1, 1) := dk_27 (dk_at dksX1_isIn_0 1 rfl rfl)
theorem dX1_isIn_2 : decode cX1_isIn 2 = .ok (.if_icmp .lt 14, 3) := dk_161 0 14 (dk_at dksX1_isIn_0 2 rfl rfl)
theorem dX1_isIn_5 : decode cX1_isIn 5 = .ok (.iload_n 0, 1) := dk_26 (dk_at dksX1_isIn_0 5 rfl rfl)
theorem dX1_isIn_6 : decode cX1_isIn 6 = .ok (.iload_n 1, 1) := dk_27 (dk_at dksX1_isIn_0 6 rfl rfl)
theorem dX1_isIn_7 : decode cX1_isIn 7 = .ok (.iload_n 2, 1) := dk_28 (dk_at dksX1_isIn_0 7 rfl rfl)
theorem dX1_isIn_8 : decode cX1_isIn 8 = .ok (.iadd, 1) := dk_96 (dk_at dksX1_isIn_0 8 rfl rfl)
theorem dX1_isIn_9 : decode cX1_isIn 9 = .ok (.if_icmp .ge 7, 3) := dk_162 0 7 (dk_at dksX1_isIn_0 9 rfl rfl)
theorem dX1_isIn_12 : decode cX1_isIn 12 = .ok (.iconst 1, 1) := dk_4 (dk_at dksX1_isIn_0 12 rfl rfl)
theorem dX1_isIn_13 : decode cX1_isIn 13 = .ok (.goto 4, 3) := dk_167 0 4 (dk_at dksX1_isIn_0 13 rfl rfl)
theorem dX1_isIn_16 : decode cX1_isIn 16 = .ok (.iconst 0, 1) := dk_3 (dk_at dksX1_isIn_0 16 rfl rfl)
theorem dX1_isIn_17 : decode cX1_isIn 17 = .ok (.ireturn, 1) := dk_172 (dk_at dksX1_isIn_0 17 rfl rfl)
abbrev cX1_pages : ByteArray := prog_1_method_48_code
def yX1_pages : MethodName := ⟨RX1, "pages", "(I)I"⟩
def dkwX1_pages_1 : List UInt8 := [3, 184, 0, 69, 187, 1, 24, 89, 42, 27, 183, 1, 26, 180, 1, 29, 4, 96, 172]
abbrev dktX1_pages_1 : List UInt8 := dkwX1_pages_1 ++ []
def dkwX1_pages_0 : List UInt8 := [27, 16, 10, 17, 1, 144, 184, 0, 50, 184, 0, 66, 42, 180, 0, 16, 2, 159, 0, 7, 4, 167, 0, 4]
abbrev dktX1_pages_0 : List UInt8 := dkwX1_pages_0 ++ dktX1_pages_1
theorem dksX1_pages_0 : cX1_pages.data.toList.drop 0 = dktX1_pages_0 := by decide +kernel
theorem dksX1_pages_1 : cX1_pages.data.toList.drop 24 = dktX1_pages_1 := dk_seg dksX1_pages_0 24 rfl rfl
theorem dX1_pages_0 : decode cX1_pages 0 = .ok (.iload_n 1, 1) := dk_27 (dk_at dksX1_pages_0 0 rfl rfl)
theorem dX1_pages_1 : decode cX1_pages 1 = .ok (.bipush 10, 2) := dk_16 10 (dk_at dksX1_pages_0 1 rfl rfl)
theorem dX1_pages_3 : decode cX1_pages 3 = .ok (.sipush 400, 3) := dk_17 1 144 (dk_at dksX1_pages_0 3 rfl rfl)
theorem dX1_pages_6 : decode cX1_pages 6 = .ok (.invokestatic 50, 3) := dk_184 0 50 (dk_at dksX1_pages_0 6 rfl rfl)
theorem dX1_pages_9 : decode cX1_pages 9 = .ok (.invokestatic 66, 3) := dk_184 0 66 (dk_at dksX1_pages_0 9 rfl rfl)
theorem dX1_pages_12 : decode cX1_pages 12 = .ok (.aload_n 0, 1) := dk_42 (dk_at dksX1_pages_0 12 rfl rfl)
theorem dX1_pages_13 : decode cX1_pages 13 = .ok (.getfield 16, 3) := dk_180 0 16 (dk_at dksX1_pages_0 13 rfl rfl)
theorem dX1_pages_16 : decode cX1_pages 16 = .ok (.iconst (-1), 1) := dk_2 (dk_at dksX1_pages_0 16 rfl rfl)
theorem dX1_pages_17 : decode cX1_pages 17 = .ok (.if_icmp .eq 7, 3) := dk_159 0 7 (dk_at dksX1_pages_0 17 rfl rfl)
theorem dX1_pages_20 : decode cX1_pages 20 = .ok (.iconst 1, 1) := dk_4 (dk_at dksX1_pages_0 20 rfl rfl)
theorem dX1_pages_21 : decode cX1_pages 21 = .ok (.goto 4, 3) := dk_167 0 4 (dk_at dksX1_pages_0 21 rfl rfl)
theorem dX1_pages_24 : decode cX1_pages 24 = .ok (.iconst 0, 1) := dk_3 (dk_at dksX1_pages_1 0 rfl rfl)
theorem dX1_pages_25 : decode cX1_pages 25 = .ok (.invokestatic 69, 3) := dk_184 0 69 (dk_at dksX1_pages_1 1 rfl rfl)
theorem dX1_pages_28 : decode cX1_pages 28 = .ok (.new 280, 3) := dk_187 1 24 (dk_at dksX1_pages_1 4 rfl rfl)
theorem dX1_pages_31 : decode cX1_pages 31 = .ok (.dup, 1) := dk_89 (dk_at dksX1_pages_1 7 rfl rfl)
theorem dX1_pages_32 : decode cX1_pages 32 = .ok (.aload_n 0, 1) := dk_42 (dk_at dksX1_pages_1 8 rfl rfl)
theorem dX1_pages_33 : decode cX1_pages 33 = .ok (.iload_n 1, 1) := dk_27 (dk_at dksX1_pages_1 9 rfl rfl)
theorem dX1_pages_34 : decode cX1_pages 34 = .ok (.invokespecial 282, 3) := dk_183 1 26 (dk_at dksX1_pages_1 10 rfl rfl)
theorem dX1_pages_37 : decode cX1_pages 37 = .ok (.getfield 285, 3) := dk_180 1 29 (dk_at dksX1_pages_1 13 rfl rfl)
theorem dX1_pages_40 : decode cX1_pages 40 = .ok (.iconst 1, 1) := dk_4 (dk_at dksX1_pages_1 16 rfl rfl)
theorem dX1_pages_41 : decode cX1_pages 41 = .ok (.iadd, 1) := dk_96 (dk_at dksX1_pages_1 17 rfl rfl)
theorem dX1_pages_42 : decode cX1_pages 42 = .ok (.ireturn, 1) := dk_172 (dk_at dksX1_pages_1 18 rfl rfl)
abbrev cX1_pageOf : ByteArray := prog_1_method_49_code
def yX1_pageOf : MethodName := ⟨RX1, "pageOf", "(III)I"⟩
def dkwX1_pageOf_4 : List UInt8 := [187, 0, 43, 89, 183, 0, 45, 191]
abbrev dktX1_pageOf_4 : List UInt8 := dkwX1_pageOf_4 ++ []
def dkwX1_pageOf_3 : List UInt8 := [182, 0, 72, 153, 0, 12, 25, 6, 182, 1, 40, 29, 160, 0, 9, 25, 6, 182, 1, 43, 172, 167, 255, 201]
abbrev dktX1_pageOf_3 : List UInt8 := dkwX1_pageOf_3 ++ dktX1_pageOf_4
def dkwX1_pageOf_2 : List UInt8 := [25, 5, 185, 0, 173, 1, 0, 192, 1, 35, 58, 6, 25, 6, 182, 1, 37, 25, 4, 166, 0, 26, 25, 4]
abbrev dktX1_pageOf_2 : List UInt8 := dkwX1_pageOf_2 ++ dktX1_pageOf_3
def dkwX1_pageOf_1 : List UInt8 := [27, 183, 1, 26, 180, 1, 32, 185, 0, 164, 1, 0, 58, 5, 25, 5, 185, 0, 168, 1, 0, 153, 0, 51]
abbrev dktX1_pageOf_1 : List UInt8 := dkwX1_pageOf_1 ++ dktX1_pageOf_2
def dkwX1_pageOf_0 : List UInt8 := [27, 16, 10, 17, 1, 144, 184, 0, 50, 184, 0, 66, 42, 28, 182, 0, 240, 58, 4, 187, 1, 24, 89, 42]
abbrev dktX1_pageOf_0 : List UInt8 := dkwX1_pageOf_0 ++ dktX1_pageOf_1
theorem dksX1_pageOf_0 : cX1_pageOf.data.toList.drop 0 = dktX1_pageOf_0 := by decide +kernel
theorem dksX1_pageOf_1 : cX1_pageOf.data.toList.drop 24 = dktX1_pageOf_1 := dk_seg dksX1_pageOf_0 24 rfl rfl
theorem dksX1_pageOf_2 : cX1_pageOf.data.toList.drop 48 = dktX1_pageOf_2 := dk_seg dksX1_pageOf_1 24 rfl rfl
theorem dksX1_pageOf_3 : cX1_pageOf.data.toList.drop 72 = dktX1_pageOf_3 := dk_seg dksX1_pageOf_2 24 rfl rfl
theorem dksX1_pageOf_4 : cX1_pageOf.data.toList.drop 96 = dktX1_pageOf_4 := dk_seg dksX1_pageOf_3 24 rfl rfl
theorem dX1_pageOf_0 : decode cX1_pageOf 0 = .ok (.iload_n 1, 1) := dk_27 (dk_at dksX1_pageOf_0 0 rfl rfl)
theorem dX1_pageOf_1 : decode cX1_pageOf 1 = .ok (.bipush 10, 2) := dk_16 10 (dk_at dksX1_pageOf_0 1 rfl rfl)
theorem dX1_pageOf_3 : decode cX1_pageOf 3 = .ok (.sipush 400, 3) := dk_17 1 144 (dk_at dksX1_pageOf_0 3 rfl rfl)
theorem dX1_pageOf_6 : decode cX1_pageOf 6 = .ok (.invokestatic 50, 3) := dk_184 0 50 (dk_at dksX1_pageOf_0 6 rfl rfl)
theorem dX1_pageOf_9 : decode cX1_pageOf 9 = .ok (.invokestatic 66, 3) := dk_184 0 66 (dk_at dksX1_pageOf_0 9 rfl rfl)
theorem dX1_pageOf_12 : decode cX1_pageOf 12 = .ok (.aload_n 0, 1) := dk_42 (dk_at dksX1_pageOf_0 12 rfl rfl)
theorem dX1_pageOf_13 : decode cX1_pageOf 13 = .ok (.iload_n 2, 1) := dk_28 (dk_at dksX1_pageOf_0 13 rfl rfl)
theorem dX1_pageOf_14 : decode cX1_pageOf 14 = .ok (.invokevirtual 240, 3) := dk_182 0 240 (dk_at dksX1_pageOf_0 14 rfl rfl)
theorem dX1_pageOf_17 : decode cX1_pageOf 17 = .ok (.astore 4, 2) := dk_58 4 (dk_at dksX1_pageOf_0 17 rfl rfl)
theorem dX1_pageOf_19 : decode cX1_pageOf 19 = .ok (.new 280, 3) := dk_187 1 24 (dk_at dksX1_pageOf_0 19 rfl rfl)
theorem dX1_pageOf_22 : decode cX1_pageOf 22 = .ok (.dup, 1) := dk_89 (dk_at dksX1_pageOf_0 22 rfl rfl)
theorem dX1_pageOf_23 : decode cX1_pageOf 23 = .ok (.aload_n 0, 1) := dk_42 (dk_at dksX1_pageOf_0 23 rfl rfl)
theorem dX1_pageOf_24 : decode cX1_pageOf 24 = .ok (.iload_n 1, 1) := dk_27 (dk_at dksX1_pageOf_1 0 rfl rfl)
theorem dX1_pageOf_25 : decode cX1_pageOf 25 = .ok (.invokespecial 282, 3) := dk_183 1 26 (dk_at dksX1_pageOf_1 1 rfl rfl)
theorem dX1_pageOf_28 : decode cX1_pageOf 28 = .ok (.getfield 288, 3) := dk_180 1 32 (dk_at dksX1_pageOf_1 4 rfl rfl)
theorem dX1_pageOf_31 : decode cX1_pageOf 31 = .ok (.invokeinterface 164 1, 5) := by decide +kernel
theorem dX1_pageOf_36 : decode cX1_pageOf 36 = .ok (.astore 5, 2) := dk_58 5 (dk_at dksX1_pageOf_1 12 rfl rfl)
theorem dX1_pageOf_38 : decode cX1_pageOf 38 = .ok (.aload 5, 2) := dk_25 5 (dk_at dksX1_pageOf_1 14 rfl rfl)
theorem dX1_pageOf_40 : decode cX1_pageOf 40 = .ok (.invokeinterface 168 1, 5) := by decide +kernel
theorem dX1_pageOf_45 : decode cX1_pageOf 45 = .ok (.ifCond .eq 51, 3) := dk_153 0 51 (dk_at dksX1_pageOf_1 21 rfl rfl)
theorem dX1_pageOf_48 : decode cX1_pageOf 48 = .ok (.aload 5, 2) := dk_25 5 (dk_at dksX1_pageOf_2 0 rfl rfl)
theorem dX1_pageOf_50 : decode cX1_pageOf 50 = .ok (.invokeinterface 173 1, 5) := by decide +kernel
theorem dX1_pageOf_55 : decode cX1_pageOf 55 = .ok (.checkcast 291, 3) := dk_192 1 35 (dk_at dksX1_pageOf_2 7 rfl rfl)
theorem dX1_pageOf_58 : decode cX1_pageOf 58 = .ok (.astore 6, 2) := dk_58 6 (dk_at dksX1_pageOf_2 10 rfl rfl)
theorem dX1_pageOf_60 : decode cX1_pageOf 60 = .ok (.aload 6, 2) := dk_25 6 (dk_at dksX1_pageOf_2 12 rfl rfl)
theorem dX1_pageOf_62 : decode cX1_pageOf 62 = .ok (.invokevirtual 293, 3) := dk_182 1 37 (dk_at dksX1_pageOf_2 14 rfl rfl)
theorem dX1_pageOf_65 : decode cX1_pageOf 65 = .ok (.aload 4, 2) := dk_25 4 (dk_at dksX1_pageOf_2 17 rfl rfl)
theorem dX1_pageOf_67 : decode cX1_pageOf 67 = .ok (.if_acmp .ne 26, 3) := dk_166 0 26 (dk_at dksX1_pageOf_2 19 rfl rfl)
theorem dX1_pageOf_70 : decode cX1_pageOf 70 = .ok (.aload 4, 2) := dk_25 4 (dk_at dksX1_pageOf_2 22 rfl rfl)
theorem dX1_pageOf_72 : decode cX1_pageOf 72 = .ok (.invokevirtual 72, 3) := dk_182 0 72 (dk_at dksX1_pageOf_3 0 rfl rfl)
theorem dX1_pageOf_75 : decode cX1_pageOf 75 = .ok (.ifCond .eq 12, 3) := dk_153 0 12 (dk_at dksX1_pageOf_3 3 rfl rfl)
theorem dX1_pageOf_78 : decode cX1_pageOf 78 = .ok (.aload 6, 2) := dk_25 6 (dk_at dksX1_pageOf_3 6 rfl rfl)
theorem dX1_pageOf_80 : decode cX1_pageOf 80 = .ok (.invokevirtual 296, 3) := dk_182 1 40 (dk_at dksX1_pageOf_3 8 rfl rfl)
theorem dX1_pageOf_83 : decode cX1_pageOf 83 = .ok (.iload_n 3, 1) := dk_29 (dk_at dksX1_pageOf_3 11 rfl rfl)
theorem dX1_pageOf_84 : decode cX1_pageOf 84 = .ok (.if_icmp .ne 9, 3) := dk_160 0 9 (dk_at dksX1_pageOf_3 12 rfl rfl)
theorem dX1_pageOf_87 : decode cX1_pageOf 87 = .ok (.aload 6, 2) := dk_25 6 (dk_at dksX1_pageOf_3 15 rfl rfl)
theorem dX1_pageOf_89 : decode cX1_pageOf 89 = .ok (.invokevirtual 299, 3) := dk_182 1 43 (dk_at dksX1_pageOf_3 17 rfl rfl)
theorem dX1_pageOf_92 : decode cX1_pageOf 92 = .ok (.ireturn, 1) := dk_172 (dk_at dksX1_pageOf_3 20 rfl rfl)
theorem dX1_pageOf_93 : decode cX1_pageOf 93 = .ok (.goto (-55), 3) := dk_167 255 201 (dk_at dksX1_pageOf_3 21 rfl rfl)
theorem dX1_pageOf_96 : decode cX1_pageOf 96 = .ok (.new 43, 3) := dk_187 0 43 (dk_at dksX1_pageOf_4 0 rfl rfl)
theorem dX1_pageOf_99 : decode cX1_pageOf 99 = .ok (.dup, 1) := dk_89 (dk_at dksX1_pageOf_4 3 rfl rfl)
theorem dX1_pageOf_100 : decode cX1_pageOf 100 = .ok (.invokespecial 45, 3) := dk_183 0 45 (dk_at dksX1_pageOf_4 4 rfl rfl)
theorem dX1_pageOf_103 : decode cX1_pageOf 103 = .ok (.athrow, 1) := dk_191 (dk_at dksX1_pageOf_4 7 rfl rfl)
abbrev cX1_area : ByteArray := prog_1_method_51_code
def yX1_area : MethodName := ⟨RX1, "area", "()J"⟩
def dkwX1_area_3 : List UInt8 := [167, 255, 214, 31, 173]
abbrev dktX1_area_3 : List UInt8 := dkwX1_area_3 ++ []
def dkwX1_area_2 : List UInt8 := [58, 4, 31, 25, 4, 180, 0, 249, 180, 0, 253, 133, 25, 4, 180, 0, 249, 180, 1, 0, 133, 105, 97, 64]
abbrev dktX1_area_2 : List UInt8 := dkwX1_area_2 ++ dktX1_area_3
def dkwX1_area_1 : List UInt8 := [185, 0, 164, 1, 0, 78, 45, 185, 0, 168, 1, 0, 153, 0, 39, 45, 185, 0, 173, 1, 0, 192, 0, 20]
abbrev dktX1_area_1 : List UInt8 := dkwX1_area_1 ++ dktX1_area_2
def dkwX1_area_0 : List UInt8 := [42, 180, 0, 16, 2, 159, 0, 7, 4, 167, 0, 4, 3, 184, 0, 69, 9, 64, 42, 180, 0, 10]
abbrev dktX1_area_0 : List UInt8 := dkwX1_area_0 ++ dktX1_area_1
theorem dksX1_area_0 : cX1_area.data.toList.drop 0 = dktX1_area_0 := by decide +kernel
theorem dksX1_area_1 : cX1_area.data.toList.drop 22 = dktX1_area_1 := dk_seg dksX1_area_0 22 rfl rfl
theorem dksX1_area_2 : cX1_area.data.toList.drop 46 = dktX1_area_2 := dk_seg dksX1_area_1 24 rfl rfl
theorem dksX1_area_3 : cX1_area.data.toList.drop 70 = dktX1_area_3 := dk_seg dksX1_area_2 24 rfl rfl
theorem dX1_area_0 : decode cX1_area 0 = .ok (.aload_n 0, 1) := dk_42 (dk_at dksX1_area_0 0 rfl rfl)
theorem dX1_area_1 : decode cX1_area 1 = .ok (.getfield 16, 3) := dk_180 0 16 (dk_at dksX1_area_0 1 rfl rfl)
theorem dX1_area_4 : decode cX1_area 4 = .ok (.iconst (-1), 1) := dk_2 (dk_at dksX1_area_0 4 rfl rfl)
theorem dX1_area_5 : decode cX1_area 5 = .ok (.if_icmp .eq 7, 3) := dk_159 0 7 (dk_at dksX1_area_0 5 rfl rfl)
theorem dX1_area_8 : decode cX1_area 8 = .ok (.iconst 1, 1) := dk_4 (dk_at dksX1_area_0 8 rfl rfl)
theorem dX1_area_9 : decode cX1_area 9 = .ok (.goto 4, 3) := dk_167 0 4 (dk_at dksX1_area_0 9 rfl rfl)
theorem dX1_area_12 : decode cX1_area 12 = .ok (.iconst 0, 1) := dk_3 (dk_at dksX1_area_0 12 rfl rfl)
theorem dX1_area_13 : decode cX1_area 13 = .ok (.invokestatic 69, 3) := dk_184 0 69 (dk_at dksX1_area_0 13 rfl rfl)
theorem dX1_area_16 : decode cX1_area 16 = .ok (.lconst 0, 1) := dk_9 (dk_at dksX1_area_0 16 rfl rfl)
theorem dX1_area_17 : decode cX1_area 17 = .ok (.lstore_n 1, 1) := dk_64 (dk_at dksX1_area_0 17 rfl rfl)
theorem dX1_area_18 : decode cX1_area 18 = .ok (.aload_n 0, 1) := dk_42 (dk_at dksX1_area_0 18 rfl rfl)
theorem dX1_area_19 : decode cX1_area 19 = .ok (.getfield 10, 3) := dk_180 0 10 (dk_at dksX1_area_0 19 rfl rfl)
theorem dX1_area_22 : decode cX1_area 22 = .ok (.invokeinterface 164 1, 5) := by decide +kernel
theorem dX1_area_27 : decode cX1_area 27 = .ok (.astore_n 3, 1) := dk_78 (dk_at dksX1_area_1 5 rfl rfl)
theorem dX1_area_28 : decode cX1_area 28 = .ok (.aload_n 3, 1) := dk_45 (dk_at dksX1_area_1 6 rfl rfl)
theorem dX1_area_29 : decode cX1_area 29 = .ok (.invokeinterface 168 1, 5) := by decide +kernel
theorem dX1_area_34 : decode cX1_area 34 = .ok (.ifCond .eq 39, 3) := dk_153 0 39 (dk_at dksX1_area_1 12 rfl rfl)
theorem dX1_area_37 : decode cX1_area 37 = .ok (.aload_n 3, 1) := dk_45 (dk_at dksX1_area_1 15 rfl rfl)
theorem dX1_area_38 : decode cX1_area 38 = .ok (.invokeinterface 173 1, 5) := by decide +kernel
theorem dX1_area_43 : decode cX1_area 43 = .ok (.checkcast 20, 3) := dk_192 0 20 (dk_at dksX1_area_1 21 rfl rfl)
theorem dX1_area_46 : decode cX1_area 46 = .ok (.astore 4, 2) := dk_58 4 (dk_at dksX1_area_2 0 rfl rfl)
theorem dX1_area_48 : decode cX1_area 48 = .ok (.lload_n 1, 1) := dk_31 (dk_at dksX1_area_2 2 rfl rfl)
theorem dX1_area_49 : decode cX1_area 49 = .ok (.aload 4, 2) := dk_25 4 (dk_at dksX1_area_2 3 rfl rfl)
theorem dX1_area_51 : decode cX1_area 51 = .ok (.getfield 249, 3) := dk_180 0 249 (dk_at dksX1_area_2 5 rfl rfl)
theorem dX1_area_54 : decode cX1_area 54 = .ok (.getfield 253, 3) := dk_180 0 253 (dk_at dksX1_area_2 8 rfl rfl)
theorem dX1_area_57 : decode cX1_area 57 = .ok (.i2l, 1) := dk_133 (dk_at dksX1_area_2 11 rfl rfl)
theorem dX1_area_58 : decode cX1_area 58 = .ok (.aload 4, 2) := dk_25 4 (dk_at dksX1_area_2 12 rfl rfl)
theorem dX1_area_60 : decode cX1_area 60 = .ok (.getfield 249, 3) := dk_180 0 249 (dk_at dksX1_area_2 14 rfl rfl)
theorem dX1_area_63 : decode cX1_area 63 = .ok (.getfield 256, 3) := dk_180 1 0 (dk_at dksX1_area_2 17 rfl rfl)
theorem dX1_area_66 : decode cX1_area 66 = .ok (.i2l, 1) := dk_133 (dk_at dksX1_area_2 20 rfl rfl)
theorem dX1_area_67 : decode cX1_area 67 = .ok (.lmul, 1) := dk_105 (dk_at dksX1_area_2 21 rfl rfl)
theorem dX1_area_68 : decode cX1_area 68 = .ok (.ladd, 1) := dk_97 (dk_at dksX1_area_2 22 rfl rfl)
theorem dX1_area_69 : decode cX1_area 69 = .ok (.lstore_n 1, 1) := dk_64 (dk_at dksX1_area_2 23 rfl rfl)
theorem dX1_area_70 : decode cX1_area 70 = .ok (.goto (-42), 3) := dk_167 255 214 (dk_at dksX1_area_3 0 rfl rfl)
theorem dX1_area_73 : decode cX1_area 73 = .ok (.lload_n 1, 1) := dk_31 (dk_at dksX1_area_3 3 rfl rfl)
theorem dX1_area_74 : decode cX1_area 74 = .ok (.lreturn, 1) := dk_173 (dk_at dksX1_area_3 4 rfl rfl)
abbrev cX1_filled : ByteArray := prog_1_method_52_code
def yX1_filled : MethodName := ⟨RX1, "filled", "()F"⟩
def dkwX1_filled_6 : List UInt8 := [134, 43, 180, 0, 253, 43, 180, 1, 0, 104, 134, 110, 174]
abbrev dktX1_filled_6 : List UInt8 := dkwX1_filled_6 ++ []
def dkwX1_filled_5 : List UInt8 := [43, 180, 0, 253, 43, 180, 1, 0, 104, 154, 0, 11, 187, 1, 45, 89, 183, 1, 47, 191, 16, 10, 28, 104]
abbrev dktX1_filled_5 : List UInt8 := dkwX1_filled_5 ++ dktX1_filled_6
def dkwX1_filled_4 : List UInt8 := [185, 0, 173, 1, 0, 192, 0, 95, 182, 0, 177, 54, 6, 28, 21, 6, 96, 61, 167, 255, 226, 167, 255, 191]
abbrev dktX1_filled_4 : List UInt8 := dkwX1_filled_4 ++ dktX1_filled_5
def dkwX1_filled_3 : List UInt8 := [180, 0, 91, 185, 0, 164, 1, 0, 58, 5, 25, 5, 185, 0, 168, 1, 0, 153, 0, 26, 25, 5]
abbrev dktX1_filled_3 : List UInt8 := dkwX1_filled_3 ++ dktX1_filled_4
def dkwX1_filled_2 : List UInt8 := [45, 185, 0, 168, 1, 0, 153, 0, 62, 45, 185, 0, 173, 1, 0, 192, 0, 20, 58, 4, 25, 4]
abbrev dktX1_filled_2 : List UInt8 := dkwX1_filled_2 ++ dktX1_filled_3
def dkwX1_filled_1 : List UInt8 := [185, 0, 58, 2, 0, 192, 0, 20, 180, 0, 249, 76, 3, 61, 42, 180, 0, 10, 185, 0, 164, 1, 0, 78]
abbrev dktX1_filled_1 : List UInt8 := dkwX1_filled_1 ++ dktX1_filled_2
def dkwX1_filled_0 : List UInt8 := [42, 180, 0, 16, 2, 159, 0, 7, 4, 167, 0, 4, 3, 184, 0, 69, 42, 180, 0, 10, 3]
abbrev dktX1_filled_0 : List UInt8 := dkwX1_filled_0 ++ dktX1_filled_1
theorem dksX1_filled_0 : cX1_filled.data.toList.drop 0 = dktX1_filled_0 := by decide +kernel
theorem dksX1_filled_1 : cX1_filled.data.toList.drop 21 = dktX1_filled_1 := dk_seg dksX1_filled_0 21 rfl rfl
theorem dksX1_filled_2 : cX1_filled.data.toList.drop 45 = dktX1_filled_2 := dk_seg dksX1_filled_1 24 rfl rfl
theorem dksX1_filled_3 : cX1_filled.data.toList.drop 67 = dktX1_filled_3 := dk_seg dksX1_filled_2 22 rfl rfl
theorem dksX1_filled_4 : cX1_filled.data.toList.drop 89 = dktX1_filled_4 := dk_seg dksX1_filled_3 22 rfl rfl
theorem dksX1_filled_5 : cX1_filled.data.toList.drop 113 = dktX1_filled_5 := dk_seg dksX1_filled_4 24 rfl rfl
theorem dksX1_filled_6 : cX1_filled.data.toList.drop 137 = dktX1_filled_6 := dk_seg dksX1_filled_5 24 rfl rfl
theorem dX1_filled_0 : decode cX1_filled 0 = .ok (.aload_n 0, 1) := dk_42 (dk_at dksX1_filled_0 0 rfl rfl)
theorem dX1_filled_1 : decode cX1_filled 1 = .ok (.getfield 16, 3) := dk_180 0 16 (dk_at dksX1_filled_0 1 rfl rfl)
theorem dX1_filled_4 : decode cX1_filled 4 = .ok (.iconst (-1), 1) := dk_2 (dk_at dksX1_filled_0 4 rfl rfl)
theorem dX1_filled_5 : decode cX1_filled 5 = .ok (.if_icmp .eq 7, 3) := dk_159 0 7 (dk_at dksX1_filled_0 5 rfl rfl)
theorem dX1_filled_8 : decode cX1_filled 8 = .ok (.iconst 1, 1) := dk_4 (dk_at dksX1_filled_0 8 rfl rfl)
theorem dX1_filled_9 : decode cX1_filled 9 = .ok (.goto 4, 3) := dk_167 0 4 (dk_at dksX1_filled_0 9 rfl rfl)
theorem dX1_filled_12 : decode cX1_filled 12 = .ok (.iconst 0, 1) := dk_3 (dk_at dksX1_filled_0 12 rfl rfl)
theorem dX1_filled_13 : decode cX1_filled 13 = .ok (.invokestatic 69, 3) := dk_184 0 69 (dk_at dksX1_filled_0 13 rfl rfl)
theorem dX1_filled_16 : decode cX1_filled 16 = .ok (.aload_n 0, 1) := dk_42 (dk_at dksX1_filled_0 16 rfl rfl)
theorem dX1_filled_17 : decode cX1_filled 17 = .ok (.getfield 10, 3) := dk_180 0 10 (dk_at dksX1_filled_0 17 rfl rfl)
theorem dX1_filled_20 : decode cX1_filled 20 = .ok (.iconst 0, 1) := dk_3 (dk_at dksX1_filled_0 20 rfl rfl)
theorem dX1_filled_21 : decode cX1_filled 21 = .ok (.invokeinterface 58 2, 5) := by decide +kernel
theorem dX1_filled_26 : decode cX1_filled 26 = .ok (.checkcast 20, 3) := dk_192 0 20 (dk_at dksX1_filled_1 5 rfl rfl)
theorem dX1_filled_29 : decode cX1_filled 29 = .ok (.getfield 249, 3) := dk_180 0 249 (dk_at dksX1_filled_1 8 rfl rfl)
theorem dX1_filled_32 : decode cX1_filled 32 = .ok (.astore_n 1, 1) := dk_76 (dk_at dksX1_filled_1 11 rfl rfl)
theorem dX1_filled_33 : decode cX1_filled 33 = .ok (.iconst 0, 1) := dk_3 (dk_at dksX1_filled_1 12 rfl rfl)
theorem dX1_filled_34 : decode cX1_filled 34 = .ok (.istore_n 2, 1) := dk_61 (dk_at dksX1_filled_1 13 rfl rfl)
theorem dX1_filled_35 : decode cX1_filled 35 = .ok (.aload_n 0, 1) := dk_42 (dk_at dksX1_filled_1 14 rfl rfl)
theorem dX1_filled_36 : decode cX1_filled 36 = .ok (.getfield 10, 3) := dk_180 0 10 (dk_at dksX1_filled_1 15 rfl rfl)
theorem dX1_filled_39 : decode cX1_filled 39 = .ok (.invokeinterface 164 1, 5) := by decide +kernel
theorem dX1_filled_44 : decode cX1_filled 44 = .ok (.astore_n 3, 1) := dk_78 (dk_at dksX1_filled_1 23 rfl rfl)
theorem dX1_filled_45 : decode cX1_filled 45 = .ok (.aload_n 3, 1) := dk_45 (dk_at dksX1_filled_2 0 rfl rfl)
theorem dX1_filled_46 : decode cX1_filled 46 = .ok (.invokeinterface 168 1, 5) := by decide +kernel
theorem dX1_filled_51 : decode cX1_filled 51 = .ok (.ifCond .eq 62, 3) := dk_153 0 62 (dk_at dksX1_filled_2 6 rfl rfl)
theorem dX1_filled_54 : decode cX1_filled 54 = .ok (.aload_n 3, 1) := dk_45 (dk_at dksX1_filled_2 9 rfl rfl)
theorem dX1_filled_55 : decode cX1_filled 55 = .ok (.invokeinterface 173 1, 5) := by decide +kernel
theorem dX1_filled_60 : decode cX1_filled 60 = .ok (.checkcast 20, 3) := dk_192 0 20 (dk_at dksX1_filled_2 15 rfl rfl)
theorem dX1_filled_63 : decode cX1_filled 63 = .ok (.astore 4, 2) := dk_58 4 (dk_at dksX1_filled_2 18 rfl rfl)
theorem dX1_filled_65 : decode cX1_filled 65 = .ok (.aload 4, 2) := dk_25 4 (dk_at dksX1_filled_2 20 rfl rfl)
theorem dX1_filled_67 : decode cX1_filled 67 = .ok (.getfield 91, 3) := dk_180 0 91 (dk_at dksX1_filled_3 0 rfl rfl)
theorem dX1_filled_70 : decode cX1_filled 70 = .ok (.invokeinterface 164 1, 5) := by decide +kernel
theorem dX1_filled_75 : decode cX1_filled 75 = .ok (.astore 5, 2) := dk_58 5 (dk_at dksX1_filled_3 8 rfl rfl)
theorem dX1_filled_77 : decode cX1_filled 77 = .ok (.aload 5, 2) := dk_25 5 (dk_at dksX1_filled_3 10 rfl rfl)
theorem dX1_filled_79 : decode cX1_filled 79 = .ok (.invokeinterface 168 1, 5) := by decide +kernel
theorem dX1_filled_84 : decode cX1_filled 84 = .ok (.ifCond .eq 26, 3) := dk_153 0 26 (dk_at dksX1_filled_3 17 rfl rfl)
theorem dX1_filled_87 : decode cX1_filled 87 = .ok (.aload 5, 2) := dk_25 5 (dk_at dksX1_filled_3 20 rfl rfl)
theorem dX1_filled_89 : decode cX1_filled 89 = .ok (.invokeinterface 173 1, 5) := by decide +kernel
theorem dX1_filled_94 : decode cX1_filled 94 = .ok (.checkcast 95, 3) := dk_192 0 95 (dk_at dksX1_filled_4 5 rfl rfl)
theorem dX1_filled_97 : decode cX1_filled 97 = .ok (.invokevirtual 177, 3) := dk_182 0 177 (dk_at dksX1_filled_4 8 rfl rfl)
theorem dX1_filled_100 : decode cX1_filled 100 = .ok (.istore 6, 2) := dk_54 6 (dk_at dksX1_filled_4 11 rfl rfl)
theorem dX1_filled_102 : decode cX1_filled 102 = .ok (.iload_n 2, 1) := dk_28 (dk_at dksX1_filled_4 13 rfl rfl)
theorem dX1_filled_103 : decode cX1_filled 103 = .ok (.iload 6, 2) := dk_21 6 (dk_at dksX1_filled_4 14 rfl rfl)
theorem dX1_filled_105 : decode cX1_filled 105 = .ok (.iadd, 1) := dk_96 (dk_at dksX1_filled_4 16 rfl rfl)
theorem dX1_filled_106 : decode cX1_filled 106 = .ok (.istore_n 2, 1) := dk_61 (dk_at dksX1_filled_4 17 rfl rfl)
theorem dX1_filled_107 : decode cX1_filled 107 = .ok (.goto (-30), 3) := dk_167 255 226 (dk_at dksX1_filled_4 18 rfl rfl)
theorem dX1_filled_110 : decode cX1_filled 110 = .ok (.goto (-65), 3) := dk_167 255 191 (dk_at dksX1_filled_4 21 rfl rfl)
theorem dX1_filled_113 : decode cX1_filled 113 = .ok (.aload_n 1, 1) := dk_43 (dk_at dksX1_filled_5 0 rfl rfl)
theorem dX1_filled_114 : decode cX1_filled 114 = .ok (.getfield 253, 3) := dk_180 0 253 (dk_at dksX1_filled_5 1 rfl rfl)
theorem dX1_filled_117 : decode cX1_filled 117 = .ok (.aload_n 1, 1) := dk_43 (dk_at dksX1_filled_5 4 rfl rfl)
theorem dX1_filled_118 : decode cX1_filled 118 = .ok (.getfield 256, 3) := dk_180 1 0 (dk_at dksX1_filled_5 5 rfl rfl)
theorem dX1_filled_121 : decode cX1_filled 121 = .ok (.imul, 1) := dk_104 (dk_at dksX1_filled_5 8 rfl rfl)
theorem dX1_filled_122 : decode cX1_filled 122 = .ok (.ifCond .ne 11, 3) := dk_154 0 11 (dk_at dksX1_filled_5 9 rfl rfl)
theorem dX1_filled_125 : decode cX1_filled 125 = .ok (.new 301, 3) := dk_187 1 45 (dk_at dksX1_filled_5 12 rfl rfl)
theorem dX1_filled_128 : decode cX1_filled 128 = .ok (.dup, 1) := dk_89 (dk_at dksX1_filled_5 15 rfl rfl)
theorem dX1_filled_129 : decode cX1_filled 129 = .ok (.invokespecial 303, 3) := dk_183 1 47 (dk_at dksX1_filled_5 16 rfl rfl)
theorem dX1_filled_132 : decode cX1_filled 132 = .ok (.athrow, 1) := dk_191 (dk_at dksX1_filled_5 19 rfl rfl)
theorem dX1_filled_133 : decode cX1_filled 133 = .ok (.bipush 10, 2) := dk_16 10 (dk_at dksX1_filled_5 20 rfl rfl)
theorem dX1_filled_135 : decode cX1_filled 135 = .ok (.iload_n 2, 1) := dk_28 (dk_at dksX1_filled_5 22 rfl rfl)
theorem dX1_filled_136 : decode cX1_filled 136 = .ok (.imul, 1) := dk_104 (dk_at dksX1_filled_5 23 rfl rfl)
theorem dX1_filled_137 : decode cX1_filled 137 = .ok (.i2f, 1) := dk_134 (dk_at dksX1_filled_6 0 rfl rfl)
theorem dX1_filled_138 : decode cX1_filled 138 = .ok (.aload_n 1, 1) := dk_43 (dk_at dksX1_filled_6 1 rfl rfl)
theorem dX1_filled_139 : decode cX1_filled 139 = .ok (.getfield 253, 3) := dk_180 0 253 (dk_at dksX1_filled_6 2 rfl rfl)
theorem dX1_filled_142 : decode cX1_filled 142 = .ok (.aload_n 1, 1) := dk_43 (dk_at dksX1_filled_6 5 rfl rfl)
theorem dX1_filled_143 : decode cX1_filled 143 = .ok (.getfield 256, 3) := dk_180 1 0 (dk_at dksX1_filled_6 6 rfl rfl)
theorem dX1_filled_146 : decode cX1_filled 146 = .ok (.imul, 1) := dk_104 (dk_at dksX1_filled_6 9 rfl rfl)
theorem dX1_filled_147 : decode cX1_filled 147 = .ok (.i2f, 1) := dk_134 (dk_at dksX1_filled_6 10 rfl rfl)
theorem dX1_filled_148 : decode cX1_filled 148 = .ok (.fdiv, 1) := dk_110 (dk_at dksX1_filled_6 11 rfl rfl)
theorem dX1_filled_149 : decode cX1_filled 149 = .ok (.freturn, 1) := dk_174 (dk_at dksX1_filled_6 12 rfl rfl)
abbrev cX1_meanLine : ByteArray := prog_1_method_53_code
def yX1_meanLine : MethodName := ⟨RX1, "meanLine", "()D"⟩
def dkwX1_meanLine_4 : List UInt8 := [27, 135, 111, 175]
abbrev dktX1_meanLine_4 : List UInt8 := dkwX1_meanLine_4 ++ []
def dkwX1_meanLine_3 : List UInt8 := [185, 0, 46, 1, 0, 96, 61, 167, 255, 207, 27, 154, 0, 11, 187, 1, 45, 89, 183, 1, 47, 191, 28, 135]
abbrev dktX1_meanLine_3 : List UInt8 := dkwX1_meanLine_3 ++ dktX1_meanLine_4
def dkwX1_meanLine_2 : List UInt8 := [58, 4, 27, 25, 4, 180, 0, 249, 180, 1, 1, 185, 0, 46, 1, 0, 96, 60, 28, 25, 4, 180, 0, 91]
abbrev dktX1_meanLine_2 : List UInt8 := dkwX1_meanLine_2 ++ dktX1_meanLine_3
def dkwX1_meanLine_1 : List UInt8 := [185, 0, 164, 1, 0, 78, 45, 185, 0, 168, 1, 0, 153, 0, 46, 45, 185, 0, 173, 1, 0, 192, 0, 20]
abbrev dktX1_meanLine_1 : List UInt8 := dkwX1_meanLine_1 ++ dktX1_meanLine_2
def dkwX1_meanLine_0 : List UInt8 := [42, 180, 0, 16, 2, 159, 0, 7, 4, 167, 0, 4, 3, 184, 0, 69, 3, 60, 3, 61, 42, 180, 0, 10]
abbrev dktX1_meanLine_0 : List UInt8 := dkwX1_meanLine_0 ++ dktX1_meanLine_1
theorem dksX1_meanLine_0 : cX1_meanLine.data.toList.drop 0 = dktX1_meanLine_0 := by decide +kernel
theorem dksX1_meanLine_1 : cX1_meanLine.data.toList.drop 24 = dktX1_meanLine_1 := dk_seg dksX1_meanLine_0 24 rfl rfl
theorem dksX1_meanLine_2 : cX1_meanLine.data.toList.drop 48 = dktX1_meanLine_2 := dk_seg dksX1_meanLine_1 24 rfl rfl
theorem dksX1_meanLine_3 : cX1_meanLine.data.toList.drop 72 = dktX1_meanLine_3 := dk_seg dksX1_meanLine_2 24 rfl rfl
theorem dksX1_meanLine_4 : cX1_meanLine.data.toList.drop 96 = dktX1_meanLine_4 := dk_seg dksX1_meanLine_3 24 rfl rfl
theorem dX1_meanLine_0 : decode cX1_meanLine 0 = .ok (.aload_n 0, 1) := dk_42 (dk_at dksX1_meanLine_0 0 rfl rfl)
theorem dX1_meanLine_1 : decode cX1_meanLine 1 = .ok (.getfield 16, 3) := dk_180 0 16 (dk_at dksX1_meanLine_0 1 rfl rfl)
theorem dX1_meanLine_4 : decode cX1_meanLine 4 = .ok (.iconst (-1), 1) := dk_2 (dk_at dksX1_meanLine_0 4 rfl rfl)
theorem dX1_meanLine_5 : decode cX1_meanLine 5 = .ok (.if_icmp .eq 7, 3) := dk_159 0 7 (dk_at dksX1_meanLine_0 5 rfl rfl)
theorem dX1_meanLine_8 : decode cX1_meanLine 8 = .ok (.iconst 1, 1) := dk_4 (dk_at dksX1_meanLine_0 8 rfl rfl)
theorem dX1_meanLine_9 : decode cX1_meanLine 9 = .ok (.goto 4, 3) := dk_167 0 4 (dk_at dksX1_meanLine_0 9 rfl rfl)
theorem dX1_meanLine_12 : decode cX1_meanLine 12 = .ok (.iconst 0, 1) := dk_3 (dk_at dksX1_meanLine_0 12 rfl rfl)
theorem dX1_meanLine_13 : decode cX1_meanLine 13 = .ok (.invokestatic 69, 3) := dk_184 0 69 (dk_at dksX1_meanLine_0 13 rfl rfl)
theorem dX1_meanLine_16 : decode cX1_meanLine 16 = .ok (.iconst 0, 1) := dk_3 (dk_at dksX1_meanLine_0 16 rfl rfl)
theorem dX1_meanLine_17 : decode cX1_meanLine 17 = .ok (.istore_n 1, 1) := dk_60 (dk_at dksX1_meanLine_0 17 rfl rfl)
theorem dX1_meanLine_18 : decode cX1_meanLine 18 = .ok (.iconst 0, 1) := dk_3 (dk_at dksX1_meanLine_0 18 rfl rfl)
theorem dX1_meanLine_19 : decode cX1_meanLine 19 = .ok (.istore_n 2, 1) := dk_61 (dk_at dksX1_meanLine_0 19 rfl rfl)
theorem dX1_meanLine_20 : decode cX1_meanLine 20 = .ok (.aload_n 0, 1) := dk_42 (dk_at dksX1_meanLine_0 20 rfl rfl)
theorem dX1_meanLine_21 : decode cX1_meanLine 21 = .ok (.getfield 10, 3) := dk_180 0 10 (dk_at dksX1_meanLine_0 21 rfl rfl)
theorem dX1_meanLine_24 : decode cX1_meanLine 24 = .ok (.invokeinterface 164 1, 5) := by decide +kernel
theorem dX1_meanLine_29 : decode cX1_meanLine 29 = .ok (.astore_n 3, 1) := dk_78 (dk_at dksX1_meanLine_1 5 rfl rfl)
theorem dX1_meanLine_30 : decode cX1_meanLine 30 = .ok (.aload_n 3, 1) := dk_45 (dk_at dksX1_meanLine_1 6 rfl rfl)
theorem dX1_meanLine_31 : decode cX1_meanLine 31 = .ok (.invokeinterface 168 1, 5) := by decide +kernel
theorem dX1_meanLine_36 : decode cX1_meanLine 36 = .ok (.ifCond .eq 46, 3) := dk_153 0 46 (dk_at dksX1_meanLine_1 12 rfl rfl)
theorem dX1_meanLine_39 : decode cX1_meanLine 39 = .ok (.aload_n 3, 1) := dk_45 (dk_at dksX1_meanLine_1 15 rfl rfl)
theorem dX1_meanLine_40 : decode cX1_meanLine 40 = .ok (.invokeinterface 173 1, 5) := by decide +kernel
theorem dX1_meanLine_45 : decode cX1_meanLine 45 = .ok (.checkcast 20, 3) := dk_192 0 20 (dk_at dksX1_meanLine_1 21 rfl rfl)
theorem dX1_meanLine_48 : decode cX1_meanLine 48 = .ok (.astore 4, 2) := dk_58 4 (dk_at dksX1_meanLine_2 0 rfl rfl)
theorem dX1_meanLine_50 : decode cX1_meanLine 50 = .ok (.iload_n 1, 1) := dk_27 (dk_at dksX1_meanLine_2 2 rfl rfl)
theorem dX1_meanLine_51 : decode cX1_meanLine 51 = .ok (.aload 4, 2) := dk_25 4 (dk_at dksX1_meanLine_2 3 rfl rfl)
theorem dX1_meanLine_53 : decode cX1_meanLine 53 = .ok (.getfield 249, 3) := dk_180 0 249 (dk_at dksX1_meanLine_2 5 rfl rfl)
theorem dX1_meanLine_56 : decode cX1_meanLine 56 = .ok (.getfield 257, 3) := dk_180 1 1 (dk_at dksX1_meanLine_2 8 rfl rfl)
theorem dX1_meanLine_59 : decode cX1_meanLine 59 = .ok (.invokeinterface 46 1, 5) := by decide +kernel
theorem dX1_meanLine_64 : decode cX1_meanLine 64 = .ok (.iadd, 1) := dk_96 (dk_at dksX1_meanLine_2 16 rfl rfl)
theorem dX1_meanLine_65 : decode cX1_meanLine 65 = .ok (.istore_n 1, 1) := dk_60 (dk_at dksX1_meanLine_2 17 rfl rfl)
theorem dX1_meanLine_66 : decode cX1_meanLine 66 = .ok (.iload_n 2, 1) := dk_28 (dk_at dksX1_meanLine_2 18 rfl rfl)
theorem dX1_meanLine_67 : decode cX1_meanLine 67 = .ok (.aload 4, 2) := dk_25 4 (dk_at dksX1_meanLine_2 19 rfl rfl)
theorem dX1_meanLine_69 : decode cX1_meanLine 69 = .ok (.getfield 91, 3) := dk_180 0 91 (dk_at dksX1_meanLine_2 21 rfl rfl)
theorem dX1_meanLine_72 : decode cX1_meanLine 72 = .ok (.invokeinterface 46 1, 5) := by decide +kernel
theorem dX1_meanLine_77 : decode cX1_meanLine 77 = .ok (.iadd, 1) := dk_96 (dk_at dksX1_meanLine_3 5 rfl rfl)
theorem dX1_meanLine_78 : decode cX1_meanLine 78 = .ok (.istore_n 2, 1) := dk_61 (dk_at dksX1_meanLine_3 6 rfl rfl)
theorem dX1_meanLine_79 : decode cX1_meanLine 79 = .ok (.goto (-49), 3) := dk_167 255 207 (dk_at dksX1_meanLine_3 7 rfl rfl)
theorem dX1_meanLine_82 : decode cX1_meanLine 82 = .ok (.iload_n 1, 1) := dk_27 (dk_at dksX1_meanLine_3 10 rfl rfl)
theorem dX1_meanLine_83 : decode cX1_meanLine 83 = .ok (.ifCond .ne 11, 3) := dk_154 0 11 (dk_at dksX1_meanLine_3 11 rfl rfl)
theorem dX1_meanLine_86 : decode cX1_meanLine 86 = .ok (.new 301, 3) := dk_187 1 45 (dk_at dksX1_meanLine_3 14 rfl rfl)
theorem dX1_meanLine_89 : decode cX1_meanLine 89 = .ok (.dup, 1) := dk_89 (dk_at dksX1_meanLine_3 17 rfl rfl)
theorem dX1_meanLine_90 : decode cX1_meanLine 90 = .ok (.invokespecial 303, 3) := dk_183 1 47 (dk_at dksX1_meanLine_3 18 rfl rfl)
theorem dX1_meanLine_93 : decode cX1_meanLine 93 = .ok (.athrow, 1) := dk_191 (dk_at dksX1_meanLine_3 21 rfl rfl)
theorem dX1_meanLine_94 : decode cX1_meanLine 94 = .ok (.iload_n 2, 1) := dk_28 (dk_at dksX1_meanLine_3 22 rfl rfl)
theorem dX1_meanLine_95 : decode cX1_meanLine 95 = .ok (.i2d, 1) := dk_135 (dk_at dksX1_meanLine_3 23 rfl rfl)
theorem dX1_meanLine_96 : decode cX1_meanLine 96 = .ok (.iload_n 1, 1) := dk_27 (dk_at dksX1_meanLine_4 0 rfl rfl)
theorem dX1_meanLine_97 : decode cX1_meanLine 97 = .ok (.i2d, 1) := dk_135 (dk_at dksX1_meanLine_4 1 rfl rfl)
theorem dX1_meanLine_98 : decode cX1_meanLine 98 = .ok (.ddiv, 1) := dk_111 (dk_at dksX1_meanLine_4 2 rfl rfl)
theorem dX1_meanLine_99 : decode cX1_meanLine 99 = .ok (.dreturn, 1) := dk_175 (dk_at dksX1_meanLine_4 3 rfl rfl)
theorem q53 : (Jvm.Cond.initialized "ColumnarPress") ∈ lw_all := lw_g (lw_at lw_m1 1 rfl) rfl
theorem q107 : (Jvm.Cond.instantiable "ColumnarPress" (3 : Nat)) ∈ lw_all := lw_g (lw_at lw_m1 55 rfl) rfl
theorem q109 : (Jvm.Cond.instanceMethod ({ cls := "ColumnarPress", name := "<init>", desc := "()V" } : Jvm.MethodName)) ∈ lw_all := lw_g (lw_at lw_m1 57 rfl) rfl
theorem q110 : (Jvm.Cond.code ({ cls := "ColumnarPress", name := "<init>", desc := "()V" } : Jvm.MethodName) prog_1_method_1_code (1 : Nat) (Option.none : Option Jvm.ClassFile.FieldType)) ∈ lw_all := lw_g (lw_at lw_m1 58 rfl) rfl
theorem q111 : (Jvm.Cond.methodLink "ColumnarPress" (1 : Nat) ({ cls := "java/lang/Object", name := "<init>", desc := "()V" } : Jvm.MethodName)) ∈ lw_all := lw_g (lw_at lw_m1 59 rfl) rfl
theorem q114 : (Jvm.Cond.classLink "ColumnarPress" (7 : Nat) "java/util/ArrayList") ∈ lw_all := lw_g (lw_at lw_m1 62 rfl) rfl
theorem q116 : (Jvm.Cond.methodLink "ColumnarPress" (9 : Nat) ({ cls := "java/util/ArrayList", name := "<init>", desc := "()V" } : Jvm.MethodName)) ∈ lw_all := lw_g (lw_at lw_m1 64 rfl) rfl
theorem q151 : (Jvm.Cond.classLink "ColumnarPress" (20 : Nat) "ColumnarPress$Box") ∈ lw_all := lw_g (lw_at lw_m1 99 rfl) rfl
theorem q153 : (Jvm.Cond.methodLink "ColumnarPress" (22 : Nat) ({ cls := "ColumnarPress$Box", name := "<init>", desc := "(LColumnarPress;LColumnarPress$Box;C)V" } : Jvm.MethodName)) ∈ lw_all := lw_g (lw_at lw_m1 101 rfl) rfl
theorem q201 : (Jvm.Cond.fieldLinkNest "ColumnarPress" (253 : Nat) "ColumnarPress$Placed" "width" "I" "ColumnarPress") ∈ lw_tbl := lw_at lw_m1 149 rfl
theorem q206 : (Jvm.Cond.fieldLinkNest "ColumnarPress" (256 : Nat) "ColumnarPress$Placed" "height" "I" "ColumnarPress") ∈ lw_tbl := lw_at lw_m1 154 rfl
theorem q211 : (Jvm.Cond.fieldLinkNest "ColumnarPress" (257 : Nat) "ColumnarPress$Placed" "lines" "Ljava/util/List;" "ColumnarPress") ∈ lw_tbl := lw_at lw_m1 159 rfl
theorem q227 : (Jvm.Cond.fieldLinkNest "ColumnarPress" (88 : Nat) "ColumnarPress$Box" "number" "I" "ColumnarPress") ∈ lw_tbl := lw_at lw_m1 175 rfl
theorem q232 : (Jvm.Cond.fieldLinkNest "ColumnarPress" (210 : Nat) "ColumnarPress$Box" "kind" "C" "ColumnarPress") ∈ lw_tbl := lw_at lw_m1 180 rfl
theorem q234 : (Jvm.Cond.fieldLinkNest "ColumnarPress" (76 : Nat) "ColumnarPress$Box" "deep" "I" "ColumnarPress") ∈ lw_tbl := lw_at lw_m1 182 rfl
theorem q238 : (Jvm.Cond.fieldLinkNest "ColumnarPress" (82 : Nat) "ColumnarPress$Box" "children" "Ljava/util/List;" "ColumnarPress") ∈ lw_tbl := lw_at lw_m1 186 rfl
theorem q241 : (Jvm.Cond.fieldLinkNest "ColumnarPress" (91 : Nat) "ColumnarPress$Box" "words" "Ljava/util/List;" "ColumnarPress") ∈ lw_tbl := lw_at lw_m1 189 rfl
theorem q243 : (Jvm.Cond.fieldLinkNest "ColumnarPress" (100 : Nat) "ColumnarPress$Box" "width" "I" "ColumnarPress") ∈ lw_tbl := lw_at lw_m1 191 rfl
theorem q247 : (Jvm.Cond.fieldLinkNest "ColumnarPress" (103 : Nat) "ColumnarPress$Box" "height" "I" "ColumnarPress") ∈ lw_tbl := lw_at lw_m1 195 rfl
theorem q249 : (Jvm.Cond.fieldLinkNest "ColumnarPress" (110 : Nat) "ColumnarPress$Box" "top" "I" "ColumnarPress") ∈ lw_tbl := lw_at lw_m1 197 rfl
theorem q251 : (Jvm.Cond.fieldLinkNest "ColumnarPress" (113 : Nat) "ColumnarPress$Box" "bottom" "I" "ColumnarPress") ∈ lw_tbl := lw_at lw_m1 199 rfl
theorem q254 : (Jvm.Cond.fieldLinkNest "ColumnarPress" (116 : Nat) "ColumnarPress$Box" "left" "I" "ColumnarPress") ∈ lw_tbl := lw_at lw_m1 202 rfl
theorem q256 : (Jvm.Cond.fieldLinkNest "ColumnarPress" (119 : Nat) "ColumnarPress$Box" "right" "I" "ColumnarPress") ∈ lw_tbl := lw_at lw_m1 204 rfl
theorem q260 : (Jvm.Cond.fieldLinkNest "ColumnarPress" (122 : Nat) "ColumnarPress$Box" "padding" "I" "ColumnarPress") ∈ lw_tbl := lw_at lw_m1 208 rfl
theorem q263 : (Jvm.Cond.fieldLinkNest "ColumnarPress" (125 : Nat) "ColumnarPress$Box" "grow" "I" "ColumnarPress") ∈ lw_tbl := lw_at lw_m1 211 rfl
theorem q266 : (Jvm.Cond.fieldLinkNest "ColumnarPress" (128 : Nat) "ColumnarPress$Box" "shrink" "I" "ColumnarPress") ∈ lw_tbl := lw_at lw_m1 214 rfl
theorem q268 : (Jvm.Cond.fieldLinkNest "ColumnarPress" (131 : Nat) "ColumnarPress$Box" "columns" "I" "ColumnarPress") ∈ lw_tbl := lw_at lw_m1 216 rfl
theorem q271 : (Jvm.Cond.fieldLinkNest "ColumnarPress" (134 : Nat) "ColumnarPress$Box" "side" "C" "ColumnarPress") ∈ lw_tbl := lw_at lw_m1 219 rfl
theorem q273 : (Jvm.Cond.fieldLinkNest "ColumnarPress" (142 : Nat) "ColumnarPress$Box" "place" "C" "ColumnarPress") ∈ lw_tbl := lw_at lw_m1 221 rfl
theorem q275 : (Jvm.Cond.fieldLinkNest "ColumnarPress" (145 : Nat) "ColumnarPress$Box" "offsetX" "I" "ColumnarPress") ∈ lw_tbl := lw_at lw_m1 223 rfl
theorem q277 : (Jvm.Cond.fieldLinkNest "ColumnarPress" (148 : Nat) "ColumnarPress$Box" "offsetY" "I" "ColumnarPress") ∈ lw_tbl := lw_at lw_m1 225 rfl
theorem q279 : (Jvm.Cond.fieldLinkNest "ColumnarPress" (151 : Nat) "ColumnarPress$Box" "depth" "I" "ColumnarPress") ∈ lw_tbl := lw_at lw_m1 227 rfl
theorem q281 : (Jvm.Cond.fieldLinkNest "ColumnarPress" (154 : Nat) "ColumnarPress$Box" "clears" "Z" "ColumnarPress") ∈ lw_tbl := lw_at lw_m1 229 rfl
theorem q284 : (Jvm.Cond.fieldLinkNest "ColumnarPress" (158 : Nat) "ColumnarPress$Box" "breaks" "C" "ColumnarPress") ∈ lw_tbl := lw_at lw_m1 232 rfl
theorem q287 : (Jvm.Cond.fieldLinkNest "ColumnarPress" (161 : Nat) "ColumnarPress$Box" "alignment" "C" "ColumnarPress") ∈ lw_tbl := lw_at lw_m1 235 rfl
theorem q292 : (Jvm.Cond.fieldLinkNest "ColumnarPress" (249 : Nat) "ColumnarPress$Box" "placed" "LColumnarPress$Placed;" "ColumnarPress") ∈ lw_tbl := lw_at lw_m2 0 rfl
theorem q351 : (Jvm.Cond.interfaceEntry "ColumnarPress" (25 : Nat)) ∈ lw_tbl := lw_at lw_m2 59 rfl
theorem q352 : (Jvm.Cond.methodLink "ColumnarPress" (25 : Nat) ({ cls := "java/util/List", name := "add", desc := "(Ljava/lang/Object;)Z" } : Jvm.MethodName)) ∈ lw_all := lw_g (lw_at lw_m2 60 rfl) rfl
theorem q388 : (Jvm.Cond.selects "ColumnarPress" ({ cls := "java/lang/Object", name := "getClass", desc := "()Ljava/lang/Class;" } : Jvm.MethodName) ({ cls := "java/lang/Object", name := "getClass", desc := "()Ljava/lang/Class;" } : Jvm.MethodName)) ∈ lw_all := lw_g (lw_at lw_m2 96 rfl) rfl
theorem q806 : (Jvm.Cond.fieldLink "ColumnarPress" (10 : Nat) "ColumnarPress" "boxes" "Ljava/util/List;") ∈ lw_all := lw_g (lw_at lw_m4 34 rfl) rfl
theorem q810 : (Jvm.Cond.fieldLink "ColumnarPress" (16 : Nat) "ColumnarPress" "laidWidth" "I") ∈ lw_all := lw_g (lw_at lw_m4 38 rfl) rfl
theorem q812 : (Jvm.Cond.fieldLink "ColumnarPress" (234 : Nat) "ColumnarPress" "contexts" "I") ∈ lw_all := lw_g (lw_at lw_m4 40 rfl) rfl
theorem q813 : (Jvm.Cond.laysFinal "ColumnarPress" "ColumnarPress" "boxes" "Ljava/util/List;") ∈ lw_all := lw_g (lw_at lw_m4 41 rfl) rfl
theorem q814 : (Jvm.Cond.soleField "ColumnarPress" "boxes") ∈ lw_all := lw_g (lw_at lw_m4 42 rfl) rfl
theorem q815 : (Jvm.Cond.lays "ColumnarPress" "ColumnarPress" "laidWidth" "I") ∈ lw_all := lw_g (lw_at lw_m4 43 rfl) rfl
theorem q816 : (Jvm.Cond.soleField "ColumnarPress" "laidWidth") ∈ lw_all := lw_g (lw_at lw_m4 44 rfl) rfl
theorem q817 : (Jvm.Cond.lays "ColumnarPress" "ColumnarPress" "contexts" "I") ∈ lw_all := lw_g (lw_at lw_m4 45 rfl) rfl
theorem q818 : (Jvm.Cond.soleField "ColumnarPress" "contexts") ∈ lw_all := lw_g (lw_at lw_m4 46 rfl) rfl
theorem q819 : (Jvm.Cond.superclass "ColumnarPress" "java/lang/Object") ∈ lw_all := lw_g (lw_at lw_m4 47 rfl) rfl
theorem q821 : (Jvm.Cond.instanceMethod ({ cls := "ColumnarPress", name := "contexts", desc := "()I" } : Jvm.MethodName)) ∈ lw_all := lw_g (lw_at lw_m4 49 rfl) rfl
theorem q822 : (Jvm.Cond.selects "ColumnarPress" ({ cls := "ColumnarPress", name := "contexts", desc := "()I" } : Jvm.MethodName) ({ cls := "ColumnarPress", name := "contexts", desc := "()I" } : Jvm.MethodName)) ∈ lw_all := lw_g (lw_at lw_m4 50 rfl) rfl
theorem q823 : (Jvm.Cond.code ({ cls := "ColumnarPress", name := "contexts", desc := "()I" } : Jvm.MethodName) prog_1_method_50_code (1 : Nat) (Option.some Jvm.ClassFile.FieldType.int)) ∈ lw_all := lw_g (lw_at lw_m4 51 rfl) rfl
theorem q825 : (Jvm.Cond.instanceMethod ({ cls := "ColumnarPress", name := "isConsistent", desc := "()Z" } : Jvm.MethodName)) ∈ lw_all := lw_g (lw_at lw_m4 53 rfl) rfl
theorem q826 : (Jvm.Cond.selects "ColumnarPress" ({ cls := "ColumnarPress", name := "isConsistent", desc := "()Z" } : Jvm.MethodName) ({ cls := "ColumnarPress", name := "isConsistent", desc := "()Z" } : Jvm.MethodName)) ∈ lw_all := lw_g (lw_at lw_m4 54 rfl) rfl
theorem q827 : (Jvm.Cond.code ({ cls := "ColumnarPress", name := "isConsistent", desc := "()Z" } : Jvm.MethodName) prog_1_method_54_code (10 : Nat) (Option.some Jvm.ClassFile.FieldType.boolean)) ∈ lw_all := lw_g (lw_at lw_m4 55 rfl) rfl
theorem q828 : (Jvm.Cond.interfaceEntry "ColumnarPress" (164 : Nat)) ∈ lw_tbl := lw_at lw_m4 56 rfl
theorem q829 : (Jvm.Cond.methodLink "ColumnarPress" (164 : Nat) ({ cls := "java/util/List", name := "iterator", desc := "()Ljava/util/Iterator;" } : Jvm.MethodName)) ∈ lw_all := lw_g (lw_at lw_m4 57 rfl) rfl
theorem q915 : (Jvm.Cond.interfaceEntry "ColumnarPress" (168 : Nat)) ∈ lw_tbl := lw_at lw_m4 143 rfl
theorem q916 : (Jvm.Cond.methodLink "ColumnarPress" (168 : Nat) ({ cls := "java/util/Iterator", name := "hasNext", desc := "()Z" } : Jvm.MethodName)) ∈ lw_all := lw_g (lw_at lw_m4 144 rfl) rfl
theorem q941 : (Jvm.Cond.interfaceEntry "ColumnarPress" (173 : Nat)) ∈ lw_tbl := lw_at lw_m4 169 rfl
theorem q942 : (Jvm.Cond.methodLink "ColumnarPress" (173 : Nat) ({ cls := "java/util/Iterator", name := "next", desc := "()Ljava/lang/Object;" } : Jvm.MethodName)) ∈ lw_all := lw_g (lw_at lw_m4 170 rfl) rfl
theorem q1079 : (Jvm.Cond.classLink "ColumnarPress" (254 : Nat) "ColumnarPress$Placed") ∈ lw_all := lw_g (lw_at lw_m5 67 rfl) rfl
theorem q1080 : (Jvm.Cond.methodLinkNest "ColumnarPress" (304 : Nat) ({ cls := "ColumnarPress$Placed", name := "<init>", desc := "()V" } : Jvm.MethodName) "ColumnarPress") ∈ lw_tbl := lw_at lw_m5 68 rfl
theorem q1081 : (Jvm.Cond.classLink "ColumnarPress" (225 : Nat) "ColumnarPress$Layout") ∈ lw_all := lw_g (lw_at lw_m5 69 rfl) rfl
theorem q1083 : (Jvm.Cond.methodLink "ColumnarPress" (227 : Nat) ({ cls := "ColumnarPress$Layout", name := "<init>", desc := "(LColumnarPress;Z)V" } : Jvm.MethodName)) ∈ lw_all := lw_g (lw_at lw_m5 71 rfl) rfl
theorem q1089 : (Jvm.Cond.fieldLinkNest "ColumnarPress" (237 : Nat) "ColumnarPress$Layout" "count" "I" "ColumnarPress") ∈ lw_tbl := lw_at lw_m5 77 rfl
theorem q1098 : (Jvm.Cond.methodLink "ColumnarPress" (230 : Nat) ({ cls := "ColumnarPress$Layout", name := "layAll", desc := "(I)V" } : Jvm.MethodName)) ∈ lw_all := lw_g (lw_at lw_m5 86 rfl) rfl
theorem q1122 : (Jvm.Cond.static ({ cls := "ColumnarPress", name := "items", desc := "(LColumnarPress$Box;)Ljava/util/List;" } : Jvm.MethodName)) ∈ lw_all := lw_g (lw_at lw_m5 110 rfl) rfl
theorem q1123 : (Jvm.Cond.code ({ cls := "ColumnarPress", name := "items", desc := "(LColumnarPress$Box;)Ljava/util/List;" } : Jvm.MethodName) prog_1_method_26_code (4 : Nat) (Option.some (Jvm.ClassFile.FieldType.object "java/util/List"))) ∈ lw_all := lw_g (lw_at lw_m5 111 rfl) rfl
theorem q1124 : (Jvm.Cond.methodLink "ColumnarPress" (186 : Nat) ({ cls := "ColumnarPress$Box", name := "isLifted", desc := "()Z" } : Jvm.MethodName)) ∈ lw_all := lw_g (lw_at lw_m5 112 rfl) rfl
theorem q1140 : (Jvm.Cond.static ({ cls := "ColumnarPress", name := "contentWidth", desc := "(LColumnarPress$Box;Z)I" } : Jvm.MethodName)) ∈ lw_all := lw_g (lw_at lw_m5 128 rfl) rfl
theorem q1141 : (Jvm.Cond.code ({ cls := "ColumnarPress", name := "contentWidth", desc := "(LColumnarPress$Box;Z)I" } : Jvm.MethodName) prog_1_method_30_code (3 : Nat) (Option.some Jvm.ClassFile.FieldType.int)) ∈ lw_all := lw_g (lw_at lw_m5 129 rfl) rfl
theorem q1142 : (Jvm.Cond.methodLink "ColumnarPress" (204 : Nat) ({ cls := "ColumnarPress$Box", name := "told", desc := "()I" } : Jvm.MethodName)) ∈ lw_all := lw_g (lw_at lw_m5 130 rfl) rfl
theorem q1146 : (Jvm.Cond.methodLink "ColumnarPress" (72 : Nat) ({ cls := "ColumnarPress$Box", name := "isText", desc := "()Z" } : Jvm.MethodName)) ∈ lw_all := lw_g (lw_at lw_m5 134 rfl) rfl
theorem q1150 : (Jvm.Cond.methodLink "ColumnarPress" (207 : Nat) ({ cls := "ColumnarPress", name := "textWidth", desc := "(LColumnarPress$Box;Z)I" } : Jvm.MethodName)) ∈ lw_all := lw_g (lw_at lw_m5 138 rfl) rfl
theorem q1151 : (Jvm.Cond.static ({ cls := "ColumnarPress", name := "textWidth", desc := "(LColumnarPress$Box;Z)I" } : Jvm.MethodName)) ∈ lw_all := lw_g (lw_at lw_m5 139 rfl) rfl
theorem q1152 : (Jvm.Cond.code ({ cls := "ColumnarPress", name := "textWidth", desc := "(LColumnarPress$Box;Z)I" } : Jvm.MethodName) prog_1_method_24_code (6 : Nat) (Option.some Jvm.ClassFile.FieldType.int)) ∈ lw_all := lw_g (lw_at lw_m5 140 rfl) rfl
theorem q1153 : (Jvm.Cond.classLink "ColumnarPress" (95 : Nat) "java/lang/Integer") ∈ lw_all := lw_g (lw_at lw_m5 141 rfl) rfl
theorem q1154 : (Jvm.Cond.methodLink "ColumnarPress" (177 : Nat) ({ cls := "java/lang/Integer", name := "intValue", desc := "()I" } : Jvm.MethodName)) ∈ lw_all := lw_g (lw_at lw_m5 142 rfl) rfl
theorem q1158 : (Jvm.Cond.methodLink "ColumnarPress" (180 : Nat) ({ cls := "java/lang/Math", name := "max", desc := "(II)I" } : Jvm.MethodName)) ∈ lw_all := lw_g (lw_at lw_m5 146 rfl) rfl
theorem q1159 : (Jvm.Cond.methodLink "ColumnarPress" (213 : Nat) ({ cls := "ColumnarPress", name := "blockWidth", desc := "(LColumnarPress$Box;Z)I" } : Jvm.MethodName)) ∈ lw_all := lw_g (lw_at lw_m5 147 rfl) rfl
theorem q1160 : (Jvm.Cond.static ({ cls := "ColumnarPress", name := "blockWidth", desc := "(LColumnarPress$Box;Z)I" } : Jvm.MethodName)) ∈ lw_all := lw_g (lw_at lw_m5 148 rfl) rfl
theorem q1161 : (Jvm.Cond.code ({ cls := "ColumnarPress", name := "blockWidth", desc := "(LColumnarPress$Box;Z)I" } : Jvm.MethodName) prog_1_method_25_code (5 : Nat) (Option.some Jvm.ClassFile.FieldType.int)) ∈ lw_all := lw_g (lw_at lw_m5 149 rfl) rfl
theorem q1162 : (Jvm.Cond.methodLink "ColumnarPress" (189 : Nat) ({ cls := "ColumnarPress", name := "contentWidth", desc := "(LColumnarPress$Box;Z)I" } : Jvm.MethodName)) ∈ lw_all := lw_g (lw_at lw_m5 150 rfl) rfl
theorem q1163 : (Jvm.Cond.methodLink "ColumnarPress" (193 : Nat) ({ cls := "ColumnarPress$Box", name := "sides", desc := "()I" } : Jvm.MethodName)) ∈ lw_all := lw_g (lw_at lw_m5 151 rfl) rfl
theorem q1167 : (Jvm.Cond.methodLink "ColumnarPress" (216 : Nat) ({ cls := "ColumnarPress", name := "rowWidth", desc := "(LColumnarPress$Box;Z)I" } : Jvm.MethodName)) ∈ lw_all := lw_g (lw_at lw_m5 155 rfl) rfl
theorem q1168 : (Jvm.Cond.static ({ cls := "ColumnarPress", name := "rowWidth", desc := "(LColumnarPress$Box;Z)I" } : Jvm.MethodName)) ∈ lw_all := lw_g (lw_at lw_m5 156 rfl) rfl
theorem q1169 : (Jvm.Cond.code ({ cls := "ColumnarPress", name := "rowWidth", desc := "(LColumnarPress$Box;Z)I" } : Jvm.MethodName) prog_1_method_27_code (5 : Nat) (Option.some Jvm.ClassFile.FieldType.int)) ∈ lw_all := lw_g (lw_at lw_m5 157 rfl) rfl
theorem q1170 : (Jvm.Cond.methodLink "ColumnarPress" (196 : Nat) ({ cls := "ColumnarPress", name := "items", desc := "(LColumnarPress$Box;)Ljava/util/List;" } : Jvm.MethodName)) ∈ lw_all := lw_g (lw_at lw_m5 158 rfl) rfl
theorem q1171 : (Jvm.Cond.methodLink "ColumnarPress" (219 : Nat) ({ cls := "ColumnarPress", name := "gridWidth", desc := "(LColumnarPress$Box;Z)I" } : Jvm.MethodName)) ∈ lw_all := lw_g (lw_at lw_m5 159 rfl) rfl
theorem q1172 : (Jvm.Cond.static ({ cls := "ColumnarPress", name := "gridWidth", desc := "(LColumnarPress$Box;Z)I" } : Jvm.MethodName)) ∈ lw_all := lw_g (lw_at lw_m5 160 rfl) rfl
theorem q1173 : (Jvm.Cond.code ({ cls := "ColumnarPress", name := "gridWidth", desc := "(LColumnarPress$Box;Z)I" } : Jvm.MethodName) prog_1_method_29_code (7 : Nat) (Option.some Jvm.ClassFile.FieldType.int)) ∈ lw_all := lw_g (lw_at lw_m5 161 rfl) rfl
theorem q1174 : (Jvm.Cond.methodLink "ColumnarPress" (200 : Nat) ({ cls := "ColumnarPress", name := "columnWidths", desc := "(LColumnarPress$Box;Z)[I" } : Jvm.MethodName)) ∈ lw_all := lw_g (lw_at lw_m5 162 rfl) rfl
theorem q1175 : (Jvm.Cond.static ({ cls := "ColumnarPress", name := "columnWidths", desc := "(LColumnarPress$Box;Z)[I" } : Jvm.MethodName)) ∈ lw_all := lw_g (lw_at lw_m5 163 rfl) rfl
theorem q1176 : (Jvm.Cond.code ({ cls := "ColumnarPress", name := "columnWidths", desc := "(LColumnarPress$Box;Z)[I" } : Jvm.MethodName) prog_1_method_28_code (6 : Nat) (Option.some (Jvm.ClassFile.FieldType.array Jvm.ClassFile.FieldType.int))) ∈ lw_all := lw_g (lw_at lw_m5 164 rfl) rfl
theorem q1177 : (Jvm.Cond.interfaceEntry "ColumnarPress" (46 : Nat)) ∈ lw_tbl := lw_at lw_m5 165 rfl
theorem q1178 : (Jvm.Cond.methodLink "ColumnarPress" (46 : Nat) ({ cls := "java/util/List", name := "size", desc := "()I" } : Jvm.MethodName)) ∈ lw_all := lw_g (lw_at lw_m5 166 rfl) rfl
theorem q1179 : (Jvm.Cond.interfaceEntry "ColumnarPress" (58 : Nat)) ∈ lw_tbl := lw_at lw_m5 167 rfl
theorem q1180 : (Jvm.Cond.methodLink "ColumnarPress" (58 : Nat) ({ cls := "java/util/List", name := "get", desc := "(I)Ljava/lang/Object;" } : Jvm.MethodName)) ∈ lw_all := lw_g (lw_at lw_m5 168 rfl) rfl
theorem q1514 : (Jvm.Cond.static ({ cls := "ColumnarPress", name := "fitting", desc := "(LColumnarPress$Box;I)I" } : Jvm.MethodName)) ∈ lw_all := lw_g (lw_at lw_m7 22 rfl) rfl
theorem q1515 : (Jvm.Cond.code ({ cls := "ColumnarPress", name := "fitting", desc := "(LColumnarPress$Box;I)I" } : Jvm.MethodName) prog_1_method_31_code (2 : Nat) (Option.some Jvm.ClassFile.FieldType.int)) ∈ lw_all := lw_g (lw_at lw_m7 23 rfl) rfl
theorem q1516 : (Jvm.Cond.methodLink "ColumnarPress" (222 : Nat) ({ cls := "java/lang/Math", name := "min", desc := "(II)I" } : Jvm.MethodName)) ∈ lw_all := lw_g (lw_at lw_m7 24 rfl) rfl
theorem q1588 : (Jvm.Cond.classLink "ColumnarPress" (267 : Nat) "ColumnarPress$Line") ∈ lw_all := lw_g (lw_at lw_m7 96 rfl) rfl
theorem q1589 : (Jvm.Cond.methodLink "ColumnarPress" (273 : Nat) ({ cls := "ColumnarPress$Line", name := "words", desc := "()I" } : Jvm.MethodName)) ∈ lw_all := lw_g (lw_at lw_m7 97 rfl) rfl
theorem q1590 : (Jvm.Cond.methodLink "ColumnarPress" (305 : Nat) ({ cls := "ColumnarPress$Placed", name := "isLike", desc := "(LColumnarPress$Placed;)Z" } : Jvm.MethodName)) ∈ lw_all := lw_g (lw_at lw_m7 98 rfl) rfl
theorem q1626 : (Jvm.Cond.instanceMethod ({ cls := "ColumnarPress", name := "add", desc := "(IC)I" } : Jvm.MethodName)) ∈ lw_all := lw_g (lw_at lw_m7 134 rfl) rfl
theorem q1627 : (Jvm.Cond.selects "ColumnarPress" ({ cls := "ColumnarPress", name := "add", desc := "(IC)I" } : Jvm.MethodName) ({ cls := "ColumnarPress", name := "add", desc := "(IC)I" } : Jvm.MethodName)) ∈ lw_all := lw_g (lw_at lw_m7 135 rfl) rfl
theorem q1628 : (Jvm.Cond.code ({ cls := "ColumnarPress", name := "add", desc := "(IC)I" } : Jvm.MethodName) prog_1_method_9_code (5 : Nat) (Option.some Jvm.ClassFile.FieldType.int)) ∈ lw_all := lw_g (lw_at lw_m7 136 rfl) rfl
theorem q1629 : (Jvm.Cond.methodLink "ColumnarPress" (62 : Nat) ({ cls := "ColumnarPress", name := "box", desc := "(I)LColumnarPress$Box;" } : Jvm.MethodName)) ∈ lw_all := lw_g (lw_at lw_m7 137 rfl) rfl
theorem q1630 : (Jvm.Cond.privateMethod ({ cls := "ColumnarPress", name := "box", desc := "(I)LColumnarPress$Box;" } : Jvm.MethodName)) ∈ lw_tbl := lw_at lw_m7 138 rfl
theorem q1631 : (Jvm.Cond.instanceMethod ({ cls := "ColumnarPress", name := "box", desc := "(I)LColumnarPress$Box;" } : Jvm.MethodName)) ∈ lw_all := lw_g (lw_at lw_m7 139 rfl) rfl
theorem q1632 : (Jvm.Cond.code ({ cls := "ColumnarPress", name := "box", desc := "(I)LColumnarPress$Box;" } : Jvm.MethodName) prog_1_method_8_code (2 : Nat) (Option.some (Jvm.ClassFile.FieldType.object "ColumnarPress$Box"))) ∈ lw_all := lw_g (lw_at lw_m7 140 rfl) rfl
theorem q1633 : (Jvm.Cond.methodLink "ColumnarPress" (50 : Nat) ({ cls := "ColumnarPress", name := "isBetween", desc := "(III)Z" } : Jvm.MethodName)) ∈ lw_all := lw_g (lw_at lw_m7 141 rfl) rfl
theorem q1634 : (Jvm.Cond.static ({ cls := "ColumnarPress", name := "isBetween", desc := "(III)Z" } : Jvm.MethodName)) ∈ lw_all := lw_g (lw_at lw_m7 142 rfl) rfl
theorem q1635 : (Jvm.Cond.code ({ cls := "ColumnarPress", name := "isBetween", desc := "(III)Z" } : Jvm.MethodName) prog_1_method_2_code (3 : Nat) (Option.some Jvm.ClassFile.FieldType.boolean)) ∈ lw_all := lw_g (lw_at lw_m7 143 rfl) rfl
theorem q1636 : (Jvm.Cond.methodLink "ColumnarPress" (54 : Nat) ({ cls := "ColumnarPress", name := "requireIndex", desc := "(Z)V" } : Jvm.MethodName)) ∈ lw_all := lw_g (lw_at lw_m7 144 rfl) rfl
theorem q1637 : (Jvm.Cond.static ({ cls := "ColumnarPress", name := "requireIndex", desc := "(Z)V" } : Jvm.MethodName)) ∈ lw_all := lw_g (lw_at lw_m7 145 rfl) rfl
theorem q1638 : (Jvm.Cond.code ({ cls := "ColumnarPress", name := "requireIndex", desc := "(Z)V" } : Jvm.MethodName) prog_1_method_3_code (1 : Nat) (Option.none : Option Jvm.ClassFile.FieldType)) ∈ lw_all := lw_g (lw_at lw_m7 146 rfl) rfl
theorem q1639 : (Jvm.Cond.classLink "ColumnarPress" (31 : Nat) "java/lang/IndexOutOfBoundsException") ∈ lw_all := lw_g (lw_at lw_m7 147 rfl) rfl
theorem q1640 : (Jvm.Cond.methodLink "ColumnarPress" (33 : Nat) ({ cls := "java/lang/IndexOutOfBoundsException", name := "<init>", desc := "()V" } : Jvm.MethodName)) ∈ lw_all := lw_g (lw_at lw_m7 148 rfl) rfl
theorem q1644 : (Jvm.Cond.methodLink "ColumnarPress" (66 : Nat) ({ cls := "ColumnarPress", name := "requireArgument", desc := "(Z)V" } : Jvm.MethodName)) ∈ lw_all := lw_g (lw_at lw_m7 152 rfl) rfl
theorem q1645 : (Jvm.Cond.static ({ cls := "ColumnarPress", name := "requireArgument", desc := "(Z)V" } : Jvm.MethodName)) ∈ lw_all := lw_g (lw_at lw_m7 153 rfl) rfl
theorem q1646 : (Jvm.Cond.code ({ cls := "ColumnarPress", name := "requireArgument", desc := "(Z)V" } : Jvm.MethodName) prog_1_method_4_code (1 : Nat) (Option.none : Option Jvm.ClassFile.FieldType)) ∈ lw_all := lw_g (lw_at lw_m7 154 rfl) rfl
theorem q1647 : (Jvm.Cond.classLink "ColumnarPress" (34 : Nat) "java/lang/IllegalArgumentException") ∈ lw_all := lw_g (lw_at lw_m7 155 rfl) rfl
theorem q1648 : (Jvm.Cond.methodLink "ColumnarPress" (36 : Nat) ({ cls := "java/lang/IllegalArgumentException", name := "<init>", desc := "()V" } : Jvm.MethodName)) ∈ lw_all := lw_g (lw_at lw_m7 156 rfl) rfl
theorem q1652 : (Jvm.Cond.methodLink "ColumnarPress" (69 : Nat) ({ cls := "ColumnarPress", name := "requireState", desc := "(Z)V" } : Jvm.MethodName)) ∈ lw_all := lw_g (lw_at lw_m7 160 rfl) rfl
theorem q1653 : (Jvm.Cond.static ({ cls := "ColumnarPress", name := "requireState", desc := "(Z)V" } : Jvm.MethodName)) ∈ lw_all := lw_g (lw_at lw_m7 161 rfl) rfl
theorem q1654 : (Jvm.Cond.code ({ cls := "ColumnarPress", name := "requireState", desc := "(Z)V" } : Jvm.MethodName) prog_1_method_5_code (1 : Nat) (Option.none : Option Jvm.ClassFile.FieldType)) ∈ lw_all := lw_g (lw_at lw_m7 162 rfl) rfl
theorem q1655 : (Jvm.Cond.classLink "ColumnarPress" (37 : Nat) "java/lang/IllegalStateException") ∈ lw_all := lw_g (lw_at lw_m7 163 rfl) rfl
theorem q1664 : (Jvm.Cond.methodLink "ColumnarPress" (39 : Nat) ({ cls := "java/lang/IllegalStateException", name := "<init>", desc := "()V" } : Jvm.MethodName)) ∈ lw_all := lw_g (lw_at lw_m7 172 rfl) rfl
theorem q1670 : (Jvm.Cond.methodLink "ColumnarPress" (79 : Nat) ({ cls := "ColumnarPress", name := "requireAllowed", desc := "(Z)V" } : Jvm.MethodName)) ∈ lw_all := lw_g (lw_at lw_m7 178 rfl) rfl
theorem q1671 : (Jvm.Cond.static ({ cls := "ColumnarPress", name := "requireAllowed", desc := "(Z)V" } : Jvm.MethodName)) ∈ lw_all := lw_g (lw_at lw_m7 179 rfl) rfl
theorem q1672 : (Jvm.Cond.code ({ cls := "ColumnarPress", name := "requireAllowed", desc := "(Z)V" } : Jvm.MethodName) prog_1_method_6_code (1 : Nat) (Option.none : Option Jvm.ClassFile.FieldType)) ∈ lw_all := lw_g (lw_at lw_m7 180 rfl) rfl
theorem q1673 : (Jvm.Cond.classLink "ColumnarPress" (40 : Nat) "java/lang/UnsupportedOperationException") ∈ lw_all := lw_g (lw_at lw_m7 181 rfl) rfl
theorem q1682 : (Jvm.Cond.methodLink "ColumnarPress" (42 : Nat) ({ cls := "java/lang/UnsupportedOperationException", name := "<init>", desc := "()V" } : Jvm.MethodName)) ∈ lw_all := lw_g (lw_at lw_m7 190 rfl) rfl
theorem q1688 : (Jvm.Cond.methodLink "ColumnarPress" (85 : Nat) ({ cls := "ColumnarPress$Box", name := "touch", desc := "()V" } : Jvm.MethodName)) ∈ lw_all := lw_g (lw_at lw_m7 196 rfl) rfl
theorem q1696 : (Jvm.Cond.instanceMethod ({ cls := "ColumnarPress", name := "addWord", desc := "(II)I" } : Jvm.MethodName)) ∈ lw_all := lw_g (lw_at lw_m7 204 rfl) rfl
theorem q1697 : (Jvm.Cond.selects "ColumnarPress" ({ cls := "ColumnarPress", name := "addWord", desc := "(II)I" } : Jvm.MethodName) ({ cls := "ColumnarPress", name := "addWord", desc := "(II)I" } : Jvm.MethodName)) ∈ lw_all := lw_g (lw_at lw_m7 205 rfl) rfl
theorem q1698 : (Jvm.Cond.code ({ cls := "ColumnarPress", name := "addWord", desc := "(II)I" } : Jvm.MethodName) prog_1_method_10_code (4 : Nat) (Option.some Jvm.ClassFile.FieldType.int)) ∈ lw_all := lw_g (lw_at lw_m7 206 rfl) rfl
theorem q1699 : (Jvm.Cond.methodLink "ColumnarPress" (94 : Nat) ({ cls := "java/lang/Integer", name := "valueOf", desc := "(I)Ljava/lang/Integer;" } : Jvm.MethodName)) ∈ lw_all := lw_g (lw_at lw_m7 207 rfl) rfl
theorem q1723 : (Jvm.Cond.instanceMethod ({ cls := "ColumnarPress", name := "setSize", desc := "(III)I" } : Jvm.MethodName)) ∈ lw_all := lw_g (lw_at lw_m7 231 rfl) rfl
theorem q1724 : (Jvm.Cond.selects "ColumnarPress" ({ cls := "ColumnarPress", name := "setSize", desc := "(III)I" } : Jvm.MethodName) ({ cls := "ColumnarPress", name := "setSize", desc := "(III)I" } : Jvm.MethodName)) ∈ lw_all := lw_g (lw_at lw_m7 232 rfl) rfl
theorem q1725 : (Jvm.Cond.code ({ cls := "ColumnarPress", name := "setSize", desc := "(III)I" } : Jvm.MethodName) prog_1_method_11_code (6 : Nat) (Option.some Jvm.ClassFile.FieldType.int)) ∈ lw_all := lw_g (lw_at lw_m7 233 rfl) rfl
theorem q1730 : (Jvm.Cond.instanceMethod ({ cls := "ColumnarPress", name := "setMargins", desc := "(IIIII)I" } : Jvm.MethodName)) ∈ lw_all := lw_g (lw_at lw_m7 238 rfl) rfl
theorem q1731 : (Jvm.Cond.selects "ColumnarPress" ({ cls := "ColumnarPress", name := "setMargins", desc := "(IIIII)I" } : Jvm.MethodName) ({ cls := "ColumnarPress", name := "setMargins", desc := "(IIIII)I" } : Jvm.MethodName)) ∈ lw_all := lw_g (lw_at lw_m7 239 rfl) rfl
theorem q1732 : (Jvm.Cond.code ({ cls := "ColumnarPress", name := "setMargins", desc := "(IIIII)I" } : Jvm.MethodName) prog_1_method_13_code (8 : Nat) (Option.some Jvm.ClassFile.FieldType.int)) ∈ lw_all := lw_g (lw_at lw_m8 0 rfl) rfl
theorem q1733 : (Jvm.Cond.methodLink "ColumnarPress" (106 : Nat) ({ cls := "ColumnarPress", name := "isMargin", desc := "(II)Z" } : Jvm.MethodName)) ∈ lw_all := lw_g (lw_at lw_m8 1 rfl) rfl
theorem q1734 : (Jvm.Cond.static ({ cls := "ColumnarPress", name := "isMargin", desc := "(II)Z" } : Jvm.MethodName)) ∈ lw_all := lw_g (lw_at lw_m8 2 rfl) rfl
theorem q1735 : (Jvm.Cond.code ({ cls := "ColumnarPress", name := "isMargin", desc := "(II)Z" } : Jvm.MethodName) prog_1_method_12_code (2 : Nat) (Option.some Jvm.ClassFile.FieldType.boolean)) ∈ lw_all := lw_g (lw_at lw_m8 3 rfl) rfl
theorem q1740 : (Jvm.Cond.instanceMethod ({ cls := "ColumnarPress", name := "setPadding", desc := "(II)I" } : Jvm.MethodName)) ∈ lw_all := lw_g (lw_at lw_m8 8 rfl) rfl
theorem q1741 : (Jvm.Cond.selects "ColumnarPress" ({ cls := "ColumnarPress", name := "setPadding", desc := "(II)I" } : Jvm.MethodName) ({ cls := "ColumnarPress", name := "setPadding", desc := "(II)I" } : Jvm.MethodName)) ∈ lw_all := lw_g (lw_at lw_m8 9 rfl) rfl
theorem q1742 : (Jvm.Cond.code ({ cls := "ColumnarPress", name := "setPadding", desc := "(II)I" } : Jvm.MethodName) prog_1_method_14_code (5 : Nat) (Option.some Jvm.ClassFile.FieldType.int)) ∈ lw_all := lw_g (lw_at lw_m8 10 rfl) rfl
theorem q1747 : (Jvm.Cond.instanceMethod ({ cls := "ColumnarPress", name := "setFactors", desc := "(III)I" } : Jvm.MethodName)) ∈ lw_all := lw_g (lw_at lw_m8 15 rfl) rfl
theorem q1748 : (Jvm.Cond.selects "ColumnarPress" ({ cls := "ColumnarPress", name := "setFactors", desc := "(III)I" } : Jvm.MethodName) ({ cls := "ColumnarPress", name := "setFactors", desc := "(III)I" } : Jvm.MethodName)) ∈ lw_all := lw_g (lw_at lw_m8 16 rfl) rfl
theorem q1749 : (Jvm.Cond.code ({ cls := "ColumnarPress", name := "setFactors", desc := "(III)I" } : Jvm.MethodName) prog_1_method_15_code (6 : Nat) (Option.some Jvm.ClassFile.FieldType.int)) ∈ lw_all := lw_g (lw_at lw_m8 17 rfl) rfl
theorem q1754 : (Jvm.Cond.instanceMethod ({ cls := "ColumnarPress", name := "setColumns", desc := "(II)I" } : Jvm.MethodName)) ∈ lw_all := lw_g (lw_at lw_m8 22 rfl) rfl
theorem q1755 : (Jvm.Cond.selects "ColumnarPress" ({ cls := "ColumnarPress", name := "setColumns", desc := "(II)I" } : Jvm.MethodName) ({ cls := "ColumnarPress", name := "setColumns", desc := "(II)I" } : Jvm.MethodName)) ∈ lw_all := lw_g (lw_at lw_m8 23 rfl) rfl
theorem q1756 : (Jvm.Cond.code ({ cls := "ColumnarPress", name := "setColumns", desc := "(II)I" } : Jvm.MethodName) prog_1_method_16_code (5 : Nat) (Option.some Jvm.ClassFile.FieldType.int)) ∈ lw_all := lw_g (lw_at lw_m8 24 rfl) rfl
theorem q1761 : (Jvm.Cond.instanceMethod ({ cls := "ColumnarPress", name := "setFloat", desc := "(IC)C" } : Jvm.MethodName)) ∈ lw_all := lw_g (lw_at lw_m8 29 rfl) rfl
theorem q1762 : (Jvm.Cond.selects "ColumnarPress" ({ cls := "ColumnarPress", name := "setFloat", desc := "(IC)C" } : Jvm.MethodName) ({ cls := "ColumnarPress", name := "setFloat", desc := "(IC)C" } : Jvm.MethodName)) ∈ lw_all := lw_g (lw_at lw_m8 30 rfl) rfl
theorem q1763 : (Jvm.Cond.code ({ cls := "ColumnarPress", name := "setFloat", desc := "(IC)C" } : Jvm.MethodName) prog_1_method_17_code (5 : Nat) (Option.some Jvm.ClassFile.FieldType.char)) ∈ lw_all := lw_g (lw_at lw_m8 31 rfl) rfl
theorem q1768 : (Jvm.Cond.instanceMethod ({ cls := "ColumnarPress", name := "setPlace", desc := "(ICII)C" } : Jvm.MethodName)) ∈ lw_all := lw_g (lw_at lw_m8 36 rfl) rfl
theorem q1769 : (Jvm.Cond.selects "ColumnarPress" ({ cls := "ColumnarPress", name := "setPlace", desc := "(ICII)C" } : Jvm.MethodName) ({ cls := "ColumnarPress", name := "setPlace", desc := "(ICII)C" } : Jvm.MethodName)) ∈ lw_all := lw_g (lw_at lw_m8 37 rfl) rfl
theorem q1770 : (Jvm.Cond.code ({ cls := "ColumnarPress", name := "setPlace", desc := "(ICII)C" } : Jvm.MethodName) prog_1_method_19_code (7 : Nat) (Option.some Jvm.ClassFile.FieldType.char)) ∈ lw_all := lw_g (lw_at lw_m8 38 rfl) rfl
theorem q1771 : (Jvm.Cond.methodLink "ColumnarPress" (138 : Nat) ({ cls := "ColumnarPress", name := "isOffset", desc := "(I)Z" } : Jvm.MethodName)) ∈ lw_all := lw_g (lw_at lw_m8 39 rfl) rfl
theorem q1772 : (Jvm.Cond.static ({ cls := "ColumnarPress", name := "isOffset", desc := "(I)Z" } : Jvm.MethodName)) ∈ lw_all := lw_g (lw_at lw_m8 40 rfl) rfl
theorem q1773 : (Jvm.Cond.code ({ cls := "ColumnarPress", name := "isOffset", desc := "(I)Z" } : Jvm.MethodName) prog_1_method_18_code (1 : Nat) (Option.some Jvm.ClassFile.FieldType.boolean)) ∈ lw_all := lw_g (lw_at lw_m8 41 rfl) rfl
theorem q1778 : (Jvm.Cond.instanceMethod ({ cls := "ColumnarPress", name := "setDepth", desc := "(II)I" } : Jvm.MethodName)) ∈ lw_all := lw_g (lw_at lw_m8 46 rfl) rfl
theorem q1779 : (Jvm.Cond.selects "ColumnarPress" ({ cls := "ColumnarPress", name := "setDepth", desc := "(II)I" } : Jvm.MethodName) ({ cls := "ColumnarPress", name := "setDepth", desc := "(II)I" } : Jvm.MethodName)) ∈ lw_all := lw_g (lw_at lw_m8 47 rfl) rfl
theorem q1780 : (Jvm.Cond.code ({ cls := "ColumnarPress", name := "setDepth", desc := "(II)I" } : Jvm.MethodName) prog_1_method_20_code (5 : Nat) (Option.some Jvm.ClassFile.FieldType.int)) ∈ lw_all := lw_g (lw_at lw_m8 48 rfl) rfl
theorem q1785 : (Jvm.Cond.instanceMethod ({ cls := "ColumnarPress", name := "setClear", desc := "(IZ)Z" } : Jvm.MethodName)) ∈ lw_all := lw_g (lw_at lw_m8 53 rfl) rfl
theorem q1786 : (Jvm.Cond.selects "ColumnarPress" ({ cls := "ColumnarPress", name := "setClear", desc := "(IZ)Z" } : Jvm.MethodName) ({ cls := "ColumnarPress", name := "setClear", desc := "(IZ)Z" } : Jvm.MethodName)) ∈ lw_all := lw_g (lw_at lw_m8 54 rfl) rfl
theorem q1787 : (Jvm.Cond.code ({ cls := "ColumnarPress", name := "setClear", desc := "(IZ)Z" } : Jvm.MethodName) prog_1_method_21_code (5 : Nat) (Option.some Jvm.ClassFile.FieldType.boolean)) ∈ lw_all := lw_g (lw_at lw_m8 55 rfl) rfl
theorem q1792 : (Jvm.Cond.instanceMethod ({ cls := "ColumnarPress", name := "setBreak", desc := "(IC)C" } : Jvm.MethodName)) ∈ lw_all := lw_g (lw_at lw_m8 60 rfl) rfl
theorem q1793 : (Jvm.Cond.selects "ColumnarPress" ({ cls := "ColumnarPress", name := "setBreak", desc := "(IC)C" } : Jvm.MethodName) ({ cls := "ColumnarPress", name := "setBreak", desc := "(IC)C" } : Jvm.MethodName)) ∈ lw_all := lw_g (lw_at lw_m8 61 rfl) rfl
theorem q1794 : (Jvm.Cond.code ({ cls := "ColumnarPress", name := "setBreak", desc := "(IC)C" } : Jvm.MethodName) prog_1_method_22_code (5 : Nat) (Option.some Jvm.ClassFile.FieldType.char)) ∈ lw_all := lw_g (lw_at lw_m8 62 rfl) rfl
theorem q1799 : (Jvm.Cond.instanceMethod ({ cls := "ColumnarPress", name := "setAlignment", desc := "(IC)C" } : Jvm.MethodName)) ∈ lw_all := lw_g (lw_at lw_m8 67 rfl) rfl
theorem q1800 : (Jvm.Cond.selects "ColumnarPress" ({ cls := "ColumnarPress", name := "setAlignment", desc := "(IC)C" } : Jvm.MethodName) ({ cls := "ColumnarPress", name := "setAlignment", desc := "(IC)C" } : Jvm.MethodName)) ∈ lw_all := lw_g (lw_at lw_m8 68 rfl) rfl
theorem q1801 : (Jvm.Cond.code ({ cls := "ColumnarPress", name := "setAlignment", desc := "(IC)C" } : Jvm.MethodName) prog_1_method_23_code (5 : Nat) (Option.some Jvm.ClassFile.FieldType.char)) ∈ lw_all := lw_g (lw_at lw_m8 69 rfl) rfl
theorem q1806 : (Jvm.Cond.instanceMethod ({ cls := "ColumnarPress", name := "layOut", desc := "(I)I" } : Jvm.MethodName)) ∈ lw_all := lw_g (lw_at lw_m8 74 rfl) rfl
theorem q1807 : (Jvm.Cond.selects "ColumnarPress" ({ cls := "ColumnarPress", name := "layOut", desc := "(I)I" } : Jvm.MethodName) ({ cls := "ColumnarPress", name := "layOut", desc := "(I)I" } : Jvm.MethodName)) ∈ lw_all := lw_g (lw_at lw_m8 75 rfl) rfl
theorem q1808 : (Jvm.Cond.code ({ cls := "ColumnarPress", name := "layOut", desc := "(I)I" } : Jvm.MethodName) prog_1_method_32_code (3 : Nat) (Option.some Jvm.ClassFile.FieldType.int)) ∈ lw_all := lw_g (lw_at lw_m8 76 rfl) rfl
theorem q1813 : (Jvm.Cond.instanceMethod ({ cls := "ColumnarPress", name := "xOf", desc := "(I)I" } : Jvm.MethodName)) ∈ lw_all := lw_g (lw_at lw_m8 81 rfl) rfl
theorem q1814 : (Jvm.Cond.selects "ColumnarPress" ({ cls := "ColumnarPress", name := "xOf", desc := "(I)I" } : Jvm.MethodName) ({ cls := "ColumnarPress", name := "xOf", desc := "(I)I" } : Jvm.MethodName)) ∈ lw_all := lw_g (lw_at lw_m8 82 rfl) rfl
theorem q1815 : (Jvm.Cond.code ({ cls := "ColumnarPress", name := "xOf", desc := "(I)I" } : Jvm.MethodName) prog_1_method_34_code (2 : Nat) (Option.some Jvm.ClassFile.FieldType.int)) ∈ lw_all := lw_g (lw_at lw_m8 83 rfl) rfl
theorem q1816 : (Jvm.Cond.methodLink "ColumnarPress" (240 : Nat) ({ cls := "ColumnarPress", name := "laid", desc := "(I)LColumnarPress$Box;" } : Jvm.MethodName)) ∈ lw_all := lw_g (lw_at lw_m8 84 rfl) rfl
theorem q1817 : (Jvm.Cond.privateMethod ({ cls := "ColumnarPress", name := "laid", desc := "(I)LColumnarPress$Box;" } : Jvm.MethodName)) ∈ lw_tbl := lw_at lw_m8 85 rfl
theorem q1818 : (Jvm.Cond.instanceMethod ({ cls := "ColumnarPress", name := "laid", desc := "(I)LColumnarPress$Box;" } : Jvm.MethodName)) ∈ lw_all := lw_g (lw_at lw_m8 86 rfl) rfl
theorem q1819 : (Jvm.Cond.code ({ cls := "ColumnarPress", name := "laid", desc := "(I)LColumnarPress$Box;" } : Jvm.MethodName) prog_1_method_33_code (3 : Nat) (Option.some (Jvm.ClassFile.FieldType.object "ColumnarPress$Box"))) ∈ lw_all := lw_g (lw_at lw_m8 87 rfl) rfl
theorem q1820 : (Jvm.Cond.methodLink "ColumnarPress" (243 : Nat) ({ cls := "ColumnarPress$Box", name := "x", desc := "()I" } : Jvm.MethodName)) ∈ lw_all := lw_g (lw_at lw_m8 88 rfl) rfl
theorem q1834 : (Jvm.Cond.instanceMethod ({ cls := "ColumnarPress", name := "yOf", desc := "(I)I" } : Jvm.MethodName)) ∈ lw_all := lw_g (lw_at lw_m8 102 rfl) rfl
theorem q1835 : (Jvm.Cond.selects "ColumnarPress" ({ cls := "ColumnarPress", name := "yOf", desc := "(I)I" } : Jvm.MethodName) ({ cls := "ColumnarPress", name := "yOf", desc := "(I)I" } : Jvm.MethodName)) ∈ lw_all := lw_g (lw_at lw_m8 103 rfl) rfl
theorem q1836 : (Jvm.Cond.code ({ cls := "ColumnarPress", name := "yOf", desc := "(I)I" } : Jvm.MethodName) prog_1_method_35_code (2 : Nat) (Option.some Jvm.ClassFile.FieldType.int)) ∈ lw_all := lw_g (lw_at lw_m8 104 rfl) rfl
theorem q1837 : (Jvm.Cond.methodLink "ColumnarPress" (246 : Nat) ({ cls := "ColumnarPress$Box", name := "y", desc := "()I" } : Jvm.MethodName)) ∈ lw_all := lw_g (lw_at lw_m8 105 rfl) rfl
theorem q1846 : (Jvm.Cond.instanceMethod ({ cls := "ColumnarPress", name := "widthOf", desc := "(I)I" } : Jvm.MethodName)) ∈ lw_all := lw_g (lw_at lw_m8 114 rfl) rfl
theorem q1847 : (Jvm.Cond.selects "ColumnarPress" ({ cls := "ColumnarPress", name := "widthOf", desc := "(I)I" } : Jvm.MethodName) ({ cls := "ColumnarPress", name := "widthOf", desc := "(I)I" } : Jvm.MethodName)) ∈ lw_all := lw_g (lw_at lw_m8 115 rfl) rfl
theorem q1848 : (Jvm.Cond.code ({ cls := "ColumnarPress", name := "widthOf", desc := "(I)I" } : Jvm.MethodName) prog_1_method_36_code (2 : Nat) (Option.some Jvm.ClassFile.FieldType.int)) ∈ lw_all := lw_g (lw_at lw_m8 116 rfl) rfl
theorem q1853 : (Jvm.Cond.instanceMethod ({ cls := "ColumnarPress", name := "heightOf", desc := "(I)I" } : Jvm.MethodName)) ∈ lw_all := lw_g (lw_at lw_m8 121 rfl) rfl
theorem q1854 : (Jvm.Cond.selects "ColumnarPress" ({ cls := "ColumnarPress", name := "heightOf", desc := "(I)I" } : Jvm.MethodName) ({ cls := "ColumnarPress", name := "heightOf", desc := "(I)I" } : Jvm.MethodName)) ∈ lw_all := lw_g (lw_at lw_m8 122 rfl) rfl
theorem q1855 : (Jvm.Cond.code ({ cls := "ColumnarPress", name := "heightOf", desc := "(I)I" } : Jvm.MethodName) prog_1_method_37_code (2 : Nat) (Option.some Jvm.ClassFile.FieldType.int)) ∈ lw_all := lw_g (lw_at lw_m8 123 rfl) rfl
theorem q1860 : (Jvm.Cond.instanceMethod ({ cls := "ColumnarPress", name := "lines", desc := "(I)I" } : Jvm.MethodName)) ∈ lw_all := lw_g (lw_at lw_m8 128 rfl) rfl
theorem q1861 : (Jvm.Cond.selects "ColumnarPress" ({ cls := "ColumnarPress", name := "lines", desc := "(I)I" } : Jvm.MethodName) ({ cls := "ColumnarPress", name := "lines", desc := "(I)I" } : Jvm.MethodName)) ∈ lw_all := lw_g (lw_at lw_m8 129 rfl) rfl
theorem q1862 : (Jvm.Cond.code ({ cls := "ColumnarPress", name := "lines", desc := "(I)I" } : Jvm.MethodName) prog_1_method_39_code (2 : Nat) (Option.some Jvm.ClassFile.FieldType.int)) ∈ lw_all := lw_g (lw_at lw_m8 130 rfl) rfl
theorem q1863 : (Jvm.Cond.methodLink "ColumnarPress" (260 : Nat) ({ cls := "ColumnarPress", name := "linesOf", desc := "(I)Ljava/util/List;" } : Jvm.MethodName)) ∈ lw_all := lw_g (lw_at lw_m8 131 rfl) rfl
theorem q1864 : (Jvm.Cond.privateMethod ({ cls := "ColumnarPress", name := "linesOf", desc := "(I)Ljava/util/List;" } : Jvm.MethodName)) ∈ lw_tbl := lw_at lw_m8 132 rfl
theorem q1865 : (Jvm.Cond.instanceMethod ({ cls := "ColumnarPress", name := "linesOf", desc := "(I)Ljava/util/List;" } : Jvm.MethodName)) ∈ lw_all := lw_g (lw_at lw_m8 133 rfl) rfl
theorem q1866 : (Jvm.Cond.code ({ cls := "ColumnarPress", name := "linesOf", desc := "(I)Ljava/util/List;" } : Jvm.MethodName) prog_1_method_38_code (3 : Nat) (Option.some (Jvm.ClassFile.FieldType.object "java/util/List"))) ∈ lw_all := lw_g (lw_at lw_m8 134 rfl) rfl
theorem q1872 : (Jvm.Cond.instanceMethod ({ cls := "ColumnarPress", name := "wordsIn", desc := "(II)I" } : Jvm.MethodName)) ∈ lw_all := lw_g (lw_at lw_m8 140 rfl) rfl
theorem q1873 : (Jvm.Cond.selects "ColumnarPress" ({ cls := "ColumnarPress", name := "wordsIn", desc := "(II)I" } : Jvm.MethodName) ({ cls := "ColumnarPress", name := "wordsIn", desc := "(II)I" } : Jvm.MethodName)) ∈ lw_all := lw_g (lw_at lw_m8 141 rfl) rfl
theorem q1874 : (Jvm.Cond.code ({ cls := "ColumnarPress", name := "wordsIn", desc := "(II)I" } : Jvm.MethodName) prog_1_method_41_code (3 : Nat) (Option.some Jvm.ClassFile.FieldType.int)) ∈ lw_all := lw_g (lw_at lw_m8 142 rfl) rfl
theorem q1875 : (Jvm.Cond.methodLink "ColumnarPress" (269 : Nat) ({ cls := "ColumnarPress", name := "lineAt", desc := "(II)LColumnarPress$Line;" } : Jvm.MethodName)) ∈ lw_all := lw_g (lw_at lw_m8 143 rfl) rfl
theorem q1876 : (Jvm.Cond.privateMethod ({ cls := "ColumnarPress", name := "lineAt", desc := "(II)LColumnarPress$Line;" } : Jvm.MethodName)) ∈ lw_tbl := lw_at lw_m8 144 rfl
theorem q1877 : (Jvm.Cond.instanceMethod ({ cls := "ColumnarPress", name := "lineAt", desc := "(II)LColumnarPress$Line;" } : Jvm.MethodName)) ∈ lw_all := lw_g (lw_at lw_m8 145 rfl) rfl
theorem q1878 : (Jvm.Cond.code ({ cls := "ColumnarPress", name := "lineAt", desc := "(II)LColumnarPress$Line;" } : Jvm.MethodName) prog_1_method_40_code (4 : Nat) (Option.some (Jvm.ClassFile.FieldType.object "ColumnarPress$Line"))) ∈ lw_all := lw_g (lw_at lw_m8 146 rfl) rfl
theorem q1879 : (Jvm.Cond.methodLink "ColumnarPress" (264 : Nat) ({ cls := "ColumnarPress", name := "requireElement", desc := "(Z)V" } : Jvm.MethodName)) ∈ lw_all := lw_g (lw_at lw_m8 147 rfl) rfl
theorem q1880 : (Jvm.Cond.static ({ cls := "ColumnarPress", name := "requireElement", desc := "(Z)V" } : Jvm.MethodName)) ∈ lw_all := lw_g (lw_at lw_m8 148 rfl) rfl
theorem q1881 : (Jvm.Cond.code ({ cls := "ColumnarPress", name := "requireElement", desc := "(Z)V" } : Jvm.MethodName) prog_1_method_7_code (1 : Nat) (Option.none : Option Jvm.ClassFile.FieldType)) ∈ lw_all := lw_g (lw_at lw_m8 149 rfl) rfl
theorem q1882 : (Jvm.Cond.classLink "ColumnarPress" (43 : Nat) "java/util/NoSuchElementException") ∈ lw_all := lw_g (lw_at lw_m8 150 rfl) rfl
theorem q1883 : (Jvm.Cond.methodLink "ColumnarPress" (45 : Nat) ({ cls := "java/util/NoSuchElementException", name := "<init>", desc := "()V" } : Jvm.MethodName)) ∈ lw_all := lw_g (lw_at lw_m8 151 rfl) rfl
theorem q1888 : (Jvm.Cond.instanceMethod ({ cls := "ColumnarPress", name := "lineX", desc := "(II)I" } : Jvm.MethodName)) ∈ lw_all := lw_g (lw_at lw_m8 156 rfl) rfl
theorem q1889 : (Jvm.Cond.selects "ColumnarPress" ({ cls := "ColumnarPress", name := "lineX", desc := "(II)I" } : Jvm.MethodName) ({ cls := "ColumnarPress", name := "lineX", desc := "(II)I" } : Jvm.MethodName)) ∈ lw_all := lw_g (lw_at lw_m8 157 rfl) rfl
theorem q1890 : (Jvm.Cond.code ({ cls := "ColumnarPress", name := "lineX", desc := "(II)I" } : Jvm.MethodName) prog_1_method_42_code (3 : Nat) (Option.some Jvm.ClassFile.FieldType.int)) ∈ lw_all := lw_g (lw_at lw_m8 158 rfl) rfl
theorem q1891 : (Jvm.Cond.methodLink "ColumnarPress" (275 : Nat) ({ cls := "ColumnarPress$Line", name := "x", desc := "()I" } : Jvm.MethodName)) ∈ lw_all := lw_g (lw_at lw_m8 159 rfl) rfl
theorem q1896 : (Jvm.Cond.instanceMethod ({ cls := "ColumnarPress", name := "lineY", desc := "(II)I" } : Jvm.MethodName)) ∈ lw_all := lw_g (lw_at lw_m8 164 rfl) rfl
theorem q1897 : (Jvm.Cond.selects "ColumnarPress" ({ cls := "ColumnarPress", name := "lineY", desc := "(II)I" } : Jvm.MethodName) ({ cls := "ColumnarPress", name := "lineY", desc := "(II)I" } : Jvm.MethodName)) ∈ lw_all := lw_g (lw_at lw_m8 165 rfl) rfl
theorem q1898 : (Jvm.Cond.code ({ cls := "ColumnarPress", name := "lineY", desc := "(II)I" } : Jvm.MethodName) prog_1_method_43_code (3 : Nat) (Option.some Jvm.ClassFile.FieldType.int)) ∈ lw_all := lw_g (lw_at lw_m8 166 rfl) rfl
theorem q1899 : (Jvm.Cond.methodLink "ColumnarPress" (276 : Nat) ({ cls := "ColumnarPress$Line", name := "y", desc := "()I" } : Jvm.MethodName)) ∈ lw_all := lw_g (lw_at lw_m8 167 rfl) rfl
theorem q1904 : (Jvm.Cond.instanceMethod ({ cls := "ColumnarPress", name := "leastWidth", desc := "(I)I" } : Jvm.MethodName)) ∈ lw_all := lw_g (lw_at lw_m8 172 rfl) rfl
theorem q1905 : (Jvm.Cond.selects "ColumnarPress" ({ cls := "ColumnarPress", name := "leastWidth", desc := "(I)I" } : Jvm.MethodName) ({ cls := "ColumnarPress", name := "leastWidth", desc := "(I)I" } : Jvm.MethodName)) ∈ lw_all := lw_g (lw_at lw_m8 173 rfl) rfl
theorem q1906 : (Jvm.Cond.code ({ cls := "ColumnarPress", name := "leastWidth", desc := "(I)I" } : Jvm.MethodName) prog_1_method_44_code (2 : Nat) (Option.some Jvm.ClassFile.FieldType.int)) ∈ lw_all := lw_g (lw_at lw_m8 174 rfl) rfl
theorem q1911 : (Jvm.Cond.instanceMethod ({ cls := "ColumnarPress", name := "greatestWidth", desc := "(I)I" } : Jvm.MethodName)) ∈ lw_all := lw_g (lw_at lw_m8 179 rfl) rfl
theorem q1912 : (Jvm.Cond.selects "ColumnarPress" ({ cls := "ColumnarPress", name := "greatestWidth", desc := "(I)I" } : Jvm.MethodName) ({ cls := "ColumnarPress", name := "greatestWidth", desc := "(I)I" } : Jvm.MethodName)) ∈ lw_all := lw_g (lw_at lw_m8 180 rfl) rfl
theorem q1913 : (Jvm.Cond.code ({ cls := "ColumnarPress", name := "greatestWidth", desc := "(I)I" } : Jvm.MethodName) prog_1_method_45_code (2 : Nat) (Option.some Jvm.ClassFile.FieldType.int)) ∈ lw_all := lw_g (lw_at lw_m8 181 rfl) rfl
theorem q1918 : (Jvm.Cond.instanceMethod ({ cls := "ColumnarPress", name := "hit", desc := "(II)I" } : Jvm.MethodName)) ∈ lw_all := lw_g (lw_at lw_m8 186 rfl) rfl
theorem q1919 : (Jvm.Cond.selects "ColumnarPress" ({ cls := "ColumnarPress", name := "hit", desc := "(II)I" } : Jvm.MethodName) ({ cls := "ColumnarPress", name := "hit", desc := "(II)I" } : Jvm.MethodName)) ∈ lw_all := lw_g (lw_at lw_m8 187 rfl) rfl
theorem q1920 : (Jvm.Cond.code ({ cls := "ColumnarPress", name := "hit", desc := "(II)I" } : Jvm.MethodName) prog_1_method_47_code (7 : Nat) (Option.some Jvm.ClassFile.FieldType.int)) ∈ lw_all := lw_g (lw_at lw_m8 188 rfl) rfl
theorem q1921 : (Jvm.Cond.methodLink "ColumnarPress" (277 : Nat) ({ cls := "ColumnarPress", name := "isIn", desc := "(III)Z" } : Jvm.MethodName)) ∈ lw_all := lw_g (lw_at lw_m8 189 rfl) rfl
theorem q1922 : (Jvm.Cond.static ({ cls := "ColumnarPress", name := "isIn", desc := "(III)Z" } : Jvm.MethodName)) ∈ lw_all := lw_g (lw_at lw_m8 190 rfl) rfl
theorem q1923 : (Jvm.Cond.code ({ cls := "ColumnarPress", name := "isIn", desc := "(III)Z" } : Jvm.MethodName) prog_1_method_46_code (3 : Nat) (Option.some Jvm.ClassFile.FieldType.boolean)) ∈ lw_all := lw_g (lw_at lw_m8 191 rfl) rfl
theorem q1928 : (Jvm.Cond.instanceMethod ({ cls := "ColumnarPress", name := "pages", desc := "(I)I" } : Jvm.MethodName)) ∈ lw_all := lw_g (lw_at lw_m8 196 rfl) rfl
theorem q1929 : (Jvm.Cond.selects "ColumnarPress" ({ cls := "ColumnarPress", name := "pages", desc := "(I)I" } : Jvm.MethodName) ({ cls := "ColumnarPress", name := "pages", desc := "(I)I" } : Jvm.MethodName)) ∈ lw_all := lw_g (lw_at lw_m8 197 rfl) rfl
theorem q1930 : (Jvm.Cond.code ({ cls := "ColumnarPress", name := "pages", desc := "(I)I" } : Jvm.MethodName) prog_1_method_48_code (2 : Nat) (Option.some Jvm.ClassFile.FieldType.int)) ∈ lw_all := lw_g (lw_at lw_m8 198 rfl) rfl
theorem q1931 : (Jvm.Cond.classLink "ColumnarPress" (280 : Nat) "ColumnarPress$Pages") ∈ lw_all := lw_g (lw_at lw_m8 199 rfl) rfl
theorem q1933 : (Jvm.Cond.methodLink "ColumnarPress" (282 : Nat) ({ cls := "ColumnarPress$Pages", name := "<init>", desc := "(LColumnarPress;I)V" } : Jvm.MethodName)) ∈ lw_all := lw_g (lw_at lw_m8 201 rfl) rfl
theorem q1994 : (Jvm.Cond.fieldLinkNest "ColumnarPress" (288 : Nat) "ColumnarPress$Pages" "units" "Ljava/util/List;" "ColumnarPress") ∈ lw_tbl := lw_at lw_m9 22 rfl
theorem q1997 : (Jvm.Cond.fieldLinkNest "ColumnarPress" (285 : Nat) "ColumnarPress$Pages" "page" "I" "ColumnarPress") ∈ lw_tbl := lw_at lw_m9 25 rfl
theorem q2020 : (Jvm.Cond.instanceMethod ({ cls := "ColumnarPress", name := "pageOf", desc := "(III)I" } : Jvm.MethodName)) ∈ lw_all := lw_g (lw_at lw_m9 48 rfl) rfl
theorem q2021 : (Jvm.Cond.selects "ColumnarPress" ({ cls := "ColumnarPress", name := "pageOf", desc := "(III)I" } : Jvm.MethodName) ({ cls := "ColumnarPress", name := "pageOf", desc := "(III)I" } : Jvm.MethodName)) ∈ lw_all := lw_g (lw_at lw_m9 49 rfl) rfl
theorem q2022 : (Jvm.Cond.code ({ cls := "ColumnarPress", name := "pageOf", desc := "(III)I" } : Jvm.MethodName) prog_1_method_49_code (7 : Nat) (Option.some Jvm.ClassFile.FieldType.int)) ∈ lw_all := lw_g (lw_at lw_m9 50 rfl) rfl
theorem q2023 : (Jvm.Cond.classLink "ColumnarPress" (291 : Nat) "ColumnarPress$Unit") ∈ lw_all := lw_g (lw_at lw_m9 51 rfl) rfl
theorem q2024 : (Jvm.Cond.methodLink "ColumnarPress" (293 : Nat) ({ cls := "ColumnarPress$Unit", name := "box", desc := "()LColumnarPress$Box;" } : Jvm.MethodName)) ∈ lw_all := lw_g (lw_at lw_m9 52 rfl) rfl
theorem q2028 : (Jvm.Cond.methodLink "ColumnarPress" (296 : Nat) ({ cls := "ColumnarPress$Unit", name := "line", desc := "()I" } : Jvm.MethodName)) ∈ lw_all := lw_g (lw_at lw_m9 56 rfl) rfl
theorem q2032 : (Jvm.Cond.methodLink "ColumnarPress" (299 : Nat) ({ cls := "ColumnarPress$Unit", name := "page", desc := "()I" } : Jvm.MethodName)) ∈ lw_all := lw_g (lw_at lw_m9 60 rfl) rfl
theorem q2040 : (Jvm.Cond.instanceMethod ({ cls := "ColumnarPress", name := "area", desc := "()J" } : Jvm.MethodName)) ∈ lw_all := lw_g (lw_at lw_m9 68 rfl) rfl
theorem q2041 : (Jvm.Cond.selects "ColumnarPress" ({ cls := "ColumnarPress", name := "area", desc := "()J" } : Jvm.MethodName) ({ cls := "ColumnarPress", name := "area", desc := "()J" } : Jvm.MethodName)) ∈ lw_all := lw_g (lw_at lw_m9 69 rfl) rfl
theorem q2042 : (Jvm.Cond.code ({ cls := "ColumnarPress", name := "area", desc := "()J" } : Jvm.MethodName) prog_1_method_51_code (5 : Nat) (Option.some Jvm.ClassFile.FieldType.long)) ∈ lw_all := lw_g (lw_at lw_m9 70 rfl) rfl
theorem q2061 : (Jvm.Cond.instanceMethod ({ cls := "ColumnarPress", name := "filled", desc := "()F" } : Jvm.MethodName)) ∈ lw_all := lw_g (lw_at lw_m9 89 rfl) rfl
theorem q2062 : (Jvm.Cond.selects "ColumnarPress" ({ cls := "ColumnarPress", name := "filled", desc := "()F" } : Jvm.MethodName) ({ cls := "ColumnarPress", name := "filled", desc := "()F" } : Jvm.MethodName)) ∈ lw_all := lw_g (lw_at lw_m9 90 rfl) rfl
theorem q2063 : (Jvm.Cond.code ({ cls := "ColumnarPress", name := "filled", desc := "()F" } : Jvm.MethodName) prog_1_method_52_code (7 : Nat) (Option.some Jvm.ClassFile.FieldType.float)) ∈ lw_all := lw_g (lw_at lw_m9 91 rfl) rfl
theorem q2064 : (Jvm.Cond.classLink "ColumnarPress" (301 : Nat) "java/lang/ArithmeticException") ∈ lw_all := lw_g (lw_at lw_m9 92 rfl) rfl
theorem q2065 : (Jvm.Cond.methodLink "ColumnarPress" (303 : Nat) ({ cls := "java/lang/ArithmeticException", name := "<init>", desc := "()V" } : Jvm.MethodName)) ∈ lw_all := lw_g (lw_at lw_m9 93 rfl) rfl
theorem q2073 : (Jvm.Cond.instanceMethod ({ cls := "ColumnarPress", name := "meanLine", desc := "()D" } : Jvm.MethodName)) ∈ lw_all := lw_g (lw_at lw_m9 101 rfl) rfl
theorem q2074 : (Jvm.Cond.selects "ColumnarPress" ({ cls := "ColumnarPress", name := "meanLine", desc := "()D" } : Jvm.MethodName) ({ cls := "ColumnarPress", name := "meanLine", desc := "()D" } : Jvm.MethodName)) ∈ lw_all := lw_g (lw_at lw_m9 102 rfl) rfl
theorem q2075 : (Jvm.Cond.code ({ cls := "ColumnarPress", name := "meanLine", desc := "()D" } : Jvm.MethodName) prog_1_method_53_code (5 : Nat) (Option.some Jvm.ClassFile.FieldType.double)) ∈ lw_all := lw_g (lw_at lw_m9 103 rfl) rfl
theorem q2692 : (Jvm.Cond.selects "ColumnarPress" ({ cls := "java/lang/Object", name := "equals", desc := "(Ljava/lang/Object;)Z" } : Jvm.MethodName) ({ cls := "java/lang/Object", name := "equals", desc := "(Ljava/lang/Object;)Z" } : Jvm.MethodName)) ∈ lw_all := lw_g (lw_at lw_m12 0 rfl) rfl
theorem q2845 : (Jvm.Cond.castable "ColumnarPress" "java/lang/Object") ∈ lw_tbl := lw_at lw_m12 153 rfl
theorem in_X1 : ∀ w ∈ wsX10, w ∈ lw_all := lw_in wsX10 [813, 815, 817] (by decide +kernel) (by decide +kernel)
