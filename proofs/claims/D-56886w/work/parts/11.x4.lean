/-! ColumnarPressModel -/
set_option maxRecDepth 100000
def RX4 : String := "ColumnarPressModel"
def TX4 : u_T := fun k => match k with
  | 0 => ("ColumnarPressModel", "boxes", "Ljava/util/ArrayList;", true)
  | 1 => ("ColumnarPressModel", "thrown", "I", false)
  | 2 => ("ColumnarPressModel", "contexts", "I", false)
  | 3 => ("ColumnarPressModel", "counted", "I", false)
  | _ => ("ColumnarPressModel", "isCurrent", "Z", false)
def tyX4 : Nat → FieldType := fun k => match k with
  | 0 => .object "java/util/ArrayList"
  | 1 => .int
  | 2 => .int
  | 3 => .int
  | _ => .boolean
abbrev wsX40 : List Cond := u_ws RX4 TX4 5
theorem nmX4 : ∀ a, a < 5 → ∀ b, b < 5 → a ≠ b → (TX4 a).2.1 ≠ (TX4 b).2.1 := by decide +kernel
theorem tyX4_ok : ∀ k, k < 5 → parseFieldDescriptor (TX4 k).2.2.1 = some (tyX4 k) := by decide +kernel
abbrev cX4_init : ByteArray := prog_14_method_1_code
def yX4_init : MethodName := ⟨RX4, "<init>", "()V"⟩
def dkwX4_init_2 : List UInt8 := [1, 183, 0, 32, 182, 0, 35, 87, 177]
abbrev dktX4_init_2 : List UInt8 := dkwX4_init_2 ++ []
def dkwX4_init_1 : List UInt8 := [181, 0, 20, 42, 3, 181, 0, 23, 42, 3, 181, 0, 26, 42, 180, 0, 10, 187, 0, 30, 89, 3, 16, 98]
abbrev dktX4_init_1 : List UInt8 := dkwX4_init_1 ++ dktX4_init_2
def dkwX4_init_0 : List UInt8 := [42, 183, 0, 1, 42, 187, 0, 7, 89, 183, 0, 9, 181, 0, 10, 42, 3, 181, 0, 16, 42, 3]
abbrev dktX4_init_0 : List UInt8 := dkwX4_init_0 ++ dktX4_init_1
theorem dksX4_init_0 : cX4_init.data.toList.drop 0 = dktX4_init_0 := by decide +kernel
theorem dksX4_init_1 : cX4_init.data.toList.drop 22 = dktX4_init_1 := dk_seg dksX4_init_0 22 rfl rfl
theorem dksX4_init_2 : cX4_init.data.toList.drop 46 = dktX4_init_2 := dk_seg dksX4_init_1 24 rfl rfl
theorem dX4_init_0 : decode cX4_init 0 = .ok (.aload_n 0, 1) := dk_42 (dk_at dksX4_init_0 0 rfl rfl)
theorem dX4_init_1 : decode cX4_init 1 = .ok (.invokespecial 1, 3) := dk_183 0 1 (dk_at dksX4_init_0 1 rfl rfl)
theorem dX4_init_4 : decode cX4_init 4 = .ok (.aload_n 0, 1) := dk_42 (dk_at dksX4_init_0 4 rfl rfl)
theorem dX4_init_5 : decode cX4_init 5 = .ok (.new 7, 3) := dk_187 0 7 (dk_at dksX4_init_0 5 rfl rfl)
theorem dX4_init_8 : decode cX4_init 8 = .ok (.dup, 1) := dk_89 (dk_at dksX4_init_0 8 rfl rfl)
theorem dX4_init_9 : decode cX4_init 9 = .ok (.invokespecial 9, 3) := dk_183 0 9 (dk_at dksX4_init_0 9 rfl rfl)
theorem dX4_init_12 : decode cX4_init 12 = .ok (.putfield 10, 3) := dk_181 0 10 (dk_at dksX4_init_0 12 rfl rfl)
theorem dX4_init_15 : decode cX4_init 15 = .ok (.aload_n 0, 1) := dk_42 (dk_at dksX4_init_0 15 rfl rfl)
theorem dX4_init_16 : decode cX4_init 16 = .ok (.iconst 0, 1) := dk_3 (dk_at dksX4_init_0 16 rfl rfl)
theorem dX4_init_17 : decode cX4_init 17 = .ok (.putfield 16, 3) := dk_181 0 16 (dk_at dksX4_init_0 17 rfl rfl)
theorem dX4_init_20 : decode cX4_init 20 = .ok (.aload_n 0, 1) := dk_42 (dk_at dksX4_init_0 20 rfl rfl)
theorem dX4_init_21 : decode cX4_init 21 = .ok (.iconst 0, 1) := dk_3 (dk_at dksX4_init_0 21 rfl rfl)
theorem dX4_init_22 : decode cX4_init 22 = .ok (.putfield 20, 3) := dk_181 0 20 (dk_at dksX4_init_1 0 rfl rfl)
theorem dX4_init_25 : decode cX4_init 25 = .ok (.aload_n 0, 1) := dk_42 (dk_at dksX4_init_1 3 rfl rfl)
theorem dX4_init_26 : decode cX4_init 26 = .ok (.iconst 0, 1) := dk_3 (dk_at dksX4_init_1 4 rfl rfl)
theorem dX4_init_27 : decode cX4_init 27 = .ok (.putfield 23, 3) := dk_181 0 23 (dk_at dksX4_init_1 5 rfl rfl)
theorem dX4_init_30 : decode cX4_init 30 = .ok (.aload_n 0, 1) := dk_42 (dk_at dksX4_init_1 8 rfl rfl)
theorem dX4_init_31 : decode cX4_init 31 = .ok (.iconst 0, 1) := dk_3 (dk_at dksX4_init_1 9 rfl rfl)
theorem dX4_init_32 : decode cX4_init 32 = .ok (.putfield 26, 3) := dk_181 0 26 (dk_at dksX4_init_1 10 rfl rfl)
theorem dX4_init_35 : decode cX4_init 35 = .ok (.aload_n 0, 1) := dk_42 (dk_at dksX4_init_1 13 rfl rfl)
theorem dX4_init_36 : decode cX4_init 36 = .ok (.getfield 10, 3) := dk_180 0 10 (dk_at dksX4_init_1 14 rfl rfl)
theorem dX4_init_39 : decode cX4_init 39 = .ok (.new 30, 3) := dk_187 0 30 (dk_at dksX4_init_1 17 rfl rfl)
theorem dX4_init_42 : decode cX4_init 42 = .ok (.dup, 1) := dk_89 (dk_at dksX4_init_1 20 rfl rfl)
theorem dX4_init_43 : decode cX4_init 43 = .ok (.iconst 0, 1) := dk_3 (dk_at dksX4_init_1 21 rfl rfl)
theorem dX4_init_44 : decode cX4_init 44 = .ok (.bipush 98, 2) := dk_16 98 (dk_at dksX4_init_1 22 rfl rfl)
theorem dX4_init_46 : decode cX4_init 46 = .ok (.aconst_null, 1) := dk_1 (dk_at dksX4_init_2 0 rfl rfl)
theorem dX4_init_47 : decode cX4_init 47 = .ok (.invokespecial 32, 3) := dk_183 0 32 (dk_at dksX4_init_2 1 rfl rfl)
theorem dX4_init_50 : decode cX4_init 50 = .ok (.invokevirtual 35, 3) := dk_182 0 35 (dk_at dksX4_init_2 4 rfl rfl)
theorem dX4_init_53 : decode cX4_init 53 = .ok (.pop, 1) := dk_87 (dk_at dksX4_init_2 7 rfl rfl)
theorem dX4_init_54 : decode cX4_init 54 = .ok (.return_, 1) := dk_177 (dk_at dksX4_init_2 8 rfl rfl)
abbrev cX4_thrown : ByteArray := prog_14_method_2_code
def yX4_thrown : MethodName := ⟨RX4, "thrown", "()I"⟩
theorem dX4_thrown_0 : decode cX4_thrown 0 = .ok (.aload_n 0, 1) := by decide +kernel
theorem dX4_thrown_1 : decode cX4_thrown 1 = .ok (.getfield 16, 3) := by decide +kernel
theorem dX4_thrown_4 : decode cX4_thrown 4 = .ok (.ireturn, 1) := by decide +kernel
abbrev cX4_add : ByteArray := prog_14_method_7_code
def yX4_add : MethodName := ⟨RX4, "add", "(IC)I"⟩
def dkwX4_add_7 : List UInt8 := [182, 0, 35, 87, 42, 25, 5, 182, 0, 72, 25, 5, 180, 0, 76, 172]
abbrev dktX4_add_7 : List UInt8 := dkwX4_add_7 ++ []
def dkwX4_add_6 : List UInt8 := [25, 4, 183, 0, 32, 58, 5, 25, 4, 180, 0, 69, 25, 5, 182, 0, 35, 87, 42, 180, 0, 10, 25, 5]
abbrev dktX4_add_6 : List UInt8 := dkwX4_add_6 ++ dktX4_add_7
def dkwX4_add_5 : List UInt8 := [181, 0, 16, 42, 180, 0, 16, 158, 0, 5, 3, 172, 187, 0, 30, 89, 42, 180, 0, 10, 182, 0, 39, 28]
abbrev dktX4_add_5 : List UInt8 := dkwX4_add_5 ++ dktX4_add_6
def dkwX4_add_4 : List UInt8 := [180, 0, 62, 16, 116, 159, 0, 13, 25, 4, 180, 0, 66, 16, 7, 160, 0, 7, 7, 167, 0, 4, 3]
abbrev dktX4_add_4 : List UInt8 := dkwX4_add_4 ++ dktX4_add_5
def dkwX4_add_3 : List UInt8 := [180, 0, 16, 158, 0, 5, 3, 172, 42, 180, 0, 10, 27, 182, 0, 58, 192, 0, 30, 58, 4, 42, 25, 4]
abbrev dktX4_add_3 : List UInt8 := dkwX4_add_3 ++ dktX4_add_4
def dkwX4_add_2 : List UInt8 := [167, 0, 20, 42, 180, 0, 10, 182, 0, 39, 16, 24, 160, 0, 7, 6, 167, 0, 4, 3, 181, 0, 16, 42]
abbrev dktX4_add_2 : List UInt8 := dkwX4_add_2 ++ dktX4_add_3
def dkwX4_add_1 : List UInt8 := [4, 167, 0, 4, 3, 62, 42, 42, 27, 182, 0, 47, 154, 0, 7, 4, 167, 0, 28, 29, 154, 0, 7, 5]
abbrev dktX4_add_1 : List UInt8 := dkwX4_add_1 ++ dktX4_add_2
def dkwX4_add_0 : List UInt8 := [28, 16, 98, 159, 0, 21, 28, 16, 116, 159, 0, 15, 28, 16, 102, 159, 0, 9, 28, 16, 103, 160, 0, 7]
abbrev dktX4_add_0 : List UInt8 := dkwX4_add_0 ++ dktX4_add_1
theorem dksX4_add_0 : cX4_add.data.toList.drop 0 = dktX4_add_0 := by decide +kernel
theorem dksX4_add_1 : cX4_add.data.toList.drop 24 = dktX4_add_1 := dk_seg dksX4_add_0 24 rfl rfl
theorem dksX4_add_2 : cX4_add.data.toList.drop 48 = dktX4_add_2 := dk_seg dksX4_add_1 24 rfl rfl
theorem dksX4_add_3 : cX4_add.data.toList.drop 72 = dktX4_add_3 := dk_seg dksX4_add_2 24 rfl rfl
theorem dksX4_add_4 : cX4_add.data.toList.drop 96 = dktX4_add_4 := dk_seg dksX4_add_3 24 rfl rfl
theorem dksX4_add_5 : cX4_add.data.toList.drop 119 = dktX4_add_5 := dk_seg dksX4_add_4 23 rfl rfl
theorem dksX4_add_6 : cX4_add.data.toList.drop 143 = dktX4_add_6 := dk_seg dksX4_add_5 24 rfl rfl
theorem dksX4_add_7 : cX4_add.data.toList.drop 167 = dktX4_add_7 := dk_seg dksX4_add_6 24 rfl rfl
theorem dX4_add_0 : decode cX4_add 0 = .ok (.iload_n 2, 1) := dk_28 (dk_at dksX4_add_0 0 rfl rfl)
theorem dX4_add_1 : decode cX4_add 1 = .ok (.bipush 98, 2) := dk_16 98 (dk_at dksX4_add_0 1 rfl rfl)
theorem dX4_add_3 : decode cX4_add 3 = .ok (.if_icmp .eq 21, 3) := dk_159 0 21 (dk_at dksX4_add_0 3 rfl rfl)
theorem dX4_add_6 : decode cX4_add 6 = .ok (.iload_n 2, 1) := dk_28 (dk_at dksX4_add_0 6 rfl rfl)
theorem dX4_add_7 : decode cX4_add 7 = .ok (.bipush 116, 2) := dk_16 116 (dk_at dksX4_add_0 7 rfl rfl)
theorem dX4_add_9 : decode cX4_add 9 = .ok (.if_icmp .eq 15, 3) := dk_159 0 15 (dk_at dksX4_add_0 9 rfl rfl)
theorem dX4_add_12 : decode cX4_add 12 = .ok (.iload_n 2, 1) := dk_28 (dk_at dksX4_add_0 12 rfl rfl)
theorem dX4_add_13 : decode cX4_add 13 = .ok (.bipush 102, 2) := dk_16 102 (dk_at dksX4_add_0 13 rfl rfl)
theorem dX4_add_15 : decode cX4_add 15 = .ok (.if_icmp .eq 9, 3) := dk_159 0 9 (dk_at dksX4_add_0 15 rfl rfl)
theorem dX4_add_18 : decode cX4_add 18 = .ok (.iload_n 2, 1) := dk_28 (dk_at dksX4_add_0 18 rfl rfl)
theorem dX4_add_19 : decode cX4_add 19 = .ok (.bipush 103, 2) := dk_16 103 (dk_at dksX4_add_0 19 rfl rfl)
theorem dX4_add_21 : decode cX4_add 21 = .ok (.if_icmp .ne 7, 3) := dk_160 0 7 (dk_at dksX4_add_0 21 rfl rfl)
theorem dX4_add_24 : decode cX4_add 24 = .ok (.iconst 1, 1) := dk_4 (dk_at dksX4_add_1 0 rfl rfl)
theorem dX4_add_25 : decode cX4_add 25 = .ok (.goto 4, 3) := dk_167 0 4 (dk_at dksX4_add_1 1 rfl rfl)
theorem dX4_add_28 : decode cX4_add 28 = .ok (.iconst 0, 1) := dk_3 (dk_at dksX4_add_1 4 rfl rfl)
theorem dX4_add_29 : decode cX4_add 29 = .ok (.istore_n 3, 1) := dk_62 (dk_at dksX4_add_1 5 rfl rfl)
theorem dX4_add_30 : decode cX4_add 30 = .ok (.aload_n 0, 1) := dk_42 (dk_at dksX4_add_1 6 rfl rfl)
theorem dX4_add_31 : decode cX4_add 31 = .ok (.aload_n 0, 1) := dk_42 (dk_at dksX4_add_1 7 rfl rfl)
theorem dX4_add_32 : decode cX4_add 32 = .ok (.iload_n 1, 1) := dk_27 (dk_at dksX4_add_1 8 rfl rfl)
theorem dX4_add_33 : decode cX4_add 33 = .ok (.invokevirtual 47, 3) := dk_182 0 47 (dk_at dksX4_add_1 9 rfl rfl)
theorem dX4_add_36 : decode cX4_add 36 = .ok (.ifCond .ne 7, 3) := dk_154 0 7 (dk_at dksX4_add_1 12 rfl rfl)
theorem dX4_add_39 : decode cX4_add 39 = .ok (.iconst 1, 1) := dk_4 (dk_at dksX4_add_1 15 rfl rfl)
theorem dX4_add_40 : decode cX4_add 40 = .ok (.goto 28, 3) := dk_167 0 28 (dk_at dksX4_add_1 16 rfl rfl)
theorem dX4_add_43 : decode cX4_add 43 = .ok (.iload_n 3, 1) := dk_29 (dk_at dksX4_add_1 19 rfl rfl)
theorem dX4_add_44 : decode cX4_add 44 = .ok (.ifCond .ne 7, 3) := dk_154 0 7 (dk_at dksX4_add_1 20 rfl rfl)
theorem dX4_add_47 : decode cX4_add 47 = .ok (.iconst 2, 1) := dk_5 (dk_at dksX4_add_1 23 rfl rfl)
theorem dX4_add_48 : decode cX4_add 48 = .ok (.goto 20, 3) := dk_167 0 20 (dk_at dksX4_add_2 0 rfl rfl)
theorem dX4_add_51 : decode cX4_add 51 = .ok (.aload_n 0, 1) := dk_42 (dk_at dksX4_add_2 3 rfl rfl)
theorem dX4_add_52 : decode cX4_add 52 = .ok (.getfield 10, 3) := dk_180 0 10 (dk_at dksX4_add_2 4 rfl rfl)
theorem dX4_add_55 : decode cX4_add 55 = .ok (.invokevirtual 39, 3) := dk_182 0 39 (dk_at dksX4_add_2 7 rfl rfl)
theorem dX4_add_58 : decode cX4_add 58 = .ok (.bipush 24, 2) := dk_16 24 (dk_at dksX4_add_2 10 rfl rfl)
theorem dX4_add_60 : decode cX4_add 60 = .ok (.if_icmp .ne 7, 3) := dk_160 0 7 (dk_at dksX4_add_2 12 rfl rfl)
theorem dX4_add_63 : decode cX4_add 63 = .ok (.iconst 3, 1) := dk_6 (dk_at dksX4_add_2 15 rfl rfl)
theorem dX4_add_64 : decode cX4_add 64 = .ok (.goto 4, 3) := dk_167 0 4 (dk_at dksX4_add_2 16 rfl rfl)
theorem dX4_add_67 : decode cX4_add 67 = .ok (.iconst 0, 1) := dk_3 (dk_at dksX4_add_2 19 rfl rfl)
theorem dX4_add_68 : decode cX4_add 68 = .ok (.putfield 16, 3) := dk_181 0 16 (dk_at dksX4_add_2 20 rfl rfl)
theorem dX4_add_71 : decode cX4_add 71 = .ok (.aload_n 0, 1) := dk_42 (dk_at dksX4_add_2 23 rfl rfl)
theorem dX4_add_72 : decode cX4_add 72 = .ok (.getfield 16, 3) := dk_180 0 16 (dk_at dksX4_add_3 0 rfl rfl)
theorem dX4_add_75 : decode cX4_add 75 = .ok (.ifCond .le 5, 3) := dk_158 0 5 (dk_at dksX4_add_3 3 rfl rfl)
theorem dX4_add_78 : decode cX4_add 78 = .ok (.iconst 0, 1) := dk_3 (dk_at dksX4_add_3 6 rfl rfl)
theorem dX4_add_79 : decode cX4_add 79 = .ok (.ireturn, 1) := dk_172 (dk_at dksX4_add_3 7 rfl rfl)
theorem dX4_add_80 : decode cX4_add 80 = .ok (.aload_n 0, 1) := dk_42 (dk_at dksX4_add_3 8 rfl rfl)
theorem dX4_add_81 : decode cX4_add 81 = .ok (.getfield 10, 3) := dk_180 0 10 (dk_at dksX4_add_3 9 rfl rfl)
theorem dX4_add_84 : decode cX4_add 84 = .ok (.iload_n 1, 1) := dk_27 (dk_at dksX4_add_3 12 rfl rfl)
theorem dX4_add_85 : decode cX4_add 85 = .ok (.invokevirtual 58, 3) := dk_182 0 58 (dk_at dksX4_add_3 13 rfl rfl)
theorem dX4_add_88 : decode cX4_add 88 = .ok (.checkcast 30, 3) := dk_192 0 30 (dk_at dksX4_add_3 16 rfl rfl)
theorem dX4_add_91 : decode cX4_add 91 = .ok (.astore 4, 2) := dk_58 4 (dk_at dksX4_add_3 19 rfl rfl)
theorem dX4_add_93 : decode cX4_add 93 = .ok (.aload_n 0, 1) := dk_42 (dk_at dksX4_add_3 21 rfl rfl)
theorem dX4_add_94 : decode cX4_add 94 = .ok (.aload 4, 2) := dk_25 4 (dk_at dksX4_add_3 22 rfl rfl)
theorem dX4_add_96 : decode cX4_add 96 = .ok (.getfield 62, 3) := dk_180 0 62 (dk_at dksX4_add_4 0 rfl rfl)
theorem dX4_add_99 : decode cX4_add 99 = .ok (.bipush 116, 2) := dk_16 116 (dk_at dksX4_add_4 3 rfl rfl)
theorem dX4_add_101 : decode cX4_add 101 = .ok (.if_icmp .eq 13, 3) := dk_159 0 13 (dk_at dksX4_add_4 5 rfl rfl)
theorem dX4_add_104 : decode cX4_add 104 = .ok (.aload 4, 2) := dk_25 4 (dk_at dksX4_add_4 8 rfl rfl)
theorem dX4_add_106 : decode cX4_add 106 = .ok (.getfield 66, 3) := dk_180 0 66 (dk_at dksX4_add_4 10 rfl rfl)
theorem dX4_add_109 : decode cX4_add 109 = .ok (.bipush 7, 2) := dk_16 7 (dk_at dksX4_add_4 13 rfl rfl)
theorem dX4_add_111 : decode cX4_add 111 = .ok (.if_icmp .ne 7, 3) := dk_160 0 7 (dk_at dksX4_add_4 15 rfl rfl)
theorem dX4_add_114 : decode cX4_add 114 = .ok (.iconst 4, 1) := dk_7 (dk_at dksX4_add_4 18 rfl rfl)
theorem dX4_add_115 : decode cX4_add 115 = .ok (.goto 4, 3) := dk_167 0 4 (dk_at dksX4_add_4 19 rfl rfl)
theorem dX4_add_118 : decode cX4_add 118 = .ok (.iconst 0, 1) := dk_3 (dk_at dksX4_add_4 22 rfl rfl)
theorem dX4_add_119 : decode cX4_add 119 = .ok (.putfield 16, 3) := dk_181 0 16 (dk_at dksX4_add_5 0 rfl rfl)
theorem dX4_add_122 : decode cX4_add 122 = .ok (.aload_n 0, 1) := dk_42 (dk_at dksX4_add_5 3 rfl rfl)
theorem dX4_add_123 : decode cX4_add 123 = .ok (.getfield 16, 3) := dk_180 0 16 (dk_at dksX4_add_5 4 rfl rfl)
theorem dX4_add_126 : decode cX4_add 126 = .ok (.ifCond .le 5, 3) := dk_158 0 5 (dk_at dksX4_add_5 7 rfl rfl)
theorem dX4_add_129 : decode cX4_add 129 = .ok (.iconst 0, 1) := dk_3 (dk_at dksX4_add_5 10 rfl rfl)
theorem dX4_add_130 : decode cX4_add 130 = .ok (.ireturn, 1) := dk_172 (dk_at dksX4_add_5 11 rfl rfl)
theorem dX4_add_131 : decode cX4_add 131 = .ok (.new 30, 3) := dk_187 0 30 (dk_at dksX4_add_5 12 rfl rfl)
theorem dX4_add_134 : decode cX4_add 134 = .ok (.dup, 1) := dk_89 (dk_at dksX4_add_5 15 rfl rfl)
theorem dX4_add_135 : decode cX4_add 135 = .ok (.aload_n 0, 1) := dk_42 (dk_at dksX4_add_5 16 rfl rfl)
theorem dX4_add_136 : decode cX4_add 136 = .ok (.getfield 10, 3) := dk_180 0 10 (dk_at dksX4_add_5 17 rfl rfl)
theorem dX4_add_139 : decode cX4_add 139 = .ok (.invokevirtual 39, 3) := dk_182 0 39 (dk_at dksX4_add_5 20 rfl rfl)
theorem dX4_add_142 : decode cX4_add 142 = .ok (.iload_n 2, 1) := dk_28 (dk_at dksX4_add_5 23 rfl rfl)
theorem dX4_add_143 : decode cX4_add 143 = .ok (.aload 4, 2) := dk_25 4 (dk_at dksX4_add_6 0 rfl rfl)
theorem dX4_add_145 : decode cX4_add 145 = .ok (.invokespecial 32, 3) := dk_183 0 32 (dk_at dksX4_add_6 2 rfl rfl)
theorem dX4_add_148 : decode cX4_add 148 = .ok (.astore 5, 2) := dk_58 5 (dk_at dksX4_add_6 5 rfl rfl)
theorem dX4_add_150 : decode cX4_add 150 = .ok (.aload 4, 2) := dk_25 4 (dk_at dksX4_add_6 7 rfl rfl)
theorem dX4_add_152 : decode cX4_add 152 = .ok (.getfield 69, 3) := dk_180 0 69 (dk_at dksX4_add_6 9 rfl rfl)
theorem dX4_add_155 : decode cX4_add 155 = .ok (.aload 5, 2) := dk_25 5 (dk_at dksX4_add_6 12 rfl rfl)
theorem dX4_add_157 : decode cX4_add 157 = .ok (.invokevirtual 35, 3) := dk_182 0 35 (dk_at dksX4_add_6 14 rfl rfl)
theorem dX4_add_160 : decode cX4_add 160 = .ok (.pop, 1) := dk_87 (dk_at dksX4_add_6 17 rfl rfl)
theorem dX4_add_161 : decode cX4_add 161 = .ok (.aload_n 0, 1) := dk_42 (dk_at dksX4_add_6 18 rfl rfl)
theorem dX4_add_162 : decode cX4_add 162 = .ok (.getfield 10, 3) := dk_180 0 10 (dk_at dksX4_add_6 19 rfl rfl)
theorem dX4_add_165 : decode cX4_add 165 = .ok (.aload 5, 2) := dk_25 5 (dk_at dksX4_add_6 22 rfl rfl)
theorem dX4_add_167 : decode cX4_add 167 = .ok (.invokevirtual 35, 3) := dk_182 0 35 (dk_at dksX4_add_7 0 rfl rfl)
theorem dX4_add_170 : decode cX4_add 170 = .ok (.pop, 1) := dk_87 (dk_at dksX4_add_7 3 rfl rfl)
theorem dX4_add_171 : decode cX4_add 171 = .ok (.aload_n 0, 1) := dk_42 (dk_at dksX4_add_7 4 rfl rfl)
theorem dX4_add_172 : decode cX4_add 172 = .ok (.aload 5, 2) := dk_25 5 (dk_at dksX4_add_7 5 rfl rfl)
theorem dX4_add_174 : decode cX4_add 174 = .ok (.invokevirtual 72, 3) := dk_182 0 72 (dk_at dksX4_add_7 7 rfl rfl)
theorem dX4_add_177 : decode cX4_add 177 = .ok (.aload 5, 2) := dk_25 5 (dk_at dksX4_add_7 10 rfl rfl)
theorem dX4_add_179 : decode cX4_add 179 = .ok (.getfield 76, 3) := dk_180 0 76 (dk_at dksX4_add_7 12 rfl rfl)
theorem dX4_add_182 : decode cX4_add 182 = .ok (.ireturn, 1) := dk_172 (dk_at dksX4_add_7 15 rfl rfl)
abbrev cX4_isBox : ByteArray := prog_14_method_4_code
def yX4_isBox : MethodName := ⟨RX4, "isBox", "(I)Z"⟩
def dkwX4_isBox_0 : List UInt8 := [27, 3, 42, 180, 0, 10, 182, 0, 39, 4, 100, 184, 0, 43, 172]
abbrev dktX4_isBox_0 : List UInt8 := dkwX4_isBox_0 ++ []
theorem dksX4_isBox_0 : cX4_isBox.data.toList.drop 0 = dktX4_isBox_0 := by decide +kernel
theorem dX4_isBox_0 : decode cX4_isBox 0 = .ok (.iload_n 1, 1) := dk_27 (dk_at dksX4_isBox_0 0 rfl rfl)
theorem dX4_isBox_1 : decode cX4_isBox 1 = .ok (.iconst 0, 1) := dk_3 (dk_at dksX4_isBox_0 1 rfl rfl)
theorem dX4_isBox_2 : decode cX4_isBox 2 = .ok (.aload_n 0, 1) := dk_42 (dk_at dksX4_isBox_0 2 rfl rfl)
theorem dX4_isBox_3 : decode cX4_isBox 3 = .ok (.getfield 10, 3) := dk_180 0 10 (dk_at dksX4_isBox_0 3 rfl rfl)
theorem dX4_isBox_6 : decode cX4_isBox 6 = .ok (.invokevirtual 39, 3) := dk_182 0 39 (dk_at dksX4_isBox_0 6 rfl rfl)
theorem dX4_isBox_9 : decode cX4_isBox 9 = .ok (.iconst 1, 1) := dk_4 (dk_at dksX4_isBox_0 9 rfl rfl)
theorem dX4_isBox_10 : decode cX4_isBox 10 = .ok (.isub, 1) := dk_100 (dk_at dksX4_isBox_0 10 rfl rfl)
theorem dX4_isBox_11 : decode cX4_isBox 11 = .ok (.invokestatic 43, 3) := dk_184 0 43 (dk_at dksX4_isBox_0 11 rfl rfl)
theorem dX4_isBox_14 : decode cX4_isBox 14 = .ok (.ireturn, 1) := dk_172 (dk_at dksX4_isBox_0 14 rfl rfl)
abbrev cX4_in : ByteArray := prog_14_method_3_code
def yX4_in : MethodName := ⟨RX4, "in", "(III)Z"⟩
def dkwX4_in_0 : List UInt8 := [26, 27, 161, 0, 12, 26, 28, 163, 0, 7, 4, 167, 0, 4, 3, 172]
abbrev dktX4_in_0 : List UInt8 := dkwX4_in_0 ++ []
theorem dksX4_in_0 : cX4_in.data.toList.drop 0 = dktX4_in_0 := by decide +kernel
theorem dX4_in_0 : decode cX4_in 0 = .ok (.iload_n 0, 1) := dk_26 (dk_at dksX4_in_0 0 rfl rfl)
theorem dX4_in_1 : decode cX4_in 1 = .ok (.iload_n 1, 1) := dk_27 (dk_at dksX4_in_0 1 rfl rfl)
theorem dX4_in_2 : decode cX4_in 2 = .ok (.if_icmp .lt 12, 3) := dk_161 0 12 (dk_at dksX4_in_0 2 rfl rfl)
theorem dX4_in_5 : decode cX4_in 5 = .ok (.iload_n 0, 1) := dk_26 (dk_at dksX4_in_0 5 rfl rfl)
theorem dX4_in_6 : decode cX4_in 6 = .ok (.iload_n 2, 1) := dk_28 (dk_at dksX4_in_0 6 rfl rfl)
theorem dX4_in_7 : decode cX4_in 7 = .ok (.if_icmp .gt 7, 3) := dk_163 0 7 (dk_at dksX4_in_0 7 rfl rfl)
theorem dX4_in_10 : decode cX4_in 10 = .ok (.iconst 1, 1) := dk_4 (dk_at dksX4_in_0 10 rfl rfl)
theorem dX4_in_11 : decode cX4_in 11 = .ok (.goto 4, 3) := dk_167 0 4 (dk_at dksX4_in_0 11 rfl rfl)
theorem dX4_in_14 : decode cX4_in 14 = .ok (.iconst 0, 1) := dk_3 (dk_at dksX4_in_0 14 rfl rfl)
theorem dX4_in_15 : decode cX4_in 15 = .ok (.ireturn, 1) := dk_172 (dk_at dksX4_in_0 15 rfl rfl)
abbrev cX4_mark : ByteArray := prog_14_method_6_code
def yX4_mark : MethodName := ⟨RX4, "mark", "(LColumnarPressModel$Box;)V"⟩
def dkwX4_mark_1 : List UInt8 := [177]
abbrev dktX4_mark_1 : List UInt8 := dkwX4_mark_1 ++ []
def dkwX4_mark_0 : List UInt8 := [43, 77, 44, 198, 0, 16, 44, 4, 181, 0, 51, 44, 180, 0, 54, 77, 167, 255, 242, 42, 3, 181, 0, 26]
abbrev dktX4_mark_0 : List UInt8 := dkwX4_mark_0 ++ dktX4_mark_1
theorem dksX4_mark_0 : cX4_mark.data.toList.drop 0 = dktX4_mark_0 := by decide +kernel
theorem dksX4_mark_1 : cX4_mark.data.toList.drop 24 = dktX4_mark_1 := dk_seg dksX4_mark_0 24 rfl rfl
theorem dX4_mark_0 : decode cX4_mark 0 = .ok (.aload_n 1, 1) := dk_43 (dk_at dksX4_mark_0 0 rfl rfl)
theorem dX4_mark_1 : decode cX4_mark 1 = .ok (.astore_n 2, 1) := dk_77 (dk_at dksX4_mark_0 1 rfl rfl)
theorem dX4_mark_2 : decode cX4_mark 2 = .ok (.aload_n 2, 1) := dk_44 (dk_at dksX4_mark_0 2 rfl rfl)
theorem dX4_mark_3 : decode cX4_mark 3 = .ok (.ifnull 16, 3) := dk_198 0 16 (dk_at dksX4_mark_0 3 rfl rfl)
theorem dX4_mark_6 : decode cX4_mark 6 = .ok (.aload_n 2, 1) := dk_44 (dk_at dksX4_mark_0 6 rfl rfl)
theorem dX4_mark_7 : decode cX4_mark 7 = .ok (.iconst 1, 1) := dk_4 (dk_at dksX4_mark_0 7 rfl rfl)
theorem dX4_mark_8 : decode cX4_mark 8 = .ok (.putfield 51, 3) := dk_181 0 51 (dk_at dksX4_mark_0 8 rfl rfl)
theorem dX4_mark_11 : decode cX4_mark 11 = .ok (.aload_n 2, 1) := dk_44 (dk_at dksX4_mark_0 11 rfl rfl)
theorem dX4_mark_12 : decode cX4_mark 12 = .ok (.getfield 54, 3) := dk_180 0 54 (dk_at dksX4_mark_0 12 rfl rfl)
theorem dX4_mark_15 : decode cX4_mark 15 = .ok (.astore_n 2, 1) := dk_77 (dk_at dksX4_mark_0 15 rfl rfl)
theorem dX4_mark_16 : decode cX4_mark 16 = .ok (.goto (-14), 3) := dk_167 255 242 (dk_at dksX4_mark_0 16 rfl rfl)
theorem dX4_mark_19 : decode cX4_mark 19 = .ok (.aload_n 0, 1) := dk_42 (dk_at dksX4_mark_0 19 rfl rfl)
theorem dX4_mark_20 : decode cX4_mark 20 = .ok (.iconst 0, 1) := dk_3 (dk_at dksX4_mark_0 20 rfl rfl)
theorem dX4_mark_21 : decode cX4_mark 21 = .ok (.putfield 26, 3) := dk_181 0 26 (dk_at dksX4_mark_0 21 rfl rfl)
theorem dX4_mark_24 : decode cX4_mark 24 = .ok (.return_, 1) := dk_177 (dk_at dksX4_mark_1 0 rfl rfl)
abbrev cX4_addWord : ByteArray := prog_14_method_8_code
def yX4_addWord : MethodName := ⟨RX4, "addWord", "(II)I"⟩
def dkwX4_addWord_4 : List UInt8 := [180, 0, 83, 182, 0, 39, 172]
abbrev dktX4_addWord_4 : List UInt8 := dkwX4_addWord_4 ++ []
def dkwX4_addWord_3 : List UInt8 := [158, 0, 5, 3, 172, 45, 180, 0, 83, 28, 184, 0, 86, 182, 0, 35, 87, 42, 45, 182, 0, 72, 45]
abbrev dktX4_addWord_3 : List UInt8 := dkwX4_addWord_3 ++ dktX4_addWord_4
def dkwX4_addWord_2 : List UInt8 := [180, 0, 83, 182, 0, 39, 16, 20, 160, 0, 7, 7, 167, 0, 4, 3, 181, 0, 16, 42, 180, 0, 16]
abbrev dktX4_addWord_2 : List UInt8 := dkwX4_addWord_2 ++ dktX4_addWord_3
def dkwX4_addWord_1 : List UInt8 := [182, 0, 58, 192, 0, 30, 78, 42, 45, 180, 0, 62, 16, 116, 159, 0, 7, 6, 167, 0, 20, 45]
abbrev dktX4_addWord_1 : List UInt8 := dkwX4_addWord_1 ++ dktX4_addWord_2
def dkwX4_addWord_0 : List UInt8 := [42, 27, 28, 4, 16, 60, 184, 0, 43, 182, 0, 79, 158, 0, 5, 3, 172, 42, 180, 0, 10, 27]
abbrev dktX4_addWord_0 : List UInt8 := dkwX4_addWord_0 ++ dktX4_addWord_1
theorem dksX4_addWord_0 : cX4_addWord.data.toList.drop 0 = dktX4_addWord_0 := by decide +kernel
theorem dksX4_addWord_1 : cX4_addWord.data.toList.drop 22 = dktX4_addWord_1 := dk_seg dksX4_addWord_0 22 rfl rfl
theorem dksX4_addWord_2 : cX4_addWord.data.toList.drop 44 = dktX4_addWord_2 := dk_seg dksX4_addWord_1 22 rfl rfl
theorem dksX4_addWord_3 : cX4_addWord.data.toList.drop 67 = dktX4_addWord_3 := dk_seg dksX4_addWord_2 23 rfl rfl
theorem dksX4_addWord_4 : cX4_addWord.data.toList.drop 90 = dktX4_addWord_4 := dk_seg dksX4_addWord_3 23 rfl rfl
theorem dX4_addWord_0 : decode cX4_addWord 0 = .ok (.aload_n 0, 1) := dk_42 (dk_at dksX4_addWord_0 0 rfl rfl)
theorem dX4_addWord_1 : decode cX4_addWord 1 = .ok (.iload_n 1, 1) := dk_27 (dk_at dksX4_addWord_0 1 rfl rfl)
theorem dX4_addWord_2 : decode cX4_addWord 2 = .ok (.iload_n 2, 1) := dk_28 (dk_at dksX4_addWord_0 2 rfl rfl)
theorem dX4_addWord_3 : decode cX4_addWord 3 = .ok (.iconst 1, 1) := dk_4 (dk_at dksX4_addWord_0 3 rfl rfl)
theorem dX4_addWord_4 : decode cX4_addWord 4 = .ok (.bipush 60, 2) := dk_16 60 (dk_at dksX4_addWord_0 4 rfl rfl)
theorem dX4_addWord_6 : decode cX4_addWord 6 = .ok (.invokestatic 43, 3) := dk_184 0 43 (dk_at dksX4_addWord_0 6 rfl rfl)
theorem dX4_addWord_9 : decode cX4_addWord 9 = .ok (.invokevirtual 79, 3) := dk_182 0 79 (dk_at dksX4_addWord_0 9 rfl rfl)
theorem dX4_addWord_12 : decode cX4_addWord 12 = .ok (.ifCond .le 5, 3) := dk_158 0 5 (dk_at dksX4_addWord_0 12 rfl rfl)
theorem dX4_addWord_15 : decode cX4_addWord 15 = .ok (.iconst 0, 1) := dk_3 (dk_at dksX4_addWord_0 15 rfl rfl)
theorem dX4_addWord_16 : decode cX4_addWord 16 = .ok (.ireturn, 1) := dk_172 (dk_at dksX4_addWord_0 16 rfl rfl)
theorem dX4_addWord_17 : decode cX4_addWord 17 = .ok (.aload_n 0, 1) := dk_42 (dk_at dksX4_addWord_0 17 rfl rfl)
theorem dX4_addWord_18 : decode cX4_addWord 18 = .ok (.getfield 10, 3) := dk_180 0 10 (dk_at dksX4_addWord_0 18 rfl rfl)
theorem dX4_addWord_21 : decode cX4_addWord 21 = .ok (.iload_n 1, 1) := dk_27 (dk_at dksX4_addWord_0 21 rfl rfl)
theorem dX4_addWord_22 : decode cX4_addWord 22 = .ok (.invokevirtual 58, 3) := dk_182 0 58 (dk_at dksX4_addWord_1 0 rfl rfl)
theorem dX4_addWord_25 : decode cX4_addWord 25 = .ok (.checkcast 30, 3) := dk_192 0 30 (dk_at dksX4_addWord_1 3 rfl rfl)
theorem dX4_addWord_28 : decode cX4_addWord 28 = .ok (.astore_n 3, 1) := dk_78 (dk_at dksX4_addWord_1 6 rfl rfl)
theorem dX4_addWord_29 : decode cX4_addWord 29 = .ok (.aload_n 0, 1) := dk_42 (dk_at dksX4_addWord_1 7 rfl rfl)
theorem dX4_addWord_30 : decode cX4_addWord 30 = .ok (.aload_n 3, 1) := dk_45 (dk_at dksX4_addWord_1 8 rfl rfl)
theorem dX4_addWord_31 : decode cX4_addWord 31 = .ok (.getfield 62, 3) := dk_180 0 62 (dk_at dksX4_addWord_1 9 rfl rfl)
theorem dX4_addWord_34 : decode cX4_addWord 34 = .ok (.bipush 116, 2) := dk_16 116 (dk_at dksX4_addWord_1 12 rfl rfl)
theorem dX4_addWord_36 : decode cX4_addWord 36 = .ok (.if_icmp .eq 7, 3) := dk_159 0 7 (dk_at dksX4_addWord_1 14 rfl rfl)
theorem dX4_addWord_39 : decode cX4_addWord 39 = .ok (.iconst 3, 1) := dk_6 (dk_at dksX4_addWord_1 17 rfl rfl)
theorem dX4_addWord_40 : decode cX4_addWord 40 = .ok (.goto 20, 3) := dk_167 0 20 (dk_at dksX4_addWord_1 18 rfl rfl)
theorem dX4_addWord_43 : decode cX4_addWord 43 = .ok (.aload_n 3, 1) := dk_45 (dk_at dksX4_addWord_1 21 rfl rfl)
theorem dX4_addWord_44 : decode cX4_addWord 44 = .ok (.getfield 83, 3) := dk_180 0 83 (dk_at dksX4_addWord_2 0 rfl rfl)
theorem dX4_addWord_47 : decode cX4_addWord 47 = .ok (.invokevirtual 39, 3) := dk_182 0 39 (dk_at dksX4_addWord_2 3 rfl rfl)
theorem dX4_addWord_50 : decode cX4_addWord 50 = .ok (.bipush 20, 2) := dk_16 20 (dk_at dksX4_addWord_2 6 rfl rfl)
theorem dX4_addWord_52 : decode cX4_addWord 52 = .ok (.if_icmp .ne 7, 3) := dk_160 0 7 (dk_at dksX4_addWord_2 8 rfl rfl)
theorem dX4_addWord_55 : decode cX4_addWord 55 = .ok (.iconst 4, 1) := dk_7 (dk_at dksX4_addWord_2 11 rfl rfl)
theorem dX4_addWord_56 : decode cX4_addWord 56 = .ok (.goto 4, 3) := dk_167 0 4 (dk_at dksX4_addWord_2 12 rfl rfl)
theorem dX4_addWord_59 : decode cX4_addWord 59 = .ok (.iconst 0, 1) := dk_3 (dk_at dksX4_addWord_2 15 rfl rfl)
theorem dX4_addWord_60 : decode cX4_addWord 60 = .ok (.putfield 16, 3) := dk_181 0 16 (dk_at dksX4_addWord_2 16 rfl rfl)
theorem dX4_addWord_63 : decode cX4_addWord 63 = .ok (.aload_n 0, 1) := dk_42 (dk_at dksX4_addWord_2 19 rfl rfl)
theorem dX4_addWord_64 : decode cX4_addWord 64 = .ok (.getfield 16, 3) := dk_180 0 16 (dk_at dksX4_addWord_2 20 rfl rfl)
theorem dX4_addWord_67 : decode cX4_addWord 67 = .ok (.ifCond .le 5, 3) := dk_158 0 5 (dk_at dksX4_addWord_3 0 rfl rfl)
theorem dX4_addWord_70 : decode cX4_addWord 70 = .ok (.iconst 0, 1) := dk_3 (dk_at dksX4_addWord_3 3 rfl rfl)
theorem dX4_addWord_71 : decode cX4_addWord 71 = .ok (.ireturn, 1) := dk_172 (dk_at dksX4_addWord_3 4 rfl rfl)
theorem dX4_addWord_72 : decode cX4_addWord 72 = .ok (.aload_n 3, 1) := dk_45 (dk_at dksX4_addWord_3 5 rfl rfl)
theorem dX4_addWord_73 : decode cX4_addWord 73 = .ok (.getfield 83, 3) := dk_180 0 83 (dk_at dksX4_addWord_3 6 rfl rfl)
theorem dX4_addWord_76 : decode cX4_addWord 76 = .ok (.iload_n 2, 1) := dk_28 (dk_at dksX4_addWord_3 9 rfl rfl)
theorem dX4_addWord_77 : decode cX4_addWord 77 = .ok (.invokestatic 86, 3) := dk_184 0 86 (dk_at dksX4_addWord_3 10 rfl rfl)
theorem dX4_addWord_80 : decode cX4_addWord 80 = .ok (.invokevirtual 35, 3) := dk_182 0 35 (dk_at dksX4_addWord_3 13 rfl rfl)
theorem dX4_addWord_83 : decode cX4_addWord 83 = .ok (.pop, 1) := dk_87 (dk_at dksX4_addWord_3 16 rfl rfl)
theorem dX4_addWord_84 : decode cX4_addWord 84 = .ok (.aload_n 0, 1) := dk_42 (dk_at dksX4_addWord_3 17 rfl rfl)
theorem dX4_addWord_85 : decode cX4_addWord 85 = .ok (.aload_n 3, 1) := dk_45 (dk_at dksX4_addWord_3 18 rfl rfl)
theorem dX4_addWord_86 : decode cX4_addWord 86 = .ok (.invokevirtual 72, 3) := dk_182 0 72 (dk_at dksX4_addWord_3 19 rfl rfl)
theorem dX4_addWord_89 : decode cX4_addWord 89 = .ok (.aload_n 3, 1) := dk_45 (dk_at dksX4_addWord_3 22 rfl rfl)
theorem dX4_addWord_90 : decode cX4_addWord 90 = .ok (.getfield 83, 3) := dk_180 0 83 (dk_at dksX4_addWord_4 0 rfl rfl)
theorem dX4_addWord_93 : decode cX4_addWord 93 = .ok (.invokevirtual 39, 3) := dk_182 0 39 (dk_at dksX4_addWord_4 3 rfl rfl)
theorem dX4_addWord_96 : decode cX4_addWord 96 = .ok (.ireturn, 1) := dk_172 (dk_at dksX4_addWord_4 6 rfl rfl)
abbrev cX4_wrong : ByteArray := prog_14_method_5_code
def yX4_wrong : MethodName := ⟨RX4, "wrong", "(IZ)I"⟩
def dkwX4_wrong_1 : List UInt8 := [181, 0, 16, 42, 180, 0, 16, 172]
abbrev dktX4_wrong_1 : List UInt8 := dkwX4_wrong_1 ++ []
def dkwX4_wrong_0 : List UInt8 := [42, 42, 27, 182, 0, 47, 154, 0, 7, 4, 167, 0, 12, 28, 153, 0, 7, 3, 167, 0, 4, 5]
abbrev dktX4_wrong_0 : List UInt8 := dkwX4_wrong_0 ++ dktX4_wrong_1
theorem dksX4_wrong_0 : cX4_wrong.data.toList.drop 0 = dktX4_wrong_0 := by decide +kernel
theorem dksX4_wrong_1 : cX4_wrong.data.toList.drop 22 = dktX4_wrong_1 := dk_seg dksX4_wrong_0 22 rfl rfl
theorem dX4_wrong_0 : decode cX4_wrong 0 = .ok (.aload_n 0, 1) := dk_42 (dk_at dksX4_wrong_0 0 rfl rfl)
theorem dX4_wrong_1 : decode cX4_wrong 1 = .ok (.aload_n 0, 1) := dk_42 (dk_at dksX4_wrong_0 1 rfl rfl)
theorem dX4_wrong_2 : decode cX4_wrong 2 = .ok (.iload_n 1, 1) := dk_27 (dk_at dksX4_wrong_0 2 rfl rfl)
theorem dX4_wrong_3 : decode cX4_wrong 3 = .ok (.invokevirtual 47, 3) := dk_182 0 47 (dk_at dksX4_wrong_0 3 rfl rfl)
theorem dX4_wrong_6 : decode cX4_wrong 6 = .ok (.ifCond .ne 7, 3) := dk_154 0 7 (dk_at dksX4_wrong_0 6 rfl rfl)
theorem dX4_wrong_9 : decode cX4_wrong 9 = .ok (.iconst 1, 1) := dk_4 (dk_at dksX4_wrong_0 9 rfl rfl)
theorem dX4_wrong_10 : decode cX4_wrong 10 = .ok (.goto 12, 3) := dk_167 0 12 (dk_at dksX4_wrong_0 10 rfl rfl)
theorem dX4_wrong_13 : decode cX4_wrong 13 = .ok (.iload_n 2, 1) := dk_28 (dk_at dksX4_wrong_0 13 rfl rfl)
theorem dX4_wrong_14 : decode cX4_wrong 14 = .ok (.ifCond .eq 7, 3) := dk_153 0 7 (dk_at dksX4_wrong_0 14 rfl rfl)
theorem dX4_wrong_17 : decode cX4_wrong 17 = .ok (.iconst 0, 1) := dk_3 (dk_at dksX4_wrong_0 17 rfl rfl)
theorem dX4_wrong_18 : decode cX4_wrong 18 = .ok (.goto 4, 3) := dk_167 0 4 (dk_at dksX4_wrong_0 18 rfl rfl)
theorem dX4_wrong_21 : decode cX4_wrong 21 = .ok (.iconst 2, 1) := dk_5 (dk_at dksX4_wrong_0 21 rfl rfl)
theorem dX4_wrong_22 : decode cX4_wrong 22 = .ok (.putfield 16, 3) := dk_181 0 16 (dk_at dksX4_wrong_1 0 rfl rfl)
theorem dX4_wrong_25 : decode cX4_wrong 25 = .ok (.aload_n 0, 1) := dk_42 (dk_at dksX4_wrong_1 3 rfl rfl)
theorem dX4_wrong_26 : decode cX4_wrong 26 = .ok (.getfield 16, 3) := dk_180 0 16 (dk_at dksX4_wrong_1 4 rfl rfl)
theorem dX4_wrong_29 : decode cX4_wrong 29 = .ok (.ireturn, 1) := dk_172 (dk_at dksX4_wrong_1 7 rfl rfl)
abbrev cX4_setSize : ByteArray := prog_14_method_9_code
def yX4_setSize : MethodName := ⟨RX4, "setSize", "(III)I"⟩
def dkwX4_setSize_3 : List UInt8 := [182, 0, 72, 21, 5, 172]
abbrev dktX4_setSize_3 : List UInt8 := dkwX4_setSize_3 ++ []
def dkwX4_setSize_2 : List UInt8 := [58, 4, 25, 4, 180, 0, 92, 54, 5, 25, 4, 28, 181, 0, 92, 25, 4, 29, 181, 0, 95, 42, 25, 4]
abbrev dktX4_setSize_2 : List UInt8 := dkwX4_setSize_2 ++ dktX4_setSize_3
def dkwX4_setSize_1 : List UInt8 := [4, 167, 0, 4, 3, 182, 0, 79, 158, 0, 5, 3, 172, 42, 180, 0, 10, 27, 182, 0, 58, 192, 0, 30]
abbrev dktX4_setSize_1 : List UInt8 := dkwX4_setSize_1 ++ dktX4_setSize_2
def dkwX4_setSize_0 : List UInt8 := [42, 27, 28, 2, 17, 1, 144, 184, 0, 43, 153, 0, 18, 29, 2, 17, 1, 144, 184, 0, 43, 153, 0, 7]
abbrev dktX4_setSize_0 : List UInt8 := dkwX4_setSize_0 ++ dktX4_setSize_1
theorem dksX4_setSize_0 : cX4_setSize.data.toList.drop 0 = dktX4_setSize_0 := by decide +kernel
theorem dksX4_setSize_1 : cX4_setSize.data.toList.drop 24 = dktX4_setSize_1 := dk_seg dksX4_setSize_0 24 rfl rfl
theorem dksX4_setSize_2 : cX4_setSize.data.toList.drop 48 = dktX4_setSize_2 := dk_seg dksX4_setSize_1 24 rfl rfl
theorem dksX4_setSize_3 : cX4_setSize.data.toList.drop 72 = dktX4_setSize_3 := dk_seg dksX4_setSize_2 24 rfl rfl
theorem dX4_setSize_0 : decode cX4_setSize 0 = .ok (.aload_n 0, 1) := dk_42 (dk_at dksX4_setSize_0 0 rfl rfl)
theorem dX4_setSize_1 : decode cX4_setSize 1 = .ok (.iload_n 1, 1) := dk_27 (dk_at dksX4_setSize_0 1 rfl rfl)
theorem dX4_setSize_2 : decode cX4_setSize 2 = .ok (.iload_n 2, 1) := dk_28 (dk_at dksX4_setSize_0 2 rfl rfl)
theorem dX4_setSize_3 : decode cX4_setSize 3 = .ok (.iconst (-1), 1) := dk_2 (dk_at dksX4_setSize_0 3 rfl rfl)
theorem dX4_setSize_4 : decode cX4_setSize 4 = .ok (.sipush 400, 3) := dk_17 1 144 (dk_at dksX4_setSize_0 4 rfl rfl)
theorem dX4_setSize_7 : decode cX4_setSize 7 = .ok (.invokestatic 43, 3) := dk_184 0 43 (dk_at dksX4_setSize_0 7 rfl rfl)
theorem dX4_setSize_10 : decode cX4_setSize 10 = .ok (.ifCond .eq 18, 3) := dk_153 0 18 (dk_at dksX4_setSize_0 10 rfl rfl)
theorem dX4_setSize_13 : decode cX4_setSize 13 = .ok (.iload_n 3, 1) := dk_29 (dk_at dksX4_setSize_0 13 rfl rfl)
theorem dX4_setSize_14 : decode cX4_setSize 14 = .ok (.iconst (-1), 1) := dk_2 (dk_at dksX4_setSize_0 14 rfl rfl)
theorem dX4_setSize_15 : decode cX4_setSize 15 = .ok (.sipush 400, 3) := dk_17 1 144 (dk_at dksX4_setSize_0 15 rfl rfl)
theorem dX4_setSize_18 : decode cX4_setSize 18 = .ok (.invokestatic 43, 3) := dk_184 0 43 (dk_at dksX4_setSize_0 18 rfl rfl)
theorem dX4_setSize_21 : decode cX4_setSize 21 = .ok (.ifCond .eq 7, 3) := dk_153 0 7 (dk_at dksX4_setSize_0 21 rfl rfl)
theorem dX4_setSize_24 : decode cX4_setSize 24 = .ok (.iconst 1, 1) := dk_4 (dk_at dksX4_setSize_1 0 rfl rfl)
theorem dX4_setSize_25 : decode cX4_setSize 25 = .ok (.goto 4, 3) := dk_167 0 4 (dk_at dksX4_setSize_1 1 rfl rfl)
theorem dX4_setSize_28 : decode cX4_setSize 28 = .ok (.iconst 0, 1) := dk_3 (dk_at dksX4_setSize_1 4 rfl rfl)
theorem dX4_setSize_29 : decode cX4_setSize 29 = .ok (.invokevirtual 79, 3) := dk_182 0 79 (dk_at dksX4_setSize_1 5 rfl rfl)
theorem dX4_setSize_32 : decode cX4_setSize 32 = .ok (.ifCond .le 5, 3) := dk_158 0 5 (dk_at dksX4_setSize_1 8 rfl rfl)
theorem dX4_setSize_35 : decode cX4_setSize 35 = .ok (.iconst 0, 1) := dk_3 (dk_at dksX4_setSize_1 11 rfl rfl)
theorem dX4_setSize_36 : decode cX4_setSize 36 = .ok (.ireturn, 1) := dk_172 (dk_at dksX4_setSize_1 12 rfl rfl)
theorem dX4_setSize_37 : decode cX4_setSize 37 = .ok (.aload_n 0, 1) := dk_42 (dk_at dksX4_setSize_1 13 rfl rfl)
theorem dX4_setSize_38 : decode cX4_setSize 38 = .ok (.getfield 10, 3) := dk_180 0 10 (dk_at dksX4_setSize_1 14 rfl rfl)
theorem dX4_setSize_41 : decode cX4_setSize 41 = .ok (.iload_n 1, 1) := dk_27 (dk_at dksX4_setSize_1 17 rfl rfl)
theorem dX4_setSize_42 : decode cX4_setSize 42 = .ok (.invokevirtual 58, 3) := dk_182 0 58 (dk_at dksX4_setSize_1 18 rfl rfl)
theorem dX4_setSize_45 : decode cX4_setSize 45 = .ok (.checkcast 30, 3) := dk_192 0 30 (dk_at dksX4_setSize_1 21 rfl rfl)
theorem dX4_setSize_48 : decode cX4_setSize 48 = .ok (.astore 4, 2) := dk_58 4 (dk_at dksX4_setSize_2 0 rfl rfl)
theorem dX4_setSize_50 : decode cX4_setSize 50 = .ok (.aload 4, 2) := dk_25 4 (dk_at dksX4_setSize_2 2 rfl rfl)
theorem dX4_setSize_52 : decode cX4_setSize 52 = .ok (.getfield 92, 3) := dk_180 0 92 (dk_at dksX4_setSize_2 4 rfl rfl)
theorem dX4_setSize_55 : decode cX4_setSize 55 = .ok (.istore 5, 2) := dk_54 5 (dk_at dksX4_setSize_2 7 rfl rfl)
theorem dX4_setSize_57 : decode cX4_setSize 57 = .ok (.aload 4, 2) := dk_25 4 (dk_at dksX4_setSize_2 9 rfl rfl)
theorem dX4_setSize_59 : decode cX4_setSize 59 = .ok (.iload_n 2, 1) := dk_28 (dk_at dksX4_setSize_2 11 rfl rfl)
theorem dX4_setSize_60 : decode cX4_setSize 60 = .ok (.putfield 92, 3) := dk_181 0 92 (dk_at dksX4_setSize_2 12 rfl rfl)
theorem dX4_setSize_63 : decode cX4_setSize 63 = .ok (.aload 4, 2) := dk_25 4 (dk_at dksX4_setSize_2 15 rfl rfl)
theorem dX4_setSize_65 : decode cX4_setSize 65 = .ok (.iload_n 3, 1) := dk_29 (dk_at dksX4_setSize_2 17 rfl rfl)
theorem dX4_setSize_66 : decode cX4_setSize 66 = .ok (.putfield 95, 3) := dk_181 0 95 (dk_at dksX4_setSize_2 18 rfl rfl)
theorem dX4_setSize_69 : decode cX4_setSize 69 = .ok (.aload_n 0, 1) := dk_42 (dk_at dksX4_setSize_2 21 rfl rfl)
theorem dX4_setSize_70 : decode cX4_setSize 70 = .ok (.aload 4, 2) := dk_25 4 (dk_at dksX4_setSize_2 22 rfl rfl)
theorem dX4_setSize_72 : decode cX4_setSize 72 = .ok (.invokevirtual 72, 3) := dk_182 0 72 (dk_at dksX4_setSize_3 0 rfl rfl)
theorem dX4_setSize_75 : decode cX4_setSize 75 = .ok (.iload 5, 2) := dk_21 5 (dk_at dksX4_setSize_3 3 rfl rfl)
theorem dX4_setSize_77 : decode cX4_setSize 77 = .ok (.ireturn, 1) := dk_172 (dk_at dksX4_setSize_3 5 rfl rfl)
abbrev cX4_setMargins : ByteArray := prog_14_method_10_code
def yX4_setMargins : MethodName := ⟨RX4, "setMargins", "(IIIII)I"⟩
def dkwX4_setMargins_4 : List UInt8 := [21, 4, 181, 0, 104, 25, 6, 21, 5, 181, 0, 107, 42, 25, 6, 182, 0, 72, 21, 7, 172]
abbrev dktX4_setMargins_4 : List UInt8 := dkwX4_setMargins_4 ++ []
def dkwX4_setMargins_3 : List UInt8 := [58, 6, 25, 6, 180, 0, 98, 54, 7, 25, 6, 28, 181, 0, 98, 25, 6, 29, 181, 0, 101, 25, 6]
abbrev dktX4_setMargins_3 : List UInt8 := dkwX4_setMargins_3 ++ dktX4_setMargins_4
def dkwX4_setMargins_2 : List UInt8 := [167, 0, 4, 3, 182, 0, 79, 158, 0, 5, 3, 172, 42, 180, 0, 10, 27, 182, 0, 58, 192, 0, 30]
abbrev dktX4_setMargins_2 : List UInt8 := dkwX4_setMargins_2 ++ dktX4_setMargins_3
def dkwX4_setMargins_1 : List UInt8 := [21, 4, 3, 16, 40, 184, 0, 43, 153, 0, 18, 21, 5, 3, 16, 40, 184, 0, 43, 153, 0, 7, 4]
abbrev dktX4_setMargins_1 : List UInt8 := dkwX4_setMargins_1 ++ dktX4_setMargins_2
def dkwX4_setMargins_0 : List UInt8 := [42, 27, 28, 16, 216, 16, 40, 184, 0, 43, 153, 0, 40, 29, 16, 216, 16, 40, 184, 0, 43, 153, 0, 29]
abbrev dktX4_setMargins_0 : List UInt8 := dkwX4_setMargins_0 ++ dktX4_setMargins_1
theorem dksX4_setMargins_0 : cX4_setMargins.data.toList.drop 0 = dktX4_setMargins_0 := by decide +kernel
theorem dksX4_setMargins_1 : cX4_setMargins.data.toList.drop 24 = dktX4_setMargins_1 := dk_seg dksX4_setMargins_0 24 rfl rfl
theorem dksX4_setMargins_2 : cX4_setMargins.data.toList.drop 47 = dktX4_setMargins_2 := dk_seg dksX4_setMargins_1 23 rfl rfl
theorem dksX4_setMargins_3 : cX4_setMargins.data.toList.drop 70 = dktX4_setMargins_3 := dk_seg dksX4_setMargins_2 23 rfl rfl
theorem dksX4_setMargins_4 : cX4_setMargins.data.toList.drop 93 = dktX4_setMargins_4 := dk_seg dksX4_setMargins_3 23 rfl rfl
theorem dX4_setMargins_0 : decode cX4_setMargins 0 = .ok (.aload_n 0, 1) := dk_42 (dk_at dksX4_setMargins_0 0 rfl rfl)
theorem dX4_setMargins_1 : decode cX4_setMargins 1 = .ok (.iload_n 1, 1) := dk_27 (dk_at dksX4_setMargins_0 1 rfl rfl)
theorem dX4_setMargins_2 : decode cX4_setMargins 2 = .ok (.iload_n 2, 1) := dk_28 (dk_at dksX4_setMargins_0 2 rfl rfl)
theorem dX4_setMargins_3 : decode cX4_setMargins 3 = .ok (.bipush (-40), 2) := dk_16 216 (dk_at dksX4_setMargins_0 3 rfl rfl)
theorem dX4_setMargins_5 : decode cX4_setMargins 5 = .ok (.bipush 40, 2) := dk_16 40 (dk_at dksX4_setMargins_0 5 rfl rfl)
theorem dX4_setMargins_7 : decode cX4_setMargins 7 = .ok (.invokestatic 43, 3) := dk_184 0 43 (dk_at dksX4_setMargins_0 7 rfl rfl)
theorem dX4_setMargins_10 : decode cX4_setMargins 10 = .ok (.ifCond .eq 40, 3) := dk_153 0 40 (dk_at dksX4_setMargins_0 10 rfl rfl)
theorem dX4_setMargins_13 : decode cX4_setMargins 13 = .ok (.iload_n 3, 1) := dk_29 (dk_at dksX4_setMargins_0 13 rfl rfl)
theorem dX4_setMargins_14 : decode cX4_setMargins 14 = .ok (.bipush (-40), 2) := dk_16 216 (dk_at dksX4_setMargins_0 14 rfl rfl)
theorem dX4_setMargins_16 : decode cX4_setMargins 16 = .ok (.bipush 40, 2) := dk_16 40 (dk_at dksX4_setMargins_0 16 rfl rfl)
theorem dX4_setMargins_18 : decode cX4_setMargins 18 = .ok (.invokestatic 43, 3) := dk_184 0 43 (dk_at dksX4_setMargins_0 18 rfl rfl)
theorem dX4_setMargins_21 : decode cX4_setMargins 21 = .ok (.ifCond .eq 29, 3) := dk_153 0 29 (dk_at dksX4_setMargins_0 21 rfl rfl)
theorem dX4_setMargins_24 : decode cX4_setMargins 24 = .ok (.iload 4, 2) := dk_21 4 (dk_at dksX4_setMargins_1 0 rfl rfl)
theorem dX4_setMargins_26 : decode cX4_setMargins 26 = .ok (.iconst 0, 1) := dk_3 (dk_at dksX4_setMargins_1 2 rfl rfl)
theorem dX4_setMargins_27 : decode cX4_setMargins 27 = .ok (.bipush 40, 2) := dk_16 40 (dk_at dksX4_setMargins_1 3 rfl rfl)
theorem dX4_setMargins_29 : decode cX4_setMargins 29 = .ok (.invokestatic 43, 3) := dk_184 0 43 (dk_at dksX4_setMargins_1 5 rfl rfl)
theorem dX4_setMargins_32 : decode cX4_setMargins 32 = .ok (.ifCond .eq 18, 3) := dk_153 0 18 (dk_at dksX4_setMargins_1 8 rfl rfl)
theorem dX4_setMargins_35 : decode cX4_setMargins 35 = .ok (.iload 5, 2) := dk_21 5 (dk_at dksX4_setMargins_1 11 rfl rfl)
theorem dX4_setMargins_37 : decode cX4_setMargins 37 = .ok (.iconst 0, 1) := dk_3 (dk_at dksX4_setMargins_1 13 rfl rfl)
theorem dX4_setMargins_38 : decode cX4_setMargins 38 = .ok (.bipush 40, 2) := dk_16 40 (dk_at dksX4_setMargins_1 14 rfl rfl)
theorem dX4_setMargins_40 : decode cX4_setMargins 40 = .ok (.invokestatic 43, 3) := dk_184 0 43 (dk_at dksX4_setMargins_1 16 rfl rfl)
theorem dX4_setMargins_43 : decode cX4_setMargins 43 = .ok (.ifCond .eq 7, 3) := dk_153 0 7 (dk_at dksX4_setMargins_1 19 rfl rfl)
theorem dX4_setMargins_46 : decode cX4_setMargins 46 = .ok (.iconst 1, 1) := dk_4 (dk_at dksX4_setMargins_1 22 rfl rfl)
theorem dX4_setMargins_47 : decode cX4_setMargins 47 = .ok (.goto 4, 3) := dk_167 0 4 (dk_at dksX4_setMargins_2 0 rfl rfl)
theorem dX4_setMargins_50 : decode cX4_setMargins 50 = .ok (.iconst 0, 1) := dk_3 (dk_at dksX4_setMargins_2 3 rfl rfl)
theorem dX4_setMargins_51 : decode cX4_setMargins 51 = .ok (.invokevirtual 79, 3) := dk_182 0 79 (dk_at dksX4_setMargins_2 4 rfl rfl)
theorem dX4_setMargins_54 : decode cX4_setMargins 54 = .ok (.ifCond .le 5, 3) := dk_158 0 5 (dk_at dksX4_setMargins_2 7 rfl rfl)
theorem dX4_setMargins_57 : decode cX4_setMargins 57 = .ok (.iconst 0, 1) := dk_3 (dk_at dksX4_setMargins_2 10 rfl rfl)
theorem dX4_setMargins_58 : decode cX4_setMargins 58 = .ok (.ireturn, 1) := dk_172 (dk_at dksX4_setMargins_2 11 rfl rfl)
theorem dX4_setMargins_59 : decode cX4_setMargins 59 = .ok (.aload_n 0, 1) := dk_42 (dk_at dksX4_setMargins_2 12 rfl rfl)
theorem dX4_setMargins_60 : decode cX4_setMargins 60 = .ok (.getfield 10, 3) := dk_180 0 10 (dk_at dksX4_setMargins_2 13 rfl rfl)
theorem dX4_setMargins_63 : decode cX4_setMargins 63 = .ok (.iload_n 1, 1) := dk_27 (dk_at dksX4_setMargins_2 16 rfl rfl)
theorem dX4_setMargins_64 : decode cX4_setMargins 64 = .ok (.invokevirtual 58, 3) := dk_182 0 58 (dk_at dksX4_setMargins_2 17 rfl rfl)
theorem dX4_setMargins_67 : decode cX4_setMargins 67 = .ok (.checkcast 30, 3) := dk_192 0 30 (dk_at dksX4_setMargins_2 20 rfl rfl)
theorem dX4_setMargins_70 : decode cX4_setMargins 70 = .ok (.astore 6, 2) := dk_58 6 (dk_at dksX4_setMargins_3 0 rfl rfl)
theorem dX4_setMargins_72 : decode cX4_setMargins 72 = .ok (.aload 6, 2) := dk_25 6 (dk_at dksX4_setMargins_3 2 rfl rfl)
theorem dX4_setMargins_74 : decode cX4_setMargins 74 = .ok (.getfield 98, 3) := dk_180 0 98 (dk_at dksX4_setMargins_3 4 rfl rfl)
theorem dX4_setMargins_77 : decode cX4_setMargins 77 = .ok (.istore 7, 2) := dk_54 7 (dk_at dksX4_setMargins_3 7 rfl rfl)
theorem dX4_setMargins_79 : decode cX4_setMargins 79 = .ok (.aload 6, 2) := dk_25 6 (dk_at dksX4_setMargins_3 9 rfl rfl)
theorem dX4_setMargins_81 : decode cX4_setMargins 81 = .ok (.iload_n 2, 1) := dk_28 (dk_at dksX4_setMargins_3 11 rfl rfl)
theorem dX4_setMargins_82 : decode cX4_setMargins 82 = .ok (.putfield 98, 3) := dk_181 0 98 (dk_at dksX4_setMargins_3 12 rfl rfl)
theorem dX4_setMargins_85 : decode cX4_setMargins 85 = .ok (.aload 6, 2) := dk_25 6 (dk_at dksX4_setMargins_3 15 rfl rfl)
theorem dX4_setMargins_87 : decode cX4_setMargins 87 = .ok (.iload_n 3, 1) := dk_29 (dk_at dksX4_setMargins_3 17 rfl rfl)
theorem dX4_setMargins_88 : decode cX4_setMargins 88 = .ok (.putfield 101, 3) := dk_181 0 101 (dk_at dksX4_setMargins_3 18 rfl rfl)
theorem dX4_setMargins_91 : decode cX4_setMargins 91 = .ok (.aload 6, 2) := dk_25 6 (dk_at dksX4_setMargins_3 21 rfl rfl)
theorem dX4_setMargins_93 : decode cX4_setMargins 93 = .ok (.iload 4, 2) := dk_21 4 (dk_at dksX4_setMargins_4 0 rfl rfl)
theorem dX4_setMargins_95 : decode cX4_setMargins 95 = .ok (.putfield 104, 3) := dk_181 0 104 (dk_at dksX4_setMargins_4 2 rfl rfl)
theorem dX4_setMargins_98 : decode cX4_setMargins 98 = .ok (.aload 6, 2) := dk_25 6 (dk_at dksX4_setMargins_4 5 rfl rfl)
theorem dX4_setMargins_100 : decode cX4_setMargins 100 = .ok (.iload 5, 2) := dk_21 5 (dk_at dksX4_setMargins_4 7 rfl rfl)
theorem dX4_setMargins_102 : decode cX4_setMargins 102 = .ok (.putfield 107, 3) := dk_181 0 107 (dk_at dksX4_setMargins_4 9 rfl rfl)
theorem dX4_setMargins_105 : decode cX4_setMargins 105 = .ok (.aload_n 0, 1) := dk_42 (dk_at dksX4_setMargins_4 12 rfl rfl)
theorem dX4_setMargins_106 : decode cX4_setMargins 106 = .ok (.aload 6, 2) := dk_25 6 (dk_at dksX4_setMargins_4 13 rfl rfl)
theorem dX4_setMargins_108 : decode cX4_setMargins 108 = .ok (.invokevirtual 72, 3) := dk_182 0 72 (dk_at dksX4_setMargins_4 15 rfl rfl)
theorem dX4_setMargins_111 : decode cX4_setMargins 111 = .ok (.iload 7, 2) := dk_21 7 (dk_at dksX4_setMargins_4 18 rfl rfl)
theorem dX4_setMargins_113 : decode cX4_setMargins 113 = .ok (.ireturn, 1) := dk_172 (dk_at dksX4_setMargins_4 20 rfl rfl)
abbrev cX4_setPadding : ByteArray := prog_14_method_11_code
def yX4_setPadding : MethodName := ⟨RX4, "setPadding", "(II)I"⟩
def dkwX4_setPadding_2 : List UInt8 := [21, 4, 172]
abbrev dktX4_setPadding_2 : List UInt8 := dkwX4_setPadding_2 ++ []
def dkwX4_setPadding_1 : List UInt8 := [182, 0, 58, 192, 0, 30, 78, 45, 180, 0, 110, 54, 4, 45, 28, 181, 0, 110, 42, 45, 182, 0, 72]
abbrev dktX4_setPadding_1 : List UInt8 := dkwX4_setPadding_1 ++ dktX4_setPadding_2
def dkwX4_setPadding_0 : List UInt8 := [42, 27, 28, 3, 16, 20, 184, 0, 43, 182, 0, 79, 158, 0, 5, 3, 172, 42, 180, 0, 10, 27]
abbrev dktX4_setPadding_0 : List UInt8 := dkwX4_setPadding_0 ++ dktX4_setPadding_1
theorem dksX4_setPadding_0 : cX4_setPadding.data.toList.drop 0 = dktX4_setPadding_0 := by decide +kernel
theorem dksX4_setPadding_1 : cX4_setPadding.data.toList.drop 22 = dktX4_setPadding_1 := dk_seg dksX4_setPadding_0 22 rfl rfl
theorem dksX4_setPadding_2 : cX4_setPadding.data.toList.drop 45 = dktX4_setPadding_2 := dk_seg dksX4_setPadding_1 23 rfl rfl
theorem dX4_setPadding_0 : decode cX4_setPadding 0 = .ok (.aload_n 0, 1) := dk_42 (dk_at dksX4_setPadding_0 0 rfl rfl)
theorem dX4_setPadding_1 : decode cX4_setPadding 1 = .ok (.iload_n 1, 1) := dk_27 (dk_at dksX4_setPadding_0 1 rfl rfl)
theorem dX4_setPadding_2 : decode cX4_setPadding 2 = .ok (.iload_n 2, 1) := dk_28 (dk_at dksX4_setPadding_0 2 rfl rfl)
theorem dX4_setPadding_3 : decode cX4_setPadding 3 = .ok (.iconst 0, 1) := dk_3 (dk_at dksX4_setPadding_0 3 rfl rfl)
theorem dX4_setPadding_4 : decode cX4_setPadding 4 = .ok (.bipush 20, 2) := dk_16 20 (dk_at dksX4_setPadding_0 4 rfl rfl)
theorem dX4_setPadding_6 : decode cX4_setPadding 6 = .ok (.invokestatic 43, 3) := dk_184 0 43 (dk_at dksX4_setPadding_0 6 rfl rfl)
theorem dX4_setPadding_9 : decode cX4_setPadding 9 = .ok (.invokevirtual 79, 3) := dk_182 0 79 (dk_at dksX4_setPadding_0 9 rfl rfl)
theorem dX4_setPadding_12 : decode cX4_setPadding 12 = .ok (.ifCond .le 5, 3) := dk_158 0 5 (dk_at dksX4_setPadding_0 12 rfl rfl)
theorem dX4_setPadding_15 : decode cX4_setPadding 15 = .ok (.iconst 0, 1) := dk_3 (dk_at dksX4_setPadding_0 15 rfl rfl)
theorem dX4_setPadding_16 : decode cX4_setPadding 16 = .ok (.ireturn, 1) := dk_172 (dk_at dksX4_setPadding_0 16 rfl rfl)
theorem dX4_setPadding_17 : decode cX4_setPadding 17 = .ok (.aload_n 0, 1) := dk_42 (dk_at dksX4_setPadding_0 17 rfl rfl)
theorem dX4_setPadding_18 : decode cX4_setPadding 18 = .ok (.getfield 10, 3) := dk_180 0 10 (dk_at dksX4_setPadding_0 18 rfl rfl)
theorem dX4_setPadding_21 : decode cX4_setPadding 21 = .ok (.iload_n 1, 1) := dk_27 (dk_at dksX4_setPadding_0 21 rfl rfl)
theorem dX4_setPadding_22 : decode cX4_setPadding 22 = .ok (.invokevirtual 58, 3) := dk_182 0 58 (dk_at dksX4_setPadding_1 0 rfl rfl)
theorem dX4_setPadding_25 : decode cX4_setPadding 25 = .ok (.checkcast 30, 3) := dk_192 0 30 (dk_at dksX4_setPadding_1 3 rfl rfl)
theorem dX4_setPadding_28 : decode cX4_setPadding 28 = .ok (.astore_n 3, 1) := dk_78 (dk_at dksX4_setPadding_1 6 rfl rfl)
theorem dX4_setPadding_29 : decode cX4_setPadding 29 = .ok (.aload_n 3, 1) := dk_45 (dk_at dksX4_setPadding_1 7 rfl rfl)
theorem dX4_setPadding_30 : decode cX4_setPadding 30 = .ok (.getfield 110, 3) := dk_180 0 110 (dk_at dksX4_setPadding_1 8 rfl rfl)
theorem dX4_setPadding_33 : decode cX4_setPadding 33 = .ok (.istore 4, 2) := dk_54 4 (dk_at dksX4_setPadding_1 11 rfl rfl)
theorem dX4_setPadding_35 : decode cX4_setPadding 35 = .ok (.aload_n 3, 1) := dk_45 (dk_at dksX4_setPadding_1 13 rfl rfl)
theorem dX4_setPadding_36 : decode cX4_setPadding 36 = .ok (.iload_n 2, 1) := dk_28 (dk_at dksX4_setPadding_1 14 rfl rfl)
theorem dX4_setPadding_37 : decode cX4_setPadding 37 = .ok (.putfield 110, 3) := dk_181 0 110 (dk_at dksX4_setPadding_1 15 rfl rfl)
theorem dX4_setPadding_40 : decode cX4_setPadding 40 = .ok (.aload_n 0, 1) := dk_42 (dk_at dksX4_setPadding_1 18 rfl rfl)
theorem dX4_setPadding_41 : decode cX4_setPadding 41 = .ok (.aload_n 3, 1) := dk_45 (dk_at dksX4_setPadding_1 19 rfl rfl)
theorem dX4_setPadding_42 : decode cX4_setPadding 42 = .ok (.invokevirtual 72, 3) := dk_182 0 72 (dk_at dksX4_setPadding_1 20 rfl rfl)
theorem dX4_setPadding_45 : decode cX4_setPadding 45 = .ok (.iload 4, 2) := dk_21 4 (dk_at dksX4_setPadding_2 0 rfl rfl)
theorem dX4_setPadding_47 : decode cX4_setPadding 47 = .ok (.ireturn, 1) := dk_172 (dk_at dksX4_setPadding_2 2 rfl rfl)
abbrev cX4_setFactors : ByteArray := prog_14_method_12_code
def yX4_setFactors : MethodName := ⟨RX4, "setFactors", "(III)I"⟩
def dkwX4_setFactors_3 : List UInt8 := [182, 0, 72, 21, 5, 172]
abbrev dktX4_setFactors_3 : List UInt8 := dkwX4_setFactors_3 ++ []
def dkwX4_setFactors_2 : List UInt8 := [58, 4, 25, 4, 180, 0, 113, 54, 5, 25, 4, 28, 181, 0, 113, 25, 4, 29, 181, 0, 116, 42, 25, 4]
abbrev dktX4_setFactors_2 : List UInt8 := dkwX4_setFactors_2 ++ dktX4_setFactors_3
def dkwX4_setFactors_1 : List UInt8 := [167, 0, 4, 3, 182, 0, 79, 158, 0, 5, 3, 172, 42, 180, 0, 10, 27, 182, 0, 58, 192, 0, 30]
abbrev dktX4_setFactors_1 : List UInt8 := dkwX4_setFactors_1 ++ dktX4_setFactors_2
def dkwX4_setFactors_0 : List UInt8 := [42, 27, 28, 3, 16, 9, 184, 0, 43, 153, 0, 17, 29, 3, 16, 9, 184, 0, 43, 153, 0, 7, 4]
abbrev dktX4_setFactors_0 : List UInt8 := dkwX4_setFactors_0 ++ dktX4_setFactors_1
theorem dksX4_setFactors_0 : cX4_setFactors.data.toList.drop 0 = dktX4_setFactors_0 := by decide +kernel
theorem dksX4_setFactors_1 : cX4_setFactors.data.toList.drop 23 = dktX4_setFactors_1 := dk_seg dksX4_setFactors_0 23 rfl rfl
theorem dksX4_setFactors_2 : cX4_setFactors.data.toList.drop 46 = dktX4_setFactors_2 := dk_seg dksX4_setFactors_1 23 rfl rfl
theorem dksX4_setFactors_3 : cX4_setFactors.data.toList.drop 70 = dktX4_setFactors_3 := dk_seg dksX4_setFactors_2 24 rfl rfl
theorem dX4_setFactors_0 : decode cX4_setFactors 0 = .ok (.aload_n 0, 1) := dk_42 (dk_at dksX4_setFactors_0 0 rfl rfl)
theorem dX4_setFactors_1 : decode cX4_setFactors 1 = .ok (.iload_n 1, 1) := dk_27 (dk_at dksX4_setFactors_0 1 rfl rfl)
theorem dX4_setFactors_2 : decode cX4_setFactors 2 = .ok (.iload_n 2, 1) := dk_28 (dk_at dksX4_setFactors_0 2 rfl rfl)
theorem dX4_setFactors_3 : decode cX4_setFactors 3 = .ok (.iconst 0, 1) := dk_3 (dk_at dksX4_setFactors_0 3 rfl rfl)
theorem dX4_setFactors_4 : decode cX4_setFactors 4 = .ok (.bipush 9, 2) := dk_16 9 (dk_at dksX4_setFactors_0 4 rfl rfl)
theorem dX4_setFactors_6 : decode cX4_setFactors 6 = .ok (.invokestatic 43, 3) := dk_184 0 43 (dk_at dksX4_setFactors_0 6 rfl rfl)
theorem dX4_setFactors_9 : decode cX4_setFactors 9 = .ok (.ifCond .eq 17, 3) := dk_153 0 17 (dk_at dksX4_setFactors_0 9 rfl rfl)
theorem dX4_setFactors_12 : decode cX4_setFactors 12 = .ok (.iload_n 3, 1) := dk_29 (dk_at dksX4_setFactors_0 12 rfl rfl)
theorem dX4_setFactors_13 : decode cX4_setFactors 13 = .ok (.iconst 0, 1) := dk_3 (dk_at dksX4_setFactors_0 13 rfl rfl)
theorem dX4_setFactors_14 : decode cX4_setFactors 14 = .ok (.bipush 9, 2) := dk_16 9 (dk_at dksX4_setFactors_0 14 rfl rfl)
theorem dX4_setFactors_16 : decode cX4_setFactors 16 = .ok (.invokestatic 43, 3) := dk_184 0 43 (dk_at dksX4_setFactors_0 16 rfl rfl)
theorem dX4_setFactors_19 : decode cX4_setFactors 19 = .ok (.ifCond .eq 7, 3) := dk_153 0 7 (dk_at dksX4_setFactors_0 19 rfl rfl)
theorem dX4_setFactors_22 : decode cX4_setFactors 22 = .ok (.iconst 1, 1) := dk_4 (dk_at dksX4_setFactors_0 22 rfl rfl)
theorem dX4_setFactors_23 : decode cX4_setFactors 23 = .ok (.goto 4, 3) := dk_167 0 4 (dk_at dksX4_setFactors_1 0 rfl rfl)
theorem dX4_setFactors_26 : decode cX4_setFactors 26 = .ok (.iconst 0, 1) := dk_3 (dk_at dksX4_setFactors_1 3 rfl rfl)
theorem dX4_setFactors_27 : decode cX4_setFactors 27 = .ok (.invokevirtual 79, 3) := dk_182 0 79 (dk_at dksX4_setFactors_1 4 rfl rfl)
theorem dX4_setFactors_30 : decode cX4_setFactors 30 = .ok (.ifCond .le 5, 3) := dk_158 0 5 (dk_at dksX4_setFactors_1 7 rfl rfl)
theorem dX4_setFactors_33 : decode cX4_setFactors 33 = .ok (.iconst 0, 1) := dk_3 (dk_at dksX4_setFactors_1 10 rfl rfl)
theorem dX4_setFactors_34 : decode cX4_setFactors 34 = .ok (.ireturn, 1) := dk_172 (dk_at dksX4_setFactors_1 11 rfl rfl)
theorem dX4_setFactors_35 : decode cX4_setFactors 35 = .ok (.aload_n 0, 1) := dk_42 (dk_at dksX4_setFactors_1 12 rfl rfl)
theorem dX4_setFactors_36 : decode cX4_setFactors 36 = .ok (.getfield 10, 3) := dk_180 0 10 (dk_at dksX4_setFactors_1 13 rfl rfl)
theorem dX4_setFactors_39 : decode cX4_setFactors 39 = .ok (.iload_n 1, 1) := dk_27 (dk_at dksX4_setFactors_1 16 rfl rfl)
theorem dX4_setFactors_40 : decode cX4_setFactors 40 = .ok (.invokevirtual 58, 3) := dk_182 0 58 (dk_at dksX4_setFactors_1 17 rfl rfl)
theorem dX4_setFactors_43 : decode cX4_setFactors 43 = .ok (.checkcast 30, 3) := dk_192 0 30 (dk_at dksX4_setFactors_1 20 rfl rfl)
theorem dX4_setFactors_46 : decode cX4_setFactors 46 = .ok (.astore 4, 2) := dk_58 4 (dk_at dksX4_setFactors_2 0 rfl rfl)
theorem dX4_setFactors_48 : decode cX4_setFactors 48 = .ok (.aload 4, 2) := dk_25 4 (dk_at dksX4_setFactors_2 2 rfl rfl)
theorem dX4_setFactors_50 : decode cX4_setFactors 50 = .ok (.getfield 113, 3) := dk_180 0 113 (dk_at dksX4_setFactors_2 4 rfl rfl)
theorem dX4_setFactors_53 : decode cX4_setFactors 53 = .ok (.istore 5, 2) := dk_54 5 (dk_at dksX4_setFactors_2 7 rfl rfl)
theorem dX4_setFactors_55 : decode cX4_setFactors 55 = .ok (.aload 4, 2) := dk_25 4 (dk_at dksX4_setFactors_2 9 rfl rfl)
theorem dX4_setFactors_57 : decode cX4_setFactors 57 = .ok (.iload_n 2, 1) := dk_28 (dk_at dksX4_setFactors_2 11 rfl rfl)
theorem dX4_setFactors_58 : decode cX4_setFactors 58 = .ok (.putfield 113, 3) := dk_181 0 113 (dk_at dksX4_setFactors_2 12 rfl rfl)
theorem dX4_setFactors_61 : decode cX4_setFactors 61 = .ok (.aload 4, 2) := dk_25 4 (dk_at dksX4_setFactors_2 15 rfl rfl)
theorem dX4_setFactors_63 : decode cX4_setFactors 63 = .ok (.iload_n 3, 1) := dk_29 (dk_at dksX4_setFactors_2 17 rfl rfl)
theorem dX4_setFactors_64 : decode cX4_setFactors 64 = .ok (.putfield 116, 3) := dk_181 0 116 (dk_at dksX4_setFactors_2 18 rfl rfl)
theorem dX4_setFactors_67 : decode cX4_setFactors 67 = .ok (.aload_n 0, 1) := dk_42 (dk_at dksX4_setFactors_2 21 rfl rfl)
theorem dX4_setFactors_68 : decode cX4_setFactors 68 = .ok (.aload 4, 2) := dk_25 4 (dk_at dksX4_setFactors_2 22 rfl rfl)
theorem dX4_setFactors_70 : decode cX4_setFactors 70 = .ok (.invokevirtual 72, 3) := dk_182 0 72 (dk_at dksX4_setFactors_3 0 rfl rfl)
theorem dX4_setFactors_73 : decode cX4_setFactors 73 = .ok (.iload 5, 2) := dk_21 5 (dk_at dksX4_setFactors_3 3 rfl rfl)
theorem dX4_setFactors_75 : decode cX4_setFactors 75 = .ok (.ireturn, 1) := dk_172 (dk_at dksX4_setFactors_3 5 rfl rfl)
abbrev cX4_setColumns : ByteArray := prog_14_method_13_code
def yX4_setColumns : MethodName := ⟨RX4, "setColumns", "(II)I"⟩
def dkwX4_setColumns_1 : List UInt8 := [192, 0, 30, 78, 45, 180, 0, 119, 54, 4, 45, 28, 181, 0, 119, 42, 45, 182, 0, 72, 21, 4, 172]
abbrev dktX4_setColumns_1 : List UInt8 := dkwX4_setColumns_1 ++ []
def dkwX4_setColumns_0 : List UInt8 := [42, 27, 28, 4, 7, 184, 0, 43, 182, 0, 79, 158, 0, 5, 3, 172, 42, 180, 0, 10, 27, 182, 0, 58]
abbrev dktX4_setColumns_0 : List UInt8 := dkwX4_setColumns_0 ++ dktX4_setColumns_1
theorem dksX4_setColumns_0 : cX4_setColumns.data.toList.drop 0 = dktX4_setColumns_0 := by decide +kernel
theorem dksX4_setColumns_1 : cX4_setColumns.data.toList.drop 24 = dktX4_setColumns_1 := dk_seg dksX4_setColumns_0 24 rfl rfl
theorem dX4_setColumns_0 : decode cX4_setColumns 0 = .ok (.aload_n 0, 1) := dk_42 (dk_at dksX4_setColumns_0 0 rfl rfl)
theorem dX4_setColumns_1 : decode cX4_setColumns 1 = .ok (.iload_n 1, 1) := dk_27 (dk_at dksX4_setColumns_0 1 rfl rfl)
theorem dX4_setColumns_2 : decode cX4_setColumns 2 = .ok (.iload_n 2, 1) := dk_28 (dk_at dksX4_setColumns_0 2 rfl rfl)
theorem dX4_setColumns_3 : decode cX4_setColumns 3 = .ok (.iconst 1, 1) := dk_4 (dk_at dksX4_setColumns_0 3 rfl rfl)
theorem dX4_setColumns_4 : decode cX4_setColumns 4 = .ok (.iconst 4, 1) := dk_7 (dk_at dksX4_setColumns_0 4 rfl rfl)
theorem dX4_setColumns_5 : decode cX4_setColumns 5 = .ok (.invokestatic 43, 3) := dk_184 0 43 (dk_at dksX4_setColumns_0 5 rfl rfl)
theorem dX4_setColumns_8 : decode cX4_setColumns 8 = .ok (.invokevirtual 79, 3) := dk_182 0 79 (dk_at dksX4_setColumns_0 8 rfl rfl)
theorem dX4_setColumns_11 : decode cX4_setColumns 11 = .ok (.ifCond .le 5, 3) := dk_158 0 5 (dk_at dksX4_setColumns_0 11 rfl rfl)
theorem dX4_setColumns_14 : decode cX4_setColumns 14 = .ok (.iconst 0, 1) := dk_3 (dk_at dksX4_setColumns_0 14 rfl rfl)
theorem dX4_setColumns_15 : decode cX4_setColumns 15 = .ok (.ireturn, 1) := dk_172 (dk_at dksX4_setColumns_0 15 rfl rfl)
theorem dX4_setColumns_16 : decode cX4_setColumns 16 = .ok (.aload_n 0, 1) := dk_42 (dk_at dksX4_setColumns_0 16 rfl rfl)
theorem dX4_setColumns_17 : decode cX4_setColumns 17 = .ok (.getfield 10, 3) := dk_180 0 10 (dk_at dksX4_setColumns_0 17 rfl rfl)
theorem dX4_setColumns_20 : decode cX4_setColumns 20 = .ok (.iload_n 1, 1) := dk_27 (dk_at dksX4_setColumns_0 20 rfl rfl)
theorem dX4_setColumns_21 : decode cX4_setColumns 21 = .ok (.invokevirtual 58, 3) := dk_182 0 58 (dk_at dksX4_setColumns_0 21 rfl rfl)
theorem dX4_setColumns_24 : decode cX4_setColumns 24 = .ok (.checkcast 30, 3) := dk_192 0 30 (dk_at dksX4_setColumns_1 0 rfl rfl)
theorem dX4_setColumns_27 : decode cX4_setColumns 27 = .ok (.astore_n 3, 1) := dk_78 (dk_at dksX4_setColumns_1 3 rfl rfl)
theorem dX4_setColumns_28 : decode cX4_setColumns 28 = .ok (.aload_n 3, 1) := dk_45 (dk_at dksX4_setColumns_1 4 rfl rfl)
theorem dX4_setColumns_29 : decode cX4_setColumns 29 = .ok (.getfield 119, 3) := dk_180 0 119 (dk_at dksX4_setColumns_1 5 rfl rfl)
theorem dX4_setColumns_32 : decode cX4_setColumns 32 = .ok (.istore 4, 2) := dk_54 4 (dk_at dksX4_setColumns_1 8 rfl rfl)
theorem dX4_setColumns_34 : decode cX4_setColumns 34 = .ok (.aload_n 3, 1) := dk_45 (dk_at dksX4_setColumns_1 10 rfl rfl)
theorem dX4_setColumns_35 : decode cX4_setColumns 35 = .ok (.iload_n 2, 1) := dk_28 (dk_at dksX4_setColumns_1 11 rfl rfl)
theorem dX4_setColumns_36 : decode cX4_setColumns 36 = .ok (.putfield 119, 3) := dk_181 0 119 (dk_at dksX4_setColumns_1 12 rfl rfl)
theorem dX4_setColumns_39 : decode cX4_setColumns 39 = .ok (.aload_n 0, 1) := dk_42 (dk_at dksX4_setColumns_1 15 rfl rfl)
theorem dX4_setColumns_40 : decode cX4_setColumns 40 = .ok (.aload_n 3, 1) := dk_45 (dk_at dksX4_setColumns_1 16 rfl rfl)
theorem dX4_setColumns_41 : decode cX4_setColumns 41 = .ok (.invokevirtual 72, 3) := dk_182 0 72 (dk_at dksX4_setColumns_1 17 rfl rfl)
theorem dX4_setColumns_44 : decode cX4_setColumns 44 = .ok (.iload 4, 2) := dk_21 4 (dk_at dksX4_setColumns_1 20 rfl rfl)
theorem dX4_setColumns_46 : decode cX4_setColumns 46 = .ok (.ireturn, 1) := dk_172 (dk_at dksX4_setColumns_1 22 rfl rfl)
abbrev cX4_setFloat : ByteArray := prog_14_method_14_code
def yX4_setFloat : MethodName := ⟨RX4, "setFloat", "(IC)C"⟩
def dkwX4_setFloat_2 : List UInt8 := [180, 0, 122, 54, 4, 45, 28, 181, 0, 122, 42, 45, 182, 0, 72, 21, 4, 172]
abbrev dktX4_setFloat_2 : List UInt8 := dkwX4_setFloat_2 ++ []
def dkwX4_setFloat_1 : List UInt8 := [3, 182, 0, 79, 158, 0, 6, 16, 32, 172, 42, 180, 0, 10, 27, 182, 0, 58, 192, 0, 30, 78, 45]
abbrev dktX4_setFloat_1 : List UInt8 := dkwX4_setFloat_1 ++ dktX4_setFloat_2
def dkwX4_setFloat_0 : List UInt8 := [42, 27, 28, 16, 110, 159, 0, 15, 28, 16, 108, 159, 0, 9, 28, 16, 114, 160, 0, 7, 4, 167, 0, 4]
abbrev dktX4_setFloat_0 : List UInt8 := dkwX4_setFloat_0 ++ dktX4_setFloat_1
theorem dksX4_setFloat_0 : cX4_setFloat.data.toList.drop 0 = dktX4_setFloat_0 := by decide +kernel
theorem dksX4_setFloat_1 : cX4_setFloat.data.toList.drop 24 = dktX4_setFloat_1 := dk_seg dksX4_setFloat_0 24 rfl rfl
theorem dksX4_setFloat_2 : cX4_setFloat.data.toList.drop 47 = dktX4_setFloat_2 := dk_seg dksX4_setFloat_1 23 rfl rfl
theorem dX4_setFloat_0 : decode cX4_setFloat 0 = .ok (.aload_n 0, 1) := dk_42 (dk_at dksX4_setFloat_0 0 rfl rfl)
theorem dX4_setFloat_1 : decode cX4_setFloat 1 = .ok (.iload_n 1, 1) := dk_27 (dk_at dksX4_setFloat_0 1 rfl rfl)
theorem dX4_setFloat_2 : decode cX4_setFloat 2 = .ok (.iload_n 2, 1) := dk_28 (dk_at dksX4_setFloat_0 2 rfl rfl)
theorem dX4_setFloat_3 : decode cX4_setFloat 3 = .ok (.bipush 110, 2) := dk_16 110 (dk_at dksX4_setFloat_0 3 rfl rfl)
theorem dX4_setFloat_5 : decode cX4_setFloat 5 = .ok (.if_icmp .eq 15, 3) := dk_159 0 15 (dk_at dksX4_setFloat_0 5 rfl rfl)
theorem dX4_setFloat_8 : decode cX4_setFloat 8 = .ok (.iload_n 2, 1) := dk_28 (dk_at dksX4_setFloat_0 8 rfl rfl)
theorem dX4_setFloat_9 : decode cX4_setFloat 9 = .ok (.bipush 108, 2) := dk_16 108 (dk_at dksX4_setFloat_0 9 rfl rfl)
theorem dX4_setFloat_11 : decode cX4_setFloat 11 = .ok (.if_icmp .eq 9, 3) := dk_159 0 9 (dk_at dksX4_setFloat_0 11 rfl rfl)
theorem dX4_setFloat_14 : decode cX4_setFloat 14 = .ok (.iload_n 2, 1) := dk_28 (dk_at dksX4_setFloat_0 14 rfl rfl)
theorem dX4_setFloat_15 : decode cX4_setFloat 15 = .ok (.bipush 114, 2) := dk_16 114 (dk_at dksX4_setFloat_0 15 rfl rfl)
theorem dX4_setFloat_17 : decode cX4_setFloat 17 = .ok (.if_icmp .ne 7, 3) := dk_160 0 7 (dk_at dksX4_setFloat_0 17 rfl rfl)
theorem dX4_setFloat_20 : decode cX4_setFloat 20 = .ok (.iconst 1, 1) := dk_4 (dk_at dksX4_setFloat_0 20 rfl rfl)
theorem dX4_setFloat_21 : decode cX4_setFloat 21 = .ok (.goto 4, 3) := dk_167 0 4 (dk_at dksX4_setFloat_0 21 rfl rfl)
theorem dX4_setFloat_24 : decode cX4_setFloat 24 = .ok (.iconst 0, 1) := dk_3 (dk_at dksX4_setFloat_1 0 rfl rfl)
theorem dX4_setFloat_25 : decode cX4_setFloat 25 = .ok (.invokevirtual 79, 3) := dk_182 0 79 (dk_at dksX4_setFloat_1 1 rfl rfl)
theorem dX4_setFloat_28 : decode cX4_setFloat 28 = .ok (.ifCond .le 6, 3) := dk_158 0 6 (dk_at dksX4_setFloat_1 4 rfl rfl)
theorem dX4_setFloat_31 : decode cX4_setFloat 31 = .ok (.bipush 32, 2) := dk_16 32 (dk_at dksX4_setFloat_1 7 rfl rfl)
theorem dX4_setFloat_33 : decode cX4_setFloat 33 = .ok (.ireturn, 1) := dk_172 (dk_at dksX4_setFloat_1 9 rfl rfl)
theorem dX4_setFloat_34 : decode cX4_setFloat 34 = .ok (.aload_n 0, 1) := dk_42 (dk_at dksX4_setFloat_1 10 rfl rfl)
theorem dX4_setFloat_35 : decode cX4_setFloat 35 = .ok (.getfield 10, 3) := dk_180 0 10 (dk_at dksX4_setFloat_1 11 rfl rfl)
theorem dX4_setFloat_38 : decode cX4_setFloat 38 = .ok (.iload_n 1, 1) := dk_27 (dk_at dksX4_setFloat_1 14 rfl rfl)
theorem dX4_setFloat_39 : decode cX4_setFloat 39 = .ok (.invokevirtual 58, 3) := dk_182 0 58 (dk_at dksX4_setFloat_1 15 rfl rfl)
theorem dX4_setFloat_42 : decode cX4_setFloat 42 = .ok (.checkcast 30, 3) := dk_192 0 30 (dk_at dksX4_setFloat_1 18 rfl rfl)
theorem dX4_setFloat_45 : decode cX4_setFloat 45 = .ok (.astore_n 3, 1) := dk_78 (dk_at dksX4_setFloat_1 21 rfl rfl)
theorem dX4_setFloat_46 : decode cX4_setFloat 46 = .ok (.aload_n 3, 1) := dk_45 (dk_at dksX4_setFloat_1 22 rfl rfl)
theorem dX4_setFloat_47 : decode cX4_setFloat 47 = .ok (.getfield 122, 3) := dk_180 0 122 (dk_at dksX4_setFloat_2 0 rfl rfl)
theorem dX4_setFloat_50 : decode cX4_setFloat 50 = .ok (.istore 4, 2) := dk_54 4 (dk_at dksX4_setFloat_2 3 rfl rfl)
theorem dX4_setFloat_52 : decode cX4_setFloat 52 = .ok (.aload_n 3, 1) := dk_45 (dk_at dksX4_setFloat_2 5 rfl rfl)
theorem dX4_setFloat_53 : decode cX4_setFloat 53 = .ok (.iload_n 2, 1) := dk_28 (dk_at dksX4_setFloat_2 6 rfl rfl)
theorem dX4_setFloat_54 : decode cX4_setFloat 54 = .ok (.putfield 122, 3) := dk_181 0 122 (dk_at dksX4_setFloat_2 7 rfl rfl)
theorem dX4_setFloat_57 : decode cX4_setFloat 57 = .ok (.aload_n 0, 1) := dk_42 (dk_at dksX4_setFloat_2 10 rfl rfl)
theorem dX4_setFloat_58 : decode cX4_setFloat 58 = .ok (.aload_n 3, 1) := dk_45 (dk_at dksX4_setFloat_2 11 rfl rfl)
theorem dX4_setFloat_59 : decode cX4_setFloat 59 = .ok (.invokevirtual 72, 3) := dk_182 0 72 (dk_at dksX4_setFloat_2 12 rfl rfl)
theorem dX4_setFloat_62 : decode cX4_setFloat 62 = .ok (.iload 4, 2) := dk_21 4 (dk_at dksX4_setFloat_2 15 rfl rfl)
theorem dX4_setFloat_64 : decode cX4_setFloat 64 = .ok (.ireturn, 1) := dk_172 (dk_at dksX4_setFloat_2 17 rfl rfl)
abbrev cX4_setPlace : ByteArray := prog_14_method_15_code
def yX4_setPlace : MethodName := ⟨RX4, "setPlace", "(ICII)C"⟩
def dkwX4_setPlace_4 : List UInt8 := [181, 0, 131, 42, 25, 5, 182, 0, 72, 21, 6, 172]
abbrev dktX4_setPlace_4 : List UInt8 := dkwX4_setPlace_4 ++ []
def dkwX4_setPlace_3 : List UInt8 := [25, 5, 180, 0, 125, 54, 6, 25, 5, 28, 181, 0, 125, 25, 5, 29, 181, 0, 128, 25, 5, 21, 4]
abbrev dktX4_setPlace_3 : List UInt8 := dkwX4_setPlace_3 ++ dktX4_setPlace_4
def dkwX4_setPlace_2 : List UInt8 := [3, 182, 0, 79, 158, 0, 6, 16, 32, 172, 42, 180, 0, 10, 27, 182, 0, 58, 192, 0, 30, 58, 5]
abbrev dktX4_setPlace_2 : List UInt8 := dkwX4_setPlace_2 ++ dktX4_setPlace_3
def dkwX4_setPlace_1 : List UInt8 := [16, 100, 184, 0, 43, 153, 0, 19, 21, 4, 16, 156, 16, 100, 184, 0, 43, 153, 0, 7, 4, 167, 0, 4]
abbrev dktX4_setPlace_1 : List UInt8 := dkwX4_setPlace_1 ++ dktX4_setPlace_2
def dkwX4_setPlace_0 : List UInt8 := [42, 27, 28, 16, 115, 159, 0, 15, 28, 16, 114, 159, 0, 9, 28, 16, 97, 160, 0, 30, 29, 16, 156]
abbrev dktX4_setPlace_0 : List UInt8 := dkwX4_setPlace_0 ++ dktX4_setPlace_1
theorem dksX4_setPlace_0 : cX4_setPlace.data.toList.drop 0 = dktX4_setPlace_0 := by decide +kernel
theorem dksX4_setPlace_1 : cX4_setPlace.data.toList.drop 23 = dktX4_setPlace_1 := dk_seg dksX4_setPlace_0 23 rfl rfl
theorem dksX4_setPlace_2 : cX4_setPlace.data.toList.drop 47 = dktX4_setPlace_2 := dk_seg dksX4_setPlace_1 24 rfl rfl
theorem dksX4_setPlace_3 : cX4_setPlace.data.toList.drop 70 = dktX4_setPlace_3 := dk_seg dksX4_setPlace_2 23 rfl rfl
theorem dksX4_setPlace_4 : cX4_setPlace.data.toList.drop 93 = dktX4_setPlace_4 := dk_seg dksX4_setPlace_3 23 rfl rfl
theorem dX4_setPlace_0 : decode cX4_setPlace 0 = .ok (.aload_n 0, 1) := dk_42 (dk_at dksX4_setPlace_0 0 rfl rfl)
theorem dX4_setPlace_1 : decode cX4_setPlace 1 = .ok (.iload_n 1, 1) := dk_27 (dk_at dksX4_setPlace_0 1 rfl rfl)
theorem dX4_setPlace_2 : decode cX4_setPlace 2 = .ok (.iload_n 2, 1) := dk_28 (dk_at dksX4_setPlace_0 2 rfl rfl)
theorem dX4_setPlace_3 : decode cX4_setPlace 3 = .ok (.bipush 115, 2) := dk_16 115 (dk_at dksX4_setPlace_0 3 rfl rfl)
theorem dX4_setPlace_5 : decode cX4_setPlace 5 = .ok (.if_icmp .eq 15, 3) := dk_159 0 15 (dk_at dksX4_setPlace_0 5 rfl rfl)
theorem dX4_setPlace_8 : decode cX4_setPlace 8 = .ok (.iload_n 2, 1) := dk_28 (dk_at dksX4_setPlace_0 8 rfl rfl)
theorem dX4_setPlace_9 : decode cX4_setPlace 9 = .ok (.bipush 114, 2) := dk_16 114 (dk_at dksX4_setPlace_0 9 rfl rfl)
theorem dX4_setPlace_11 : decode cX4_setPlace 11 = .ok (.if_icmp .eq 9, 3) := dk_159 0 9 (dk_at dksX4_setPlace_0 11 rfl rfl)
theorem dX4_setPlace_14 : decode cX4_setPlace 14 = .ok (.iload_n 2, 1) := dk_28 (dk_at dksX4_setPlace_0 14 rfl rfl)
theorem dX4_setPlace_15 : decode cX4_setPlace 15 = .ok (.bipush 97, 2) := dk_16 97 (dk_at dksX4_setPlace_0 15 rfl rfl)
theorem dX4_setPlace_17 : decode cX4_setPlace 17 = .ok (.if_icmp .ne 30, 3) := dk_160 0 30 (dk_at dksX4_setPlace_0 17 rfl rfl)
theorem dX4_setPlace_20 : decode cX4_setPlace 20 = .ok (.iload_n 3, 1) := dk_29 (dk_at dksX4_setPlace_0 20 rfl rfl)
theorem dX4_setPlace_21 : decode cX4_setPlace 21 = .ok (.bipush (-100), 2) := dk_16 156 (dk_at dksX4_setPlace_0 21 rfl rfl)
theorem dX4_setPlace_23 : decode cX4_setPlace 23 = .ok (.bipush 100, 2) := dk_16 100 (dk_at dksX4_setPlace_1 0 rfl rfl)
theorem dX4_setPlace_25 : decode cX4_setPlace 25 = .ok (.invokestatic 43, 3) := dk_184 0 43 (dk_at dksX4_setPlace_1 2 rfl rfl)
theorem dX4_setPlace_28 : decode cX4_setPlace 28 = .ok (.ifCond .eq 19, 3) := dk_153 0 19 (dk_at dksX4_setPlace_1 5 rfl rfl)
theorem dX4_setPlace_31 : decode cX4_setPlace 31 = .ok (.iload 4, 2) := dk_21 4 (dk_at dksX4_setPlace_1 8 rfl rfl)
theorem dX4_setPlace_33 : decode cX4_setPlace 33 = .ok (.bipush (-100), 2) := dk_16 156 (dk_at dksX4_setPlace_1 10 rfl rfl)
theorem dX4_setPlace_35 : decode cX4_setPlace 35 = .ok (.bipush 100, 2) := dk_16 100 (dk_at dksX4_setPlace_1 12 rfl rfl)
theorem dX4_setPlace_37 : decode cX4_setPlace 37 = .ok (.invokestatic 43, 3) := dk_184 0 43 (dk_at dksX4_setPlace_1 14 rfl rfl)
theorem dX4_setPlace_40 : decode cX4_setPlace 40 = .ok (.ifCond .eq 7, 3) := dk_153 0 7 (dk_at dksX4_setPlace_1 17 rfl rfl)
theorem dX4_setPlace_43 : decode cX4_setPlace 43 = .ok (.iconst 1, 1) := dk_4 (dk_at dksX4_setPlace_1 20 rfl rfl)
theorem dX4_setPlace_44 : decode cX4_setPlace 44 = .ok (.goto 4, 3) := dk_167 0 4 (dk_at dksX4_setPlace_1 21 rfl rfl)
theorem dX4_setPlace_47 : decode cX4_setPlace 47 = .ok (.iconst 0, 1) := dk_3 (dk_at dksX4_setPlace_2 0 rfl rfl)
theorem dX4_setPlace_48 : decode cX4_setPlace 48 = .ok (.invokevirtual 79, 3) := dk_182 0 79 (dk_at dksX4_setPlace_2 1 rfl rfl)
theorem dX4_setPlace_51 : decode cX4_setPlace 51 = .ok (.ifCond .le 6, 3) := dk_158 0 6 (dk_at dksX4_setPlace_2 4 rfl rfl)
theorem dX4_setPlace_54 : decode cX4_setPlace 54 = .ok (.bipush 32, 2) := dk_16 32 (dk_at dksX4_setPlace_2 7 rfl rfl)
theorem dX4_setPlace_56 : decode cX4_setPlace 56 = .ok (.ireturn, 1) := dk_172 (dk_at dksX4_setPlace_2 9 rfl rfl)
theorem dX4_setPlace_57 : decode cX4_setPlace 57 = .ok (.aload_n 0, 1) := dk_42 (dk_at dksX4_setPlace_2 10 rfl rfl)
theorem dX4_setPlace_58 : decode cX4_setPlace 58 = .ok (.getfield 10, 3) := dk_180 0 10 (dk_at dksX4_setPlace_2 11 rfl rfl)
theorem dX4_setPlace_61 : decode cX4_setPlace 61 = .ok (.iload_n 1, 1) := dk_27 (dk_at dksX4_setPlace_2 14 rfl rfl)
theorem dX4_setPlace_62 : decode cX4_setPlace 62 = .ok (.invokevirtual 58, 3) := dk_182 0 58 (dk_at dksX4_setPlace_2 15 rfl rfl)
theorem dX4_setPlace_65 : decode cX4_setPlace 65 = .ok (.checkcast 30, 3) := dk_192 0 30 (dk_at dksX4_setPlace_2 18 rfl rfl)
theorem dX4_setPlace_68 : decode cX4_setPlace 68 = .ok (.astore 5, 2) := dk_58 5 (dk_at dksX4_setPlace_2 21 rfl rfl)
theorem dX4_setPlace_70 : decode cX4_setPlace 70 = .ok (.aload 5, 2) := dk_25 5 (dk_at dksX4_setPlace_3 0 rfl rfl)
theorem dX4_setPlace_72 : decode cX4_setPlace 72 = .ok (.getfield 125, 3) := dk_180 0 125 (dk_at dksX4_setPlace_3 2 rfl rfl)
theorem dX4_setPlace_75 : decode cX4_setPlace 75 = .ok (.istore 6, 2) := dk_54 6 (dk_at dksX4_setPlace_3 5 rfl rfl)
theorem dX4_setPlace_77 : decode cX4_setPlace 77 = .ok (.aload 5, 2) := dk_25 5 (dk_at dksX4_setPlace_3 7 rfl rfl)
theorem dX4_setPlace_79 : decode cX4_setPlace 79 = .ok (.iload_n 2, 1) := dk_28 (dk_at dksX4_setPlace_3 9 rfl rfl)
theorem dX4_setPlace_80 : decode cX4_setPlace 80 = .ok (.putfield 125, 3) := dk_181 0 125 (dk_at dksX4_setPlace_3 10 rfl rfl)
theorem dX4_setPlace_83 : decode cX4_setPlace 83 = .ok (.aload 5, 2) := dk_25 5 (dk_at dksX4_setPlace_3 13 rfl rfl)
theorem dX4_setPlace_85 : decode cX4_setPlace 85 = .ok (.iload_n 3, 1) := dk_29 (dk_at dksX4_setPlace_3 15 rfl rfl)
theorem dX4_setPlace_86 : decode cX4_setPlace 86 = .ok (.putfield 128, 3) := dk_181 0 128 (dk_at dksX4_setPlace_3 16 rfl rfl)
theorem dX4_setPlace_89 : decode cX4_setPlace 89 = .ok (.aload 5, 2) := dk_25 5 (dk_at dksX4_setPlace_3 19 rfl rfl)
theorem dX4_setPlace_91 : decode cX4_setPlace 91 = .ok (.iload 4, 2) := dk_21 4 (dk_at dksX4_setPlace_3 21 rfl rfl)
theorem dX4_setPlace_93 : decode cX4_setPlace 93 = .ok (.putfield 131, 3) := dk_181 0 131 (dk_at dksX4_setPlace_4 0 rfl rfl)
theorem dX4_setPlace_96 : decode cX4_setPlace 96 = .ok (.aload_n 0, 1) := dk_42 (dk_at dksX4_setPlace_4 3 rfl rfl)
theorem dX4_setPlace_97 : decode cX4_setPlace 97 = .ok (.aload 5, 2) := dk_25 5 (dk_at dksX4_setPlace_4 4 rfl rfl)
theorem dX4_setPlace_99 : decode cX4_setPlace 99 = .ok (.invokevirtual 72, 3) := dk_182 0 72 (dk_at dksX4_setPlace_4 6 rfl rfl)
theorem dX4_setPlace_102 : decode cX4_setPlace 102 = .ok (.iload 6, 2) := dk_21 6 (dk_at dksX4_setPlace_4 9 rfl rfl)
theorem dX4_setPlace_104 : decode cX4_setPlace 104 = .ok (.ireturn, 1) := dk_172 (dk_at dksX4_setPlace_4 11 rfl rfl)
abbrev cX4_setDepth : ByteArray := prog_14_method_16_code
def yX4_setDepth : MethodName := ⟨RX4, "setDepth", "(II)I"⟩
def dkwX4_setDepth_2 : List UInt8 := [181, 0, 134, 29, 172]
abbrev dktX4_setDepth_2 : List UInt8 := dkwX4_setDepth_2 ++ []
def dkwX4_setDepth_1 : List UInt8 := [182, 0, 58, 192, 0, 30, 180, 0, 134, 62, 42, 180, 0, 10, 27, 182, 0, 58, 192, 0, 30, 28]
abbrev dktX4_setDepth_1 : List UInt8 := dkwX4_setDepth_1 ++ dktX4_setDepth_2
def dkwX4_setDepth_0 : List UInt8 := [42, 27, 28, 16, 251, 8, 184, 0, 43, 182, 0, 79, 158, 0, 5, 3, 172, 42, 180, 0, 10, 27]
abbrev dktX4_setDepth_0 : List UInt8 := dkwX4_setDepth_0 ++ dktX4_setDepth_1
theorem dksX4_setDepth_0 : cX4_setDepth.data.toList.drop 0 = dktX4_setDepth_0 := by decide +kernel
theorem dksX4_setDepth_1 : cX4_setDepth.data.toList.drop 22 = dktX4_setDepth_1 := dk_seg dksX4_setDepth_0 22 rfl rfl
theorem dksX4_setDepth_2 : cX4_setDepth.data.toList.drop 44 = dktX4_setDepth_2 := dk_seg dksX4_setDepth_1 22 rfl rfl
theorem dX4_setDepth_0 : decode cX4_setDepth 0 = .ok (.aload_n 0, 1) := dk_42 (dk_at dksX4_setDepth_0 0 rfl rfl)
theorem dX4_setDepth_1 : decode cX4_setDepth 1 = .ok (.iload_n 1, 1) := dk_27 (dk_at dksX4_setDepth_0 1 rfl rfl)
theorem dX4_setDepth_2 : decode cX4_setDepth 2 = .ok (.iload_n 2, 1) := dk_28 (dk_at dksX4_setDepth_0 2 rfl rfl)
theorem dX4_setDepth_3 : decode cX4_setDepth 3 = .ok (.bipush (-5), 2) := dk_16 251 (dk_at dksX4_setDepth_0 3 rfl rfl)
theorem dX4_setDepth_5 : decode cX4_setDepth 5 = .ok (.iconst 5, 1) := dk_8 (dk_at dksX4_setDepth_0 5 rfl rfl)
theorem dX4_setDepth_6 : decode cX4_setDepth 6 = .ok (.invokestatic 43, 3) := dk_184 0 43 (dk_at dksX4_setDepth_0 6 rfl rfl)
theorem dX4_setDepth_9 : decode cX4_setDepth 9 = .ok (.invokevirtual 79, 3) := dk_182 0 79 (dk_at dksX4_setDepth_0 9 rfl rfl)
theorem dX4_setDepth_12 : decode cX4_setDepth 12 = .ok (.ifCond .le 5, 3) := dk_158 0 5 (dk_at dksX4_setDepth_0 12 rfl rfl)
theorem dX4_setDepth_15 : decode cX4_setDepth 15 = .ok (.iconst 0, 1) := dk_3 (dk_at dksX4_setDepth_0 15 rfl rfl)
theorem dX4_setDepth_16 : decode cX4_setDepth 16 = .ok (.ireturn, 1) := dk_172 (dk_at dksX4_setDepth_0 16 rfl rfl)
theorem dX4_setDepth_17 : decode cX4_setDepth 17 = .ok (.aload_n 0, 1) := dk_42 (dk_at dksX4_setDepth_0 17 rfl rfl)
theorem dX4_setDepth_18 : decode cX4_setDepth 18 = .ok (.getfield 10, 3) := dk_180 0 10 (dk_at dksX4_setDepth_0 18 rfl rfl)
theorem dX4_setDepth_21 : decode cX4_setDepth 21 = .ok (.iload_n 1, 1) := dk_27 (dk_at dksX4_setDepth_0 21 rfl rfl)
theorem dX4_setDepth_22 : decode cX4_setDepth 22 = .ok (.invokevirtual 58, 3) := dk_182 0 58 (dk_at dksX4_setDepth_1 0 rfl rfl)
theorem dX4_setDepth_25 : decode cX4_setDepth 25 = .ok (.checkcast 30, 3) := dk_192 0 30 (dk_at dksX4_setDepth_1 3 rfl rfl)
theorem dX4_setDepth_28 : decode cX4_setDepth 28 = .ok (.getfield 134, 3) := dk_180 0 134 (dk_at dksX4_setDepth_1 6 rfl rfl)
theorem dX4_setDepth_31 : decode cX4_setDepth 31 = .ok (.istore_n 3, 1) := dk_62 (dk_at dksX4_setDepth_1 9 rfl rfl)
theorem dX4_setDepth_32 : decode cX4_setDepth 32 = .ok (.aload_n 0, 1) := dk_42 (dk_at dksX4_setDepth_1 10 rfl rfl)
theorem dX4_setDepth_33 : decode cX4_setDepth 33 = .ok (.getfield 10, 3) := dk_180 0 10 (dk_at dksX4_setDepth_1 11 rfl rfl)
theorem dX4_setDepth_36 : decode cX4_setDepth 36 = .ok (.iload_n 1, 1) := dk_27 (dk_at dksX4_setDepth_1 14 rfl rfl)
theorem dX4_setDepth_37 : decode cX4_setDepth 37 = .ok (.invokevirtual 58, 3) := dk_182 0 58 (dk_at dksX4_setDepth_1 15 rfl rfl)
theorem dX4_setDepth_40 : decode cX4_setDepth 40 = .ok (.checkcast 30, 3) := dk_192 0 30 (dk_at dksX4_setDepth_1 18 rfl rfl)
theorem dX4_setDepth_43 : decode cX4_setDepth 43 = .ok (.iload_n 2, 1) := dk_28 (dk_at dksX4_setDepth_1 21 rfl rfl)
theorem dX4_setDepth_44 : decode cX4_setDepth 44 = .ok (.putfield 134, 3) := dk_181 0 134 (dk_at dksX4_setDepth_2 0 rfl rfl)
theorem dX4_setDepth_47 : decode cX4_setDepth 47 = .ok (.iload_n 3, 1) := dk_29 (dk_at dksX4_setDepth_2 3 rfl rfl)
theorem dX4_setDepth_48 : decode cX4_setDepth 48 = .ok (.ireturn, 1) := dk_172 (dk_at dksX4_setDepth_2 4 rfl rfl)
abbrev cX4_setClear : ByteArray := prog_14_method_17_code
def yX4_setClear : MethodName := ⟨RX4, "setClear", "(IZ)Z"⟩
def dkwX4_setClear_1 : List UInt8 := [180, 0, 137, 54, 4, 45, 28, 181, 0, 137, 42, 45, 182, 0, 72, 21, 4, 172]
abbrev dktX4_setClear_1 : List UInt8 := dkwX4_setClear_1 ++ []
def dkwX4_setClear_0 : List UInt8 := [42, 27, 4, 182, 0, 79, 158, 0, 5, 3, 172, 42, 180, 0, 10, 27, 182, 0, 58, 192, 0, 30, 78, 45]
abbrev dktX4_setClear_0 : List UInt8 := dkwX4_setClear_0 ++ dktX4_setClear_1
theorem dksX4_setClear_0 : cX4_setClear.data.toList.drop 0 = dktX4_setClear_0 := by decide +kernel
theorem dksX4_setClear_1 : cX4_setClear.data.toList.drop 24 = dktX4_setClear_1 := dk_seg dksX4_setClear_0 24 rfl rfl
theorem dX4_setClear_0 : decode cX4_setClear 0 = .ok (.aload_n 0, 1) := dk_42 (dk_at dksX4_setClear_0 0 rfl rfl)
theorem dX4_setClear_1 : decode cX4_setClear 1 = .ok (.iload_n 1, 1) := dk_27 (dk_at dksX4_setClear_0 1 rfl rfl)
theorem dX4_setClear_2 : decode cX4_setClear 2 = .ok (.iconst 1, 1) := dk_4 (dk_at dksX4_setClear_0 2 rfl rfl)
theorem dX4_setClear_3 : decode cX4_setClear 3 = .ok (.invokevirtual 79, 3) := dk_182 0 79 (dk_at dksX4_setClear_0 3 rfl rfl)
theorem dX4_setClear_6 : decode cX4_setClear 6 = .ok (.ifCond .le 5, 3) := dk_158 0 5 (dk_at dksX4_setClear_0 6 rfl rfl)
theorem dX4_setClear_9 : decode cX4_setClear 9 = .ok (.iconst 0, 1) := dk_3 (dk_at dksX4_setClear_0 9 rfl rfl)
theorem dX4_setClear_10 : decode cX4_setClear 10 = .ok (.ireturn, 1) := dk_172 (dk_at dksX4_setClear_0 10 rfl rfl)
theorem dX4_setClear_11 : decode cX4_setClear 11 = .ok (.aload_n 0, 1) := dk_42 (dk_at dksX4_setClear_0 11 rfl rfl)
theorem dX4_setClear_12 : decode cX4_setClear 12 = .ok (.getfield 10, 3) := dk_180 0 10 (dk_at dksX4_setClear_0 12 rfl rfl)
theorem dX4_setClear_15 : decode cX4_setClear 15 = .ok (.iload_n 1, 1) := dk_27 (dk_at dksX4_setClear_0 15 rfl rfl)
theorem dX4_setClear_16 : decode cX4_setClear 16 = .ok (.invokevirtual 58, 3) := dk_182 0 58 (dk_at dksX4_setClear_0 16 rfl rfl)
theorem dX4_setClear_19 : decode cX4_setClear 19 = .ok (.checkcast 30, 3) := dk_192 0 30 (dk_at dksX4_setClear_0 19 rfl rfl)
theorem dX4_setClear_22 : decode cX4_setClear 22 = .ok (.astore_n 3, 1) := dk_78 (dk_at dksX4_setClear_0 22 rfl rfl)
theorem dX4_setClear_23 : decode cX4_setClear 23 = .ok (.aload_n 3, 1) := dk_45 (dk_at dksX4_setClear_0 23 rfl rfl)
theorem dX4_setClear_24 : decode cX4_setClear 24 = .ok (.getfield 137, 3) := dk_180 0 137 (dk_at dksX4_setClear_1 0 rfl rfl)
theorem dX4_setClear_27 : decode cX4_setClear 27 = .ok (.istore 4, 2) := dk_54 4 (dk_at dksX4_setClear_1 3 rfl rfl)
theorem dX4_setClear_29 : decode cX4_setClear 29 = .ok (.aload_n 3, 1) := dk_45 (dk_at dksX4_setClear_1 5 rfl rfl)
theorem dX4_setClear_30 : decode cX4_setClear 30 = .ok (.iload_n 2, 1) := dk_28 (dk_at dksX4_setClear_1 6 rfl rfl)
theorem dX4_setClear_31 : decode cX4_setClear 31 = .ok (.putfield 137, 3) := dk_181 0 137 (dk_at dksX4_setClear_1 7 rfl rfl)
theorem dX4_setClear_34 : decode cX4_setClear 34 = .ok (.aload_n 0, 1) := dk_42 (dk_at dksX4_setClear_1 10 rfl rfl)
theorem dX4_setClear_35 : decode cX4_setClear 35 = .ok (.aload_n 3, 1) := dk_45 (dk_at dksX4_setClear_1 11 rfl rfl)
theorem dX4_setClear_36 : decode cX4_setClear 36 = .ok (.invokevirtual 72, 3) := dk_182 0 72 (dk_at dksX4_setClear_1 12 rfl rfl)
theorem dX4_setClear_39 : decode cX4_setClear 39 = .ok (.iload 4, 2) := dk_21 4 (dk_at dksX4_setClear_1 15 rfl rfl)
theorem dX4_setClear_41 : decode cX4_setClear 41 = .ok (.ireturn, 1) := dk_172 (dk_at dksX4_setClear_1 17 rfl rfl)
abbrev cX4_setBreak : ByteArray := prog_14_method_18_code
def yX4_setBreak : MethodName := ⟨RX4, "setBreak", "(IC)C"⟩
def dkwX4_setBreak_2 : List UInt8 := [62, 42, 180, 0, 10, 27, 182, 0, 58, 192, 0, 30, 28, 181, 0, 140, 29, 172]
abbrev dktX4_setBreak_2 : List UInt8 := dkwX4_setBreak_2 ++ []
def dkwX4_setBreak_1 : List UInt8 := [3, 182, 0, 79, 158, 0, 6, 16, 32, 172, 42, 180, 0, 10, 27, 182, 0, 58, 192, 0, 30, 180, 0, 140]
abbrev dktX4_setBreak_1 : List UInt8 := dkwX4_setBreak_1 ++ dktX4_setBreak_2
def dkwX4_setBreak_0 : List UInt8 := [42, 27, 28, 16, 97, 159, 0, 15, 28, 16, 102, 159, 0, 9, 28, 16, 118, 160, 0, 7, 4, 167, 0, 4]
abbrev dktX4_setBreak_0 : List UInt8 := dkwX4_setBreak_0 ++ dktX4_setBreak_1
theorem dksX4_setBreak_0 : cX4_setBreak.data.toList.drop 0 = dktX4_setBreak_0 := by decide +kernel
theorem dksX4_setBreak_1 : cX4_setBreak.data.toList.drop 24 = dktX4_setBreak_1 := dk_seg dksX4_setBreak_0 24 rfl rfl
theorem dksX4_setBreak_2 : cX4_setBreak.data.toList.drop 48 = dktX4_setBreak_2 := dk_seg dksX4_setBreak_1 24 rfl rfl
theorem dX4_setBreak_0 : decode cX4_setBreak 0 = .ok (.aload_n 0, 1) := dk_42 (dk_at dksX4_setBreak_0 0 rfl rfl)
theorem dX4_setBreak_1 : decode cX4_setBreak 1 = .ok (.iload_n 1, 1) := dk_27 (dk_at dksX4_setBreak_0 1 rfl rfl)
theorem dX4_setBreak_2 : decode cX4_setBreak 2 = .ok (.iload_n 2, 1) := dk_28 (dk_at dksX4_setBreak_0 2 rfl rfl)
theorem dX4_setBreak_3 : decode cX4_setBreak 3 = .ok (.bipush 97, 2) := dk_16 97 (dk_at dksX4_setBreak_0 3 rfl rfl)
theorem dX4_setBreak_5 : decode cX4_setBreak 5 = .ok (.if_icmp .eq 15, 3) := dk_159 0 15 (dk_at dksX4_setBreak_0 5 rfl rfl)
theorem dX4_setBreak_8 : decode cX4_setBreak 8 = .ok (.iload_n 2, 1) := dk_28 (dk_at dksX4_setBreak_0 8 rfl rfl)
theorem dX4_setBreak_9 : decode cX4_setBreak 9 = .ok (.bipush 102, 2) := dk_16 102 (dk_at dksX4_setBreak_0 9 rfl rfl)
theorem dX4_setBreak_11 : decode cX4_setBreak 11 = .ok (.if_icmp .eq 9, 3) := dk_159 0 9 (dk_at dksX4_setBreak_0 11 rfl rfl)
theorem dX4_setBreak_14 : decode cX4_setBreak 14 = .ok (.iload_n 2, 1) := dk_28 (dk_at dksX4_setBreak_0 14 rfl rfl)
theorem dX4_setBreak_15 : decode cX4_setBreak 15 = .ok (.bipush 118, 2) := dk_16 118 (dk_at dksX4_setBreak_0 15 rfl rfl)
theorem dX4_setBreak_17 : decode cX4_setBreak 17 = .ok (.if_icmp .ne 7, 3) := dk_160 0 7 (dk_at dksX4_setBreak_0 17 rfl rfl)
theorem dX4_setBreak_20 : decode cX4_setBreak 20 = .ok (.iconst 1, 1) := dk_4 (dk_at dksX4_setBreak_0 20 rfl rfl)
theorem dX4_setBreak_21 : decode cX4_setBreak 21 = .ok (.goto 4, 3) := dk_167 0 4 (dk_at dksX4_setBreak_0 21 rfl rfl)
theorem dX4_setBreak_24 : decode cX4_setBreak 24 = .ok (.iconst 0, 1) := dk_3 (dk_at dksX4_setBreak_1 0 rfl rfl)
theorem dX4_setBreak_25 : decode cX4_setBreak 25 = .ok (.invokevirtual 79, 3) := dk_182 0 79 (dk_at dksX4_setBreak_1 1 rfl rfl)
theorem dX4_setBreak_28 : decode cX4_setBreak 28 = .ok (.ifCond .le 6, 3) := dk_158 0 6 (dk_at dksX4_setBreak_1 4 rfl rfl)
theorem dX4_setBreak_31 : decode cX4_setBreak 31 = .ok (.bipush 32, 2) := dk_16 32 (dk_at dksX4_setBreak_1 7 rfl rfl)
theorem dX4_setBreak_33 : decode cX4_setBreak 33 = .ok (.ireturn, 1) := dk_172 (dk_at dksX4_setBreak_1 9 rfl rfl)
theorem dX4_setBreak_34 : decode cX4_setBreak 34 = .ok (.aload_n 0, 1) := dk_42 (dk_at dksX4_setBreak_1 10 rfl rfl)
theorem dX4_setBreak_35 : decode cX4_setBreak 35 = .ok (.getfield 10, 3) := dk_180 0 10 (dk_at dksX4_setBreak_1 11 rfl rfl)
theorem dX4_setBreak_38 : decode cX4_setBreak 38 = .ok (.iload_n 1, 1) := dk_27 (dk_at dksX4_setBreak_1 14 rfl rfl)
theorem dX4_setBreak_39 : decode cX4_setBreak 39 = .ok (.invokevirtual 58, 3) := dk_182 0 58 (dk_at dksX4_setBreak_1 15 rfl rfl)
theorem dX4_setBreak_42 : decode cX4_setBreak 42 = .ok (.checkcast 30, 3) := dk_192 0 30 (dk_at dksX4_setBreak_1 18 rfl rfl)
theorem dX4_setBreak_45 : decode cX4_setBreak 45 = .ok (.getfield 140, 3) := dk_180 0 140 (dk_at dksX4_setBreak_1 21 rfl rfl)
theorem dX4_setBreak_48 : decode cX4_setBreak 48 = .ok (.istore_n 3, 1) := dk_62 (dk_at dksX4_setBreak_2 0 rfl rfl)
theorem dX4_setBreak_49 : decode cX4_setBreak 49 = .ok (.aload_n 0, 1) := dk_42 (dk_at dksX4_setBreak_2 1 rfl rfl)
theorem dX4_setBreak_50 : decode cX4_setBreak 50 = .ok (.getfield 10, 3) := dk_180 0 10 (dk_at dksX4_setBreak_2 2 rfl rfl)
theorem dX4_setBreak_53 : decode cX4_setBreak 53 = .ok (.iload_n 1, 1) := dk_27 (dk_at dksX4_setBreak_2 5 rfl rfl)
theorem dX4_setBreak_54 : decode cX4_setBreak 54 = .ok (.invokevirtual 58, 3) := dk_182 0 58 (dk_at dksX4_setBreak_2 6 rfl rfl)
theorem dX4_setBreak_57 : decode cX4_setBreak 57 = .ok (.checkcast 30, 3) := dk_192 0 30 (dk_at dksX4_setBreak_2 9 rfl rfl)
theorem dX4_setBreak_60 : decode cX4_setBreak 60 = .ok (.iload_n 2, 1) := dk_28 (dk_at dksX4_setBreak_2 12 rfl rfl)
theorem dX4_setBreak_61 : decode cX4_setBreak 61 = .ok (.putfield 140, 3) := dk_181 0 140 (dk_at dksX4_setBreak_2 13 rfl rfl)
theorem dX4_setBreak_64 : decode cX4_setBreak 64 = .ok (.iload_n 3, 1) := dk_29 (dk_at dksX4_setBreak_2 16 rfl rfl)
theorem dX4_setBreak_65 : decode cX4_setBreak 65 = .ok (.ireturn, 1) := dk_172 (dk_at dksX4_setBreak_2 17 rfl rfl)
abbrev cX4_setAlignment : ByteArray := prog_14_method_19_code
def yX4_setAlignment : MethodName := ⟨RX4, "setAlignment", "(IC)C"⟩
def dkwX4_setAlignment_2 : List UInt8 := [180, 0, 143, 54, 4, 45, 28, 181, 0, 143, 42, 45, 182, 0, 72, 21, 4, 172]
abbrev dktX4_setAlignment_2 : List UInt8 := dkwX4_setAlignment_2 ++ []
def dkwX4_setAlignment_1 : List UInt8 := [3, 182, 0, 79, 158, 0, 6, 16, 32, 172, 42, 180, 0, 10, 27, 182, 0, 58, 192, 0, 30, 78, 45]
abbrev dktX4_setAlignment_1 : List UInt8 := dkwX4_setAlignment_1 ++ dktX4_setAlignment_2
def dkwX4_setAlignment_0 : List UInt8 := [42, 27, 28, 16, 108, 159, 0, 15, 28, 16, 99, 159, 0, 9, 28, 16, 114, 160, 0, 7, 4, 167, 0, 4]
abbrev dktX4_setAlignment_0 : List UInt8 := dkwX4_setAlignment_0 ++ dktX4_setAlignment_1
theorem dksX4_setAlignment_0 : cX4_setAlignment.data.toList.drop 0 = dktX4_setAlignment_0 := by decide +kernel
theorem dksX4_setAlignment_1 : cX4_setAlignment.data.toList.drop 24 = dktX4_setAlignment_1 := dk_seg dksX4_setAlignment_0 24 rfl rfl
theorem dksX4_setAlignment_2 : cX4_setAlignment.data.toList.drop 47 = dktX4_setAlignment_2 := dk_seg dksX4_setAlignment_1 23 rfl rfl
theorem dX4_setAlignment_0 : decode cX4_setAlignment 0 = .ok (.aload_n 0, 1) := dk_42 (dk_at dksX4_setAlignment_0 0 rfl rfl)
theorem dX4_setAlignment_1 : decode cX4_setAlignment 1 = .ok (.iload_n 1, 1) := dk_27 (dk_at dksX4_setAlignment_0 1 rfl rfl)
theorem dX4_setAlignment_2 : decode cX4_setAlignment 2 = .ok (.iload_n 2, 1) := dk_28 (dk_at dksX4_setAlignment_0 2 rfl rfl)
theorem dX4_setAlignment_3 : decode cX4_setAlignment 3 = .ok (.bipush 108, 2) := dk_16 108 (dk_at dksX4_setAlignment_0 3 rfl rfl)
theorem dX4_setAlignment_5 : decode cX4_setAlignment 5 = .ok (.if_icmp .eq 15, 3) := dk_159 0 15 (dk_at dksX4_setAlignment_0 5 rfl rfl)
theorem dX4_setAlignment_8 : decode cX4_setAlignment 8 = .ok (.iload_n 2, 1) := dk_28 (dk_at dksX4_setAlignment_0 8 rfl rfl)
theorem dX4_setAlignment_9 : decode cX4_setAlignment 9 = .ok (.bipush 99, 2) := dk_16 99 (dk_at dksX4_setAlignment_0 9 rfl rfl)
theorem dX4_setAlignment_11 : decode cX4_setAlignment 11 = .ok (.if_icmp .eq 9, 3) := dk_159 0 9 (dk_at dksX4_setAlignment_0 11 rfl rfl)
theorem dX4_setAlignment_14 : decode cX4_setAlignment 14 = .ok (.iload_n 2, 1) := dk_28 (dk_at dksX4_setAlignment_0 14 rfl rfl)
theorem dX4_setAlignment_15 : decode cX4_setAlignment 15 = .ok (.bipush 114, 2) := dk_16 114 (dk_at dksX4_setAlignment_0 15 rfl rfl)
theorem dX4_setAlignment_17 : decode cX4_setAlignment 17 = .ok (.if_icmp .ne 7, 3) := dk_160 0 7 (dk_at dksX4_setAlignment_0 17 rfl rfl)
theorem dX4_setAlignment_20 : decode cX4_setAlignment 20 = .ok (.iconst 1, 1) := dk_4 (dk_at dksX4_setAlignment_0 20 rfl rfl)
theorem dX4_setAlignment_21 : decode cX4_setAlignment 21 = .ok (.goto 4, 3) := dk_167 0 4 (dk_at dksX4_setAlignment_0 21 rfl rfl)
theorem dX4_setAlignment_24 : decode cX4_setAlignment 24 = .ok (.iconst 0, 1) := dk_3 (dk_at dksX4_setAlignment_1 0 rfl rfl)
theorem dX4_setAlignment_25 : decode cX4_setAlignment 25 = .ok (.invokevirtual 79, 3) := dk_182 0 79 (dk_at dksX4_setAlignment_1 1 rfl rfl)
theorem dX4_setAlignment_28 : decode cX4_setAlignment 28 = .ok (.ifCond .le 6, 3) := dk_158 0 6 (dk_at dksX4_setAlignment_1 4 rfl rfl)
theorem dX4_setAlignment_31 : decode cX4_setAlignment 31 = .ok (.bipush 32, 2) := dk_16 32 (dk_at dksX4_setAlignment_1 7 rfl rfl)
theorem dX4_setAlignment_33 : decode cX4_setAlignment 33 = .ok (.ireturn, 1) := dk_172 (dk_at dksX4_setAlignment_1 9 rfl rfl)
theorem dX4_setAlignment_34 : decode cX4_setAlignment 34 = .ok (.aload_n 0, 1) := dk_42 (dk_at dksX4_setAlignment_1 10 rfl rfl)
theorem dX4_setAlignment_35 : decode cX4_setAlignment 35 = .ok (.getfield 10, 3) := dk_180 0 10 (dk_at dksX4_setAlignment_1 11 rfl rfl)
theorem dX4_setAlignment_38 : decode cX4_setAlignment 38 = .ok (.iload_n 1, 1) := dk_27 (dk_at dksX4_setAlignment_1 14 rfl rfl)
theorem dX4_setAlignment_39 : decode cX4_setAlignment 39 = .ok (.invokevirtual 58, 3) := dk_182 0 58 (dk_at dksX4_setAlignment_1 15 rfl rfl)
theorem dX4_setAlignment_42 : decode cX4_setAlignment 42 = .ok (.checkcast 30, 3) := dk_192 0 30 (dk_at dksX4_setAlignment_1 18 rfl rfl)
theorem dX4_setAlignment_45 : decode cX4_setAlignment 45 = .ok (.astore_n 3, 1) := dk_78 (dk_at dksX4_setAlignment_1 21 rfl rfl)
theorem dX4_setAlignment_46 : decode cX4_setAlignment 46 = .ok (.aload_n 3, 1) := dk_45 (dk_at dksX4_setAlignment_1 22 rfl rfl)
theorem dX4_setAlignment_47 : decode cX4_setAlignment 47 = .ok (.getfield 143, 3) := dk_180 0 143 (dk_at dksX4_setAlignment_2 0 rfl rfl)
theorem dX4_setAlignment_50 : decode cX4_setAlignment 50 = .ok (.istore 4, 2) := dk_54 4 (dk_at dksX4_setAlignment_2 3 rfl rfl)
theorem dX4_setAlignment_52 : decode cX4_setAlignment 52 = .ok (.aload_n 3, 1) := dk_45 (dk_at dksX4_setAlignment_2 5 rfl rfl)
theorem dX4_setAlignment_53 : decode cX4_setAlignment 53 = .ok (.iload_n 2, 1) := dk_28 (dk_at dksX4_setAlignment_2 6 rfl rfl)
theorem dX4_setAlignment_54 : decode cX4_setAlignment 54 = .ok (.putfield 143, 3) := dk_181 0 143 (dk_at dksX4_setAlignment_2 7 rfl rfl)
theorem dX4_setAlignment_57 : decode cX4_setAlignment 57 = .ok (.aload_n 0, 1) := dk_42 (dk_at dksX4_setAlignment_2 10 rfl rfl)
theorem dX4_setAlignment_58 : decode cX4_setAlignment 58 = .ok (.aload_n 3, 1) := dk_45 (dk_at dksX4_setAlignment_2 11 rfl rfl)
theorem dX4_setAlignment_59 : decode cX4_setAlignment 59 = .ok (.invokevirtual 72, 3) := dk_182 0 72 (dk_at dksX4_setAlignment_2 12 rfl rfl)
theorem dX4_setAlignment_62 : decode cX4_setAlignment 62 = .ok (.iload 4, 2) := dk_21 4 (dk_at dksX4_setAlignment_2 15 rfl rfl)
theorem dX4_setAlignment_64 : decode cX4_setAlignment 64 = .ok (.ireturn, 1) := dk_172 (dk_at dksX4_setAlignment_2 17 rfl rfl)
abbrev cX4_leastWidth : ByteArray := prog_14_method_24_code
def yX4_leastWidth : MethodName := ⟨RX4, "leastWidth", "(I)I"⟩
def dkwX4_leastWidth_1 : List UInt8 := [4, 184, 0, 172, 172]
abbrev dktX4_leastWidth_1 : List UInt8 := dkwX4_leastWidth_1 ++ []
def dkwX4_leastWidth_0 : List UInt8 := [42, 27, 4, 182, 0, 79, 158, 0, 7, 3, 167, 0, 18, 42, 180, 0, 10, 27, 182, 0, 58, 192, 0, 30]
abbrev dktX4_leastWidth_0 : List UInt8 := dkwX4_leastWidth_0 ++ dktX4_leastWidth_1
theorem dksX4_leastWidth_0 : cX4_leastWidth.data.toList.drop 0 = dktX4_leastWidth_0 := by decide +kernel
theorem dksX4_leastWidth_1 : cX4_leastWidth.data.toList.drop 24 = dktX4_leastWidth_1 := dk_seg dksX4_leastWidth_0 24 rfl rfl
theorem dX4_leastWidth_0 : decode cX4_leastWidth 0 = .ok (.aload_n 0, 1) := dk_42 (dk_at dksX4_leastWidth_0 0 rfl rfl)
theorem dX4_leastWidth_1 : decode cX4_leastWidth 1 = .ok (.iload_n 1, 1) := dk_27 (dk_at dksX4_leastWidth_0 1 rfl rfl)
theorem dX4_leastWidth_2 : decode cX4_leastWidth 2 = .ok (.iconst 1, 1) := dk_4 (dk_at dksX4_leastWidth_0 2 rfl rfl)
theorem dX4_leastWidth_3 : decode cX4_leastWidth 3 = .ok (.invokevirtual 79, 3) := dk_182 0 79 (dk_at dksX4_leastWidth_0 3 rfl rfl)
theorem dX4_leastWidth_6 : decode cX4_leastWidth 6 = .ok (.ifCond .le 7, 3) := dk_158 0 7 (dk_at dksX4_leastWidth_0 6 rfl rfl)
theorem dX4_leastWidth_9 : decode cX4_leastWidth 9 = .ok (.iconst 0, 1) := dk_3 (dk_at dksX4_leastWidth_0 9 rfl rfl)
theorem dX4_leastWidth_10 : decode cX4_leastWidth 10 = .ok (.goto 18, 3) := dk_167 0 18 (dk_at dksX4_leastWidth_0 10 rfl rfl)
theorem dX4_leastWidth_13 : decode cX4_leastWidth 13 = .ok (.aload_n 0, 1) := dk_42 (dk_at dksX4_leastWidth_0 13 rfl rfl)
theorem dX4_leastWidth_14 : decode cX4_leastWidth 14 = .ok (.getfield 10, 3) := dk_180 0 10 (dk_at dksX4_leastWidth_0 14 rfl rfl)
theorem dX4_leastWidth_17 : decode cX4_leastWidth 17 = .ok (.iload_n 1, 1) := dk_27 (dk_at dksX4_leastWidth_0 17 rfl rfl)
theorem dX4_leastWidth_18 : decode cX4_leastWidth 18 = .ok (.invokevirtual 58, 3) := dk_182 0 58 (dk_at dksX4_leastWidth_0 18 rfl rfl)
theorem dX4_leastWidth_21 : decode cX4_leastWidth 21 = .ok (.checkcast 30, 3) := dk_192 0 30 (dk_at dksX4_leastWidth_0 21 rfl rfl)
theorem dX4_leastWidth_24 : decode cX4_leastWidth 24 = .ok (.iconst 1, 1) := dk_4 (dk_at dksX4_leastWidth_1 0 rfl rfl)
theorem dX4_leastWidth_25 : decode cX4_leastWidth 25 = .ok (.invokestatic 172, 3) := dk_184 0 172 (dk_at dksX4_leastWidth_1 1 rfl rfl)
theorem dX4_leastWidth_28 : decode cX4_leastWidth 28 = .ok (.ireturn, 1) := dk_172 (dk_at dksX4_leastWidth_1 4 rfl rfl)
abbrev cX4_bound : ByteArray := prog_14_method_22_code
def yX4_bound : MethodName := ⟨RX4, "bound", "(LColumnarPressModel$Box;Z)I"⟩
def dkwX4_bound_1 : List UInt8 := [160, 0, 11, 42, 27, 184, 0, 182, 167, 0, 8, 42, 27, 184, 0, 185, 96, 172]
abbrev dktX4_bound_1 : List UInt8 := dkwX4_bound_1 ++ []
def dkwX4_bound_0 : List UInt8 := [42, 182, 0, 179, 155, 0, 8, 42, 182, 0, 179, 172, 5, 42, 180, 0, 110, 104, 42, 180, 0, 62, 16, 116]
abbrev dktX4_bound_0 : List UInt8 := dkwX4_bound_0 ++ dktX4_bound_1
theorem dksX4_bound_0 : cX4_bound.data.toList.drop 0 = dktX4_bound_0 := by decide +kernel
theorem dksX4_bound_1 : cX4_bound.data.toList.drop 24 = dktX4_bound_1 := dk_seg dksX4_bound_0 24 rfl rfl
theorem dX4_bound_0 : decode cX4_bound 0 = .ok (.aload_n 0, 1) := dk_42 (dk_at dksX4_bound_0 0 rfl rfl)
theorem dX4_bound_1 : decode cX4_bound 1 = .ok (.invokevirtual 179, 3) := dk_182 0 179 (dk_at dksX4_bound_0 1 rfl rfl)
theorem dX4_bound_4 : decode cX4_bound 4 = .ok (.ifCond .lt 8, 3) := dk_155 0 8 (dk_at dksX4_bound_0 4 rfl rfl)
theorem dX4_bound_7 : decode cX4_bound 7 = .ok (.aload_n 0, 1) := dk_42 (dk_at dksX4_bound_0 7 rfl rfl)
theorem dX4_bound_8 : decode cX4_bound 8 = .ok (.invokevirtual 179, 3) := dk_182 0 179 (dk_at dksX4_bound_0 8 rfl rfl)
theorem dX4_bound_11 : decode cX4_bound 11 = .ok (.ireturn, 1) := dk_172 (dk_at dksX4_bound_0 11 rfl rfl)
theorem dX4_bound_12 : decode cX4_bound 12 = .ok (.iconst 2, 1) := dk_5 (dk_at dksX4_bound_0 12 rfl rfl)
theorem dX4_bound_13 : decode cX4_bound 13 = .ok (.aload_n 0, 1) := dk_42 (dk_at dksX4_bound_0 13 rfl rfl)
theorem dX4_bound_14 : decode cX4_bound 14 = .ok (.getfield 110, 3) := dk_180 0 110 (dk_at dksX4_bound_0 14 rfl rfl)
theorem dX4_bound_17 : decode cX4_bound 17 = .ok (.imul, 1) := dk_104 (dk_at dksX4_bound_0 17 rfl rfl)
theorem dX4_bound_18 : decode cX4_bound 18 = .ok (.aload_n 0, 1) := dk_42 (dk_at dksX4_bound_0 18 rfl rfl)
theorem dX4_bound_19 : decode cX4_bound 19 = .ok (.getfield 62, 3) := dk_180 0 62 (dk_at dksX4_bound_0 19 rfl rfl)
theorem dX4_bound_22 : decode cX4_bound 22 = .ok (.bipush 116, 2) := dk_16 116 (dk_at dksX4_bound_0 22 rfl rfl)
theorem dX4_bound_24 : decode cX4_bound 24 = .ok (.if_icmp .ne 11, 3) := dk_160 0 11 (dk_at dksX4_bound_1 0 rfl rfl)
theorem dX4_bound_27 : decode cX4_bound 27 = .ok (.aload_n 0, 1) := dk_42 (dk_at dksX4_bound_1 3 rfl rfl)
theorem dX4_bound_28 : decode cX4_bound 28 = .ok (.iload_n 1, 1) := dk_27 (dk_at dksX4_bound_1 4 rfl rfl)
theorem dX4_bound_29 : decode cX4_bound 29 = .ok (.invokestatic 182, 3) := dk_184 0 182 (dk_at dksX4_bound_1 5 rfl rfl)
theorem dX4_bound_32 : decode cX4_bound 32 = .ok (.goto 8, 3) := dk_167 0 8 (dk_at dksX4_bound_1 8 rfl rfl)
theorem dX4_bound_35 : decode cX4_bound 35 = .ok (.aload_n 0, 1) := dk_42 (dk_at dksX4_bound_1 11 rfl rfl)
theorem dX4_bound_36 : decode cX4_bound 36 = .ok (.iload_n 1, 1) := dk_27 (dk_at dksX4_bound_1 12 rfl rfl)
theorem dX4_bound_37 : decode cX4_bound 37 = .ok (.invokestatic 185, 3) := dk_184 0 185 (dk_at dksX4_bound_1 13 rfl rfl)
theorem dX4_bound_40 : decode cX4_bound 40 = .ok (.iadd, 1) := dk_96 (dk_at dksX4_bound_1 16 rfl rfl)
theorem dX4_bound_41 : decode cX4_bound 41 = .ok (.ireturn, 1) := dk_172 (dk_at dksX4_bound_1 17 rfl rfl)
abbrev cX4_ofText : ByteArray := prog_14_method_20_code
def yX4_ofText : MethodName := ⟨RX4, "ofText", "(LColumnarPressModel$Box;Z)I"⟩
def dkwX4_ofText_3 : List UInt8 := [167, 0, 4, 29, 172]
abbrev dktX4_ofText_3 : List UInt8 := dkwX4_ofText_3 ++ []
def dkwX4_ofText_2 : List UInt8 := [21, 5, 29, 158, 0, 7, 5, 167, 0, 4, 3, 96, 96, 62, 167, 255, 209, 27, 153, 0, 7, 28]
abbrev dktX4_ofText_2 : List UInt8 := dkwX4_ofText_2 ++ dktX4_ofText_3
def dkwX4_ofText_1 : List UInt8 := [25, 4, 185, 0, 156, 1, 0, 192, 0, 87, 182, 0, 160, 54, 5, 28, 21, 5, 184, 0, 163, 61, 29]
abbrev dktX4_ofText_1 : List UInt8 := dkwX4_ofText_1 ++ dktX4_ofText_2
def dkwX4_ofText_0 : List UInt8 := [3, 61, 3, 62, 42, 180, 0, 83, 182, 0, 146, 58, 4, 25, 4, 185, 0, 150, 1, 0, 153, 0, 43]
abbrev dktX4_ofText_0 : List UInt8 := dkwX4_ofText_0 ++ dktX4_ofText_1
theorem dksX4_ofText_0 : cX4_ofText.data.toList.drop 0 = dktX4_ofText_0 := by decide +kernel
theorem dksX4_ofText_1 : cX4_ofText.data.toList.drop 23 = dktX4_ofText_1 := dk_seg dksX4_ofText_0 23 rfl rfl
theorem dksX4_ofText_2 : cX4_ofText.data.toList.drop 46 = dktX4_ofText_2 := dk_seg dksX4_ofText_1 23 rfl rfl
theorem dksX4_ofText_3 : cX4_ofText.data.toList.drop 68 = dktX4_ofText_3 := dk_seg dksX4_ofText_2 22 rfl rfl
theorem dX4_ofText_0 : decode cX4_ofText 0 = .ok (.iconst 0, 1) := dk_3 (dk_at dksX4_ofText_0 0 rfl rfl)
theorem dX4_ofText_1 : decode cX4_ofText 1 = .ok (.istore_n 2, 1) := dk_61 (dk_at dksX4_ofText_0 1 rfl rfl)
theorem dX4_ofText_2 : decode cX4_ofText 2 = .ok (.iconst 0, 1) := dk_3 (dk_at dksX4_ofText_0 2 rfl rfl)
theorem dX4_ofText_3 : decode cX4_ofText 3 = .ok (.istore_n 3, 1) := dk_62 (dk_at dksX4_ofText_0 3 rfl rfl)
theorem dX4_ofText_4 : decode cX4_ofText 4 = .ok (.aload_n 0, 1) := dk_42 (dk_at dksX4_ofText_0 4 rfl rfl)
theorem dX4_ofText_5 : decode cX4_ofText 5 = .ok (.getfield 83, 3) := dk_180 0 83 (dk_at dksX4_ofText_0 5 rfl rfl)
theorem dX4_ofText_8 : decode cX4_ofText 8 = .ok (.invokevirtual 146, 3) := dk_182 0 146 (dk_at dksX4_ofText_0 8 rfl rfl)
theorem dX4_ofText_11 : decode cX4_ofText 11 = .ok (.astore 4, 2) := dk_58 4 (dk_at dksX4_ofText_0 11 rfl rfl)
theorem dX4_ofText_13 : decode cX4_ofText 13 = .ok (.aload 4, 2) := dk_25 4 (dk_at dksX4_ofText_0 13 rfl rfl)
theorem dX4_ofText_15 : decode cX4_ofText 15 = .ok (.invokeinterface 150 1, 5) := by decide +kernel
theorem dX4_ofText_20 : decode cX4_ofText 20 = .ok (.ifCond .eq 43, 3) := dk_153 0 43 (dk_at dksX4_ofText_0 20 rfl rfl)
theorem dX4_ofText_23 : decode cX4_ofText 23 = .ok (.aload 4, 2) := dk_25 4 (dk_at dksX4_ofText_1 0 rfl rfl)
theorem dX4_ofText_25 : decode cX4_ofText 25 = .ok (.invokeinterface 156 1, 5) := by decide +kernel
theorem dX4_ofText_30 : decode cX4_ofText 30 = .ok (.checkcast 87, 3) := dk_192 0 87 (dk_at dksX4_ofText_1 7 rfl rfl)
theorem dX4_ofText_33 : decode cX4_ofText 33 = .ok (.invokevirtual 160, 3) := dk_182 0 160 (dk_at dksX4_ofText_1 10 rfl rfl)
theorem dX4_ofText_36 : decode cX4_ofText 36 = .ok (.istore 5, 2) := dk_54 5 (dk_at dksX4_ofText_1 13 rfl rfl)
theorem dX4_ofText_38 : decode cX4_ofText 38 = .ok (.iload_n 2, 1) := dk_28 (dk_at dksX4_ofText_1 15 rfl rfl)
theorem dX4_ofText_39 : decode cX4_ofText 39 = .ok (.iload 5, 2) := dk_21 5 (dk_at dksX4_ofText_1 16 rfl rfl)
theorem dX4_ofText_41 : decode cX4_ofText 41 = .ok (.invokestatic 163, 3) := dk_184 0 163 (dk_at dksX4_ofText_1 18 rfl rfl)
theorem dX4_ofText_44 : decode cX4_ofText 44 = .ok (.istore_n 2, 1) := dk_61 (dk_at dksX4_ofText_1 21 rfl rfl)
theorem dX4_ofText_45 : decode cX4_ofText 45 = .ok (.iload_n 3, 1) := dk_29 (dk_at dksX4_ofText_1 22 rfl rfl)
theorem dX4_ofText_46 : decode cX4_ofText 46 = .ok (.iload 5, 2) := dk_21 5 (dk_at dksX4_ofText_2 0 rfl rfl)
theorem dX4_ofText_48 : decode cX4_ofText 48 = .ok (.iload_n 3, 1) := dk_29 (dk_at dksX4_ofText_2 2 rfl rfl)
theorem dX4_ofText_49 : decode cX4_ofText 49 = .ok (.ifCond .le 7, 3) := dk_158 0 7 (dk_at dksX4_ofText_2 3 rfl rfl)
theorem dX4_ofText_52 : decode cX4_ofText 52 = .ok (.iconst 2, 1) := dk_5 (dk_at dksX4_ofText_2 6 rfl rfl)
theorem dX4_ofText_53 : decode cX4_ofText 53 = .ok (.goto 4, 3) := dk_167 0 4 (dk_at dksX4_ofText_2 7 rfl rfl)
theorem dX4_ofText_56 : decode cX4_ofText 56 = .ok (.iconst 0, 1) := dk_3 (dk_at dksX4_ofText_2 10 rfl rfl)
theorem dX4_ofText_57 : decode cX4_ofText 57 = .ok (.iadd, 1) := dk_96 (dk_at dksX4_ofText_2 11 rfl rfl)
theorem dX4_ofText_58 : decode cX4_ofText 58 = .ok (.iadd, 1) := dk_96 (dk_at dksX4_ofText_2 12 rfl rfl)
theorem dX4_ofText_59 : decode cX4_ofText 59 = .ok (.istore_n 3, 1) := dk_62 (dk_at dksX4_ofText_2 13 rfl rfl)
theorem dX4_ofText_60 : decode cX4_ofText 60 = .ok (.goto (-47), 3) := dk_167 255 209 (dk_at dksX4_ofText_2 14 rfl rfl)
theorem dX4_ofText_63 : decode cX4_ofText 63 = .ok (.iload_n 1, 1) := dk_27 (dk_at dksX4_ofText_2 17 rfl rfl)
theorem dX4_ofText_64 : decode cX4_ofText 64 = .ok (.ifCond .eq 7, 3) := dk_153 0 7 (dk_at dksX4_ofText_2 18 rfl rfl)
theorem dX4_ofText_67 : decode cX4_ofText 67 = .ok (.iload_n 2, 1) := dk_28 (dk_at dksX4_ofText_2 21 rfl rfl)
theorem dX4_ofText_68 : decode cX4_ofText 68 = .ok (.goto 4, 3) := dk_167 0 4 (dk_at dksX4_ofText_3 0 rfl rfl)
theorem dX4_ofText_71 : decode cX4_ofText 71 = .ok (.iload_n 3, 1) := dk_29 (dk_at dksX4_ofText_3 3 rfl rfl)
theorem dX4_ofText_72 : decode cX4_ofText 72 = .ok (.ireturn, 1) := dk_172 (dk_at dksX4_ofText_3 4 rfl rfl)
abbrev cX4_ofChildren : ByteArray := prog_14_method_21_code
def yX4_ofChildren : MethodName := ⟨RX4, "ofChildren", "(LColumnarPressModel$Box;Z)I"⟩
def dkwX4_ofChildren_7 : List UInt8 := [54, 9, 21, 5, 21, 9, 96, 54, 5, 132, 8, 1, 167, 255, 232, 21, 5, 172]
abbrev dktX4_ofChildren_7 : List UInt8 := dkwX4_ofChildren_7 ++ []
def dkwX4_ofChildren_6 : List UInt8 := [44, 58, 6, 25, 6, 190, 54, 7, 3, 54, 8, 21, 8, 21, 7, 162, 0, 23, 25, 6, 21, 8, 46]
abbrev dktX4_ofChildren_6 : List UInt8 := dkwX4_ofChildren_6 ++ dktX4_ofChildren_7
def dkwX4_ofChildren_5 : List UInt8 := [184, 0, 163, 79, 132, 4, 1, 167, 255, 153, 42, 180, 0, 62, 16, 103, 159, 0, 5, 29, 172, 3, 54, 5]
abbrev dktX4_ofChildren_5 : List UInt8 := dkwX4_ofChildren_5 ++ dktX4_ofChildren_6
def dkwX4_ofChildren_4 : List UInt8 := [29, 21, 7, 96, 62, 44, 21, 4, 42, 180, 0, 119, 112, 44, 21, 4, 42, 180, 0, 119, 112, 46, 21, 7]
abbrev dktX4_ofChildren_4 : List UInt8 := dkwX4_ofChildren_4 ++ dktX4_ofChildren_5
def dkwX4_ofChildren_3 : List UInt8 := [180, 0, 62, 16, 98, 160, 0, 10, 29, 21, 7, 184, 0, 163, 62, 42, 180, 0, 62, 16, 102, 160, 0, 8]
abbrev dktX4_ofChildren_3 : List UInt8 := dkwX4_ofChildren_3 ++ dktX4_ofChildren_4
def dkwX4_ofChildren_2 : List UInt8 := [182, 0, 169, 153, 0, 6, 167, 255, 226, 25, 6, 27, 184, 0, 172, 25, 6, 182, 0, 176, 96, 54, 7, 42]
abbrev dktX4_ofChildren_2 : List UInt8 := dkwX4_ofChildren_2 ++ dktX4_ofChildren_3
def dkwX4_ofChildren_1 : List UInt8 := [185, 0, 150, 1, 0, 153, 0, 99, 25, 5, 185, 0, 156, 1, 0, 192, 0, 30, 58, 6, 25, 6]
abbrev dktX4_ofChildren_1 : List UInt8 := dkwX4_ofChildren_1 ++ dktX4_ofChildren_2
def dkwX4_ofChildren_0 : List UInt8 := [42, 180, 0, 119, 188, 10, 77, 3, 62, 3, 54, 4, 42, 180, 0, 69, 182, 0, 146, 58, 5, 25, 5]
abbrev dktX4_ofChildren_0 : List UInt8 := dkwX4_ofChildren_0 ++ dktX4_ofChildren_1
theorem dksX4_ofChildren_0 : cX4_ofChildren.data.toList.drop 0 = dktX4_ofChildren_0 := by decide +kernel
theorem dksX4_ofChildren_1 : cX4_ofChildren.data.toList.drop 23 = dktX4_ofChildren_1 := dk_seg dksX4_ofChildren_0 23 rfl rfl
theorem dksX4_ofChildren_2 : cX4_ofChildren.data.toList.drop 45 = dktX4_ofChildren_2 := dk_seg dksX4_ofChildren_1 22 rfl rfl
theorem dksX4_ofChildren_3 : cX4_ofChildren.data.toList.drop 69 = dktX4_ofChildren_3 := dk_seg dksX4_ofChildren_2 24 rfl rfl
theorem dksX4_ofChildren_4 : cX4_ofChildren.data.toList.drop 93 = dktX4_ofChildren_4 := dk_seg dksX4_ofChildren_3 24 rfl rfl
theorem dksX4_ofChildren_5 : cX4_ofChildren.data.toList.drop 117 = dktX4_ofChildren_5 := dk_seg dksX4_ofChildren_4 24 rfl rfl
theorem dksX4_ofChildren_6 : cX4_ofChildren.data.toList.drop 141 = dktX4_ofChildren_6 := dk_seg dksX4_ofChildren_5 24 rfl rfl
theorem dksX4_ofChildren_7 : cX4_ofChildren.data.toList.drop 164 = dktX4_ofChildren_7 := dk_seg dksX4_ofChildren_6 23 rfl rfl
theorem dX4_ofChildren_0 : decode cX4_ofChildren 0 = .ok (.aload_n 0, 1) := dk_42 (dk_at dksX4_ofChildren_0 0 rfl rfl)
theorem dX4_ofChildren_1 : decode cX4_ofChildren 1 = .ok (.getfield 119, 3) := dk_180 0 119 (dk_at dksX4_ofChildren_0 1 rfl rfl)
theorem dX4_ofChildren_4 : decode cX4_ofChildren 4 = .ok (.newarray .int, 2) := dk_188_10 (dk_at dksX4_ofChildren_0 4 rfl rfl)
theorem dX4_ofChildren_6 : decode cX4_ofChildren 6 = .ok (.astore_n 2, 1) := dk_77 (dk_at dksX4_ofChildren_0 6 rfl rfl)
theorem dX4_ofChildren_7 : decode cX4_ofChildren 7 = .ok (.iconst 0, 1) := dk_3 (dk_at dksX4_ofChildren_0 7 rfl rfl)
theorem dX4_ofChildren_8 : decode cX4_ofChildren 8 = .ok (.istore_n 3, 1) := dk_62 (dk_at dksX4_ofChildren_0 8 rfl rfl)
theorem dX4_ofChildren_9 : decode cX4_ofChildren 9 = .ok (.iconst 0, 1) := dk_3 (dk_at dksX4_ofChildren_0 9 rfl rfl)
theorem dX4_ofChildren_10 : decode cX4_ofChildren 10 = .ok (.istore 4, 2) := dk_54 4 (dk_at dksX4_ofChildren_0 10 rfl rfl)
theorem dX4_ofChildren_12 : decode cX4_ofChildren 12 = .ok (.aload_n 0, 1) := dk_42 (dk_at dksX4_ofChildren_0 12 rfl rfl)
theorem dX4_ofChildren_13 : decode cX4_ofChildren 13 = .ok (.getfield 69, 3) := dk_180 0 69 (dk_at dksX4_ofChildren_0 13 rfl rfl)
theorem dX4_ofChildren_16 : decode cX4_ofChildren 16 = .ok (.invokevirtual 146, 3) := dk_182 0 146 (dk_at dksX4_ofChildren_0 16 rfl rfl)
theorem dX4_ofChildren_19 : decode cX4_ofChildren 19 = .ok (.astore 5, 2) := dk_58 5 (dk_at dksX4_ofChildren_0 19 rfl rfl)
theorem dX4_ofChildren_21 : decode cX4_ofChildren 21 = .ok (.aload 5, 2) := dk_25 5 (dk_at dksX4_ofChildren_0 21 rfl rfl)
theorem dX4_ofChildren_23 : decode cX4_ofChildren 23 = .ok (.invokeinterface 150 1, 5) := by decide +kernel
theorem dX4_ofChildren_28 : decode cX4_ofChildren 28 = .ok (.ifCond .eq 99, 3) := dk_153 0 99 (dk_at dksX4_ofChildren_1 5 rfl rfl)
theorem dX4_ofChildren_31 : decode cX4_ofChildren 31 = .ok (.aload 5, 2) := dk_25 5 (dk_at dksX4_ofChildren_1 8 rfl rfl)
theorem dX4_ofChildren_33 : decode cX4_ofChildren 33 = .ok (.invokeinterface 156 1, 5) := by decide +kernel
theorem dX4_ofChildren_38 : decode cX4_ofChildren 38 = .ok (.checkcast 30, 3) := dk_192 0 30 (dk_at dksX4_ofChildren_1 15 rfl rfl)
theorem dX4_ofChildren_41 : decode cX4_ofChildren 41 = .ok (.astore 6, 2) := dk_58 6 (dk_at dksX4_ofChildren_1 18 rfl rfl)
theorem dX4_ofChildren_43 : decode cX4_ofChildren 43 = .ok (.aload 6, 2) := dk_25 6 (dk_at dksX4_ofChildren_1 20 rfl rfl)
theorem dX4_ofChildren_45 : decode cX4_ofChildren 45 = .ok (.invokevirtual 169, 3) := dk_182 0 169 (dk_at dksX4_ofChildren_2 0 rfl rfl)
theorem dX4_ofChildren_48 : decode cX4_ofChildren 48 = .ok (.ifCond .eq 6, 3) := dk_153 0 6 (dk_at dksX4_ofChildren_2 3 rfl rfl)
theorem dX4_ofChildren_51 : decode cX4_ofChildren 51 = .ok (.goto (-30), 3) := dk_167 255 226 (dk_at dksX4_ofChildren_2 6 rfl rfl)
theorem dX4_ofChildren_54 : decode cX4_ofChildren 54 = .ok (.aload 6, 2) := dk_25 6 (dk_at dksX4_ofChildren_2 9 rfl rfl)
theorem dX4_ofChildren_56 : decode cX4_ofChildren 56 = .ok (.iload_n 1, 1) := dk_27 (dk_at dksX4_ofChildren_2 11 rfl rfl)
theorem dX4_ofChildren_57 : decode cX4_ofChildren 57 = .ok (.invokestatic 172, 3) := dk_184 0 172 (dk_at dksX4_ofChildren_2 12 rfl rfl)
theorem dX4_ofChildren_60 : decode cX4_ofChildren 60 = .ok (.aload 6, 2) := dk_25 6 (dk_at dksX4_ofChildren_2 15 rfl rfl)
theorem dX4_ofChildren_62 : decode cX4_ofChildren 62 = .ok (.invokevirtual 176, 3) := dk_182 0 176 (dk_at dksX4_ofChildren_2 17 rfl rfl)
theorem dX4_ofChildren_65 : decode cX4_ofChildren 65 = .ok (.iadd, 1) := dk_96 (dk_at dksX4_ofChildren_2 20 rfl rfl)
theorem dX4_ofChildren_66 : decode cX4_ofChildren 66 = .ok (.istore 7, 2) := dk_54 7 (dk_at dksX4_ofChildren_2 21 rfl rfl)
theorem dX4_ofChildren_68 : decode cX4_ofChildren 68 = .ok (.aload_n 0, 1) := dk_42 (dk_at dksX4_ofChildren_2 23 rfl rfl)
theorem dX4_ofChildren_69 : decode cX4_ofChildren 69 = .ok (.getfield 62, 3) := dk_180 0 62 (dk_at dksX4_ofChildren_3 0 rfl rfl)
theorem dX4_ofChildren_72 : decode cX4_ofChildren 72 = .ok (.bipush 98, 2) := dk_16 98 (dk_at dksX4_ofChildren_3 3 rfl rfl)
theorem dX4_ofChildren_74 : decode cX4_ofChildren 74 = .ok (.if_icmp .ne 10, 3) := dk_160 0 10 (dk_at dksX4_ofChildren_3 5 rfl rfl)
theorem dX4_ofChildren_77 : decode cX4_ofChildren 77 = .ok (.iload_n 3, 1) := dk_29 (dk_at dksX4_ofChildren_3 8 rfl rfl)
theorem dX4_ofChildren_78 : decode cX4_ofChildren 78 = .ok (.iload 7, 2) := dk_21 7 (dk_at dksX4_ofChildren_3 9 rfl rfl)
theorem dX4_ofChildren_80 : decode cX4_ofChildren 80 = .ok (.invokestatic 163, 3) := dk_184 0 163 (dk_at dksX4_ofChildren_3 11 rfl rfl)
theorem dX4_ofChildren_83 : decode cX4_ofChildren 83 = .ok (.istore_n 3, 1) := dk_62 (dk_at dksX4_ofChildren_3 14 rfl rfl)
theorem dX4_ofChildren_84 : decode cX4_ofChildren 84 = .ok (.aload_n 0, 1) := dk_42 (dk_at dksX4_ofChildren_3 15 rfl rfl)
theorem dX4_ofChildren_85 : decode cX4_ofChildren 85 = .ok (.getfield 62, 3) := dk_180 0 62 (dk_at dksX4_ofChildren_3 16 rfl rfl)
theorem dX4_ofChildren_88 : decode cX4_ofChildren 88 = .ok (.bipush 102, 2) := dk_16 102 (dk_at dksX4_ofChildren_3 19 rfl rfl)
theorem dX4_ofChildren_90 : decode cX4_ofChildren 90 = .ok (.if_icmp .ne 8, 3) := dk_160 0 8 (dk_at dksX4_ofChildren_3 21 rfl rfl)
theorem dX4_ofChildren_93 : decode cX4_ofChildren 93 = .ok (.iload_n 3, 1) := dk_29 (dk_at dksX4_ofChildren_4 0 rfl rfl)
theorem dX4_ofChildren_94 : decode cX4_ofChildren 94 = .ok (.iload 7, 2) := dk_21 7 (dk_at dksX4_ofChildren_4 1 rfl rfl)
theorem dX4_ofChildren_96 : decode cX4_ofChildren 96 = .ok (.iadd, 1) := dk_96 (dk_at dksX4_ofChildren_4 3 rfl rfl)
theorem dX4_ofChildren_97 : decode cX4_ofChildren 97 = .ok (.istore_n 3, 1) := dk_62 (dk_at dksX4_ofChildren_4 4 rfl rfl)
theorem dX4_ofChildren_98 : decode cX4_ofChildren 98 = .ok (.aload_n 2, 1) := dk_44 (dk_at dksX4_ofChildren_4 5 rfl rfl)
theorem dX4_ofChildren_99 : decode cX4_ofChildren 99 = .ok (.iload 4, 2) := dk_21 4 (dk_at dksX4_ofChildren_4 6 rfl rfl)
theorem dX4_ofChildren_101 : decode cX4_ofChildren 101 = .ok (.aload_n 0, 1) := dk_42 (dk_at dksX4_ofChildren_4 8 rfl rfl)
theorem dX4_ofChildren_102 : decode cX4_ofChildren 102 = .ok (.getfield 119, 3) := dk_180 0 119 (dk_at dksX4_ofChildren_4 9 rfl rfl)
theorem dX4_ofChildren_105 : decode cX4_ofChildren 105 = .ok (.irem, 1) := dk_112 (dk_at dksX4_ofChildren_4 12 rfl rfl)
theorem dX4_ofChildren_106 : decode cX4_ofChildren 106 = .ok (.aload_n 2, 1) := dk_44 (dk_at dksX4_ofChildren_4 13 rfl rfl)
theorem dX4_ofChildren_107 : decode cX4_ofChildren 107 = .ok (.iload 4, 2) := dk_21 4 (dk_at dksX4_ofChildren_4 14 rfl rfl)
theorem dX4_ofChildren_109 : decode cX4_ofChildren 109 = .ok (.aload_n 0, 1) := dk_42 (dk_at dksX4_ofChildren_4 16 rfl rfl)
theorem dX4_ofChildren_110 : decode cX4_ofChildren 110 = .ok (.getfield 119, 3) := dk_180 0 119 (dk_at dksX4_ofChildren_4 17 rfl rfl)
theorem dX4_ofChildren_113 : decode cX4_ofChildren 113 = .ok (.irem, 1) := dk_112 (dk_at dksX4_ofChildren_4 20 rfl rfl)
theorem dX4_ofChildren_114 : decode cX4_ofChildren 114 = .ok (.iaload, 1) := dk_46 (dk_at dksX4_ofChildren_4 21 rfl rfl)
theorem dX4_ofChildren_115 : decode cX4_ofChildren 115 = .ok (.iload 7, 2) := dk_21 7 (dk_at dksX4_ofChildren_4 22 rfl rfl)
theorem dX4_ofChildren_117 : decode cX4_ofChildren 117 = .ok (.invokestatic 163, 3) := dk_184 0 163 (dk_at dksX4_ofChildren_5 0 rfl rfl)
theorem dX4_ofChildren_120 : decode cX4_ofChildren 120 = .ok (.iastore, 1) := dk_79 (dk_at dksX4_ofChildren_5 3 rfl rfl)
theorem dX4_ofChildren_121 : decode cX4_ofChildren 121 = .ok (.iinc 4 1, 3) := dk_132 4 1 (dk_at dksX4_ofChildren_5 4 rfl rfl)
theorem dX4_ofChildren_124 : decode cX4_ofChildren 124 = .ok (.goto (-103), 3) := dk_167 255 153 (dk_at dksX4_ofChildren_5 7 rfl rfl)
theorem dX4_ofChildren_127 : decode cX4_ofChildren 127 = .ok (.aload_n 0, 1) := dk_42 (dk_at dksX4_ofChildren_5 10 rfl rfl)
theorem dX4_ofChildren_128 : decode cX4_ofChildren 128 = .ok (.getfield 62, 3) := dk_180 0 62 (dk_at dksX4_ofChildren_5 11 rfl rfl)
theorem dX4_ofChildren_131 : decode cX4_ofChildren 131 = .ok (.bipush 103, 2) := dk_16 103 (dk_at dksX4_ofChildren_5 14 rfl rfl)
theorem dX4_ofChildren_133 : decode cX4_ofChildren 133 = .ok (.if_icmp .eq 5, 3) := dk_159 0 5 (dk_at dksX4_ofChildren_5 16 rfl rfl)
theorem dX4_ofChildren_136 : decode cX4_ofChildren 136 = .ok (.iload_n 3, 1) := dk_29 (dk_at dksX4_ofChildren_5 19 rfl rfl)
theorem dX4_ofChildren_137 : decode cX4_ofChildren 137 = .ok (.ireturn, 1) := dk_172 (dk_at dksX4_ofChildren_5 20 rfl rfl)
theorem dX4_ofChildren_138 : decode cX4_ofChildren 138 = .ok (.iconst 0, 1) := dk_3 (dk_at dksX4_ofChildren_5 21 rfl rfl)
theorem dX4_ofChildren_139 : decode cX4_ofChildren 139 = .ok (.istore 5, 2) := dk_54 5 (dk_at dksX4_ofChildren_5 22 rfl rfl)
theorem dX4_ofChildren_141 : decode cX4_ofChildren 141 = .ok (.aload_n 2, 1) := dk_44 (dk_at dksX4_ofChildren_6 0 rfl rfl)
theorem dX4_ofChildren_142 : decode cX4_ofChildren 142 = .ok (.astore 6, 2) := dk_58 6 (dk_at dksX4_ofChildren_6 1 rfl rfl)
theorem dX4_ofChildren_144 : decode cX4_ofChildren 144 = .ok (.aload 6, 2) := dk_25 6 (dk_at dksX4_ofChildren_6 3 rfl rfl)
theorem dX4_ofChildren_146 : decode cX4_ofChildren 146 = .ok (.arraylength, 1) := dk_190 (dk_at dksX4_ofChildren_6 5 rfl rfl)
theorem dX4_ofChildren_147 : decode cX4_ofChildren 147 = .ok (.istore 7, 2) := dk_54 7 (dk_at dksX4_ofChildren_6 6 rfl rfl)
theorem dX4_ofChildren_149 : decode cX4_ofChildren 149 = .ok (.iconst 0, 1) := dk_3 (dk_at dksX4_ofChildren_6 8 rfl rfl)
theorem dX4_ofChildren_150 : decode cX4_ofChildren 150 = .ok (.istore 8, 2) := dk_54 8 (dk_at dksX4_ofChildren_6 9 rfl rfl)
theorem dX4_ofChildren_152 : decode cX4_ofChildren 152 = .ok (.iload 8, 2) := dk_21 8 (dk_at dksX4_ofChildren_6 11 rfl rfl)
theorem dX4_ofChildren_154 : decode cX4_ofChildren 154 = .ok (.iload 7, 2) := dk_21 7 (dk_at dksX4_ofChildren_6 13 rfl rfl)
theorem dX4_ofChildren_156 : decode cX4_ofChildren 156 = .ok (.if_icmp .ge 23, 3) := dk_162 0 23 (dk_at dksX4_ofChildren_6 15 rfl rfl)
theorem dX4_ofChildren_159 : decode cX4_ofChildren 159 = .ok (.aload 6, 2) := dk_25 6 (dk_at dksX4_ofChildren_6 18 rfl rfl)
theorem dX4_ofChildren_161 : decode cX4_ofChildren 161 = .ok (.iload 8, 2) := dk_21 8 (dk_at dksX4_ofChildren_6 20 rfl rfl)
theorem dX4_ofChildren_163 : decode cX4_ofChildren 163 = .ok (.iaload, 1) := dk_46 (dk_at dksX4_ofChildren_6 22 rfl rfl)
theorem dX4_ofChildren_164 : decode cX4_ofChildren 164 = .ok (.istore 9, 2) := dk_54 9 (dk_at dksX4_ofChildren_7 0 rfl rfl)
theorem dX4_ofChildren_166 : decode cX4_ofChildren 166 = .ok (.iload 5, 2) := dk_21 5 (dk_at dksX4_ofChildren_7 2 rfl rfl)
theorem dX4_ofChildren_168 : decode cX4_ofChildren 168 = .ok (.iload 9, 2) := dk_21 9 (dk_at dksX4_ofChildren_7 4 rfl rfl)
theorem dX4_ofChildren_170 : decode cX4_ofChildren 170 = .ok (.iadd, 1) := dk_96 (dk_at dksX4_ofChildren_7 6 rfl rfl)
theorem dX4_ofChildren_171 : decode cX4_ofChildren 171 = .ok (.istore 5, 2) := dk_54 5 (dk_at dksX4_ofChildren_7 7 rfl rfl)
theorem dX4_ofChildren_173 : decode cX4_ofChildren 173 = .ok (.iinc 8 1, 3) := dk_132 8 1 (dk_at dksX4_ofChildren_7 9 rfl rfl)
theorem dX4_ofChildren_176 : decode cX4_ofChildren 176 = .ok (.goto (-24), 3) := dk_167 255 232 (dk_at dksX4_ofChildren_7 12 rfl rfl)
theorem dX4_ofChildren_179 : decode cX4_ofChildren 179 = .ok (.iload 5, 2) := dk_21 5 (dk_at dksX4_ofChildren_7 15 rfl rfl)
theorem dX4_ofChildren_181 : decode cX4_ofChildren 181 = .ok (.ireturn, 1) := dk_172 (dk_at dksX4_ofChildren_7 17 rfl rfl)
abbrev cX4_greatestWidth : ByteArray := prog_14_method_25_code
def yX4_greatestWidth : MethodName := ⟨RX4, "greatestWidth", "(I)I"⟩
def dkwX4_greatestWidth_1 : List UInt8 := [3, 184, 0, 172, 172]
abbrev dktX4_greatestWidth_1 : List UInt8 := dkwX4_greatestWidth_1 ++ []
def dkwX4_greatestWidth_0 : List UInt8 := [42, 27, 4, 182, 0, 79, 158, 0, 7, 3, 167, 0, 18, 42, 180, 0, 10, 27, 182, 0, 58, 192, 0, 30]
abbrev dktX4_greatestWidth_0 : List UInt8 := dkwX4_greatestWidth_0 ++ dktX4_greatestWidth_1
theorem dksX4_greatestWidth_0 : cX4_greatestWidth.data.toList.drop 0 = dktX4_greatestWidth_0 := by decide +kernel
theorem dksX4_greatestWidth_1 : cX4_greatestWidth.data.toList.drop 24 = dktX4_greatestWidth_1 := dk_seg dksX4_greatestWidth_0 24 rfl rfl
theorem dX4_greatestWidth_0 : decode cX4_greatestWidth 0 = .ok (.aload_n 0, 1) := dk_42 (dk_at dksX4_greatestWidth_0 0 rfl rfl)
theorem dX4_greatestWidth_1 : decode cX4_greatestWidth 1 = .ok (.iload_n 1, 1) := dk_27 (dk_at dksX4_greatestWidth_0 1 rfl rfl)
theorem dX4_greatestWidth_2 : decode cX4_greatestWidth 2 = .ok (.iconst 1, 1) := dk_4 (dk_at dksX4_greatestWidth_0 2 rfl rfl)
theorem dX4_greatestWidth_3 : decode cX4_greatestWidth 3 = .ok (.invokevirtual 79, 3) := dk_182 0 79 (dk_at dksX4_greatestWidth_0 3 rfl rfl)
theorem dX4_greatestWidth_6 : decode cX4_greatestWidth 6 = .ok (.ifCond .le 7, 3) := dk_158 0 7 (dk_at dksX4_greatestWidth_0 6 rfl rfl)
theorem dX4_greatestWidth_9 : decode cX4_greatestWidth 9 = .ok (.iconst 0, 1) := dk_3 (dk_at dksX4_greatestWidth_0 9 rfl rfl)
theorem dX4_greatestWidth_10 : decode cX4_greatestWidth 10 = .ok (.goto 18, 3) := dk_167 0 18 (dk_at dksX4_greatestWidth_0 10 rfl rfl)
theorem dX4_greatestWidth_13 : decode cX4_greatestWidth 13 = .ok (.aload_n 0, 1) := dk_42 (dk_at dksX4_greatestWidth_0 13 rfl rfl)
theorem dX4_greatestWidth_14 : decode cX4_greatestWidth 14 = .ok (.getfield 10, 3) := dk_180 0 10 (dk_at dksX4_greatestWidth_0 14 rfl rfl)
theorem dX4_greatestWidth_17 : decode cX4_greatestWidth 17 = .ok (.iload_n 1, 1) := dk_27 (dk_at dksX4_greatestWidth_0 17 rfl rfl)
theorem dX4_greatestWidth_18 : decode cX4_greatestWidth 18 = .ok (.invokevirtual 58, 3) := dk_182 0 58 (dk_at dksX4_greatestWidth_0 18 rfl rfl)
theorem dX4_greatestWidth_21 : decode cX4_greatestWidth 21 = .ok (.checkcast 30, 3) := dk_192 0 30 (dk_at dksX4_greatestWidth_0 21 rfl rfl)
theorem dX4_greatestWidth_24 : decode cX4_greatestWidth 24 = .ok (.iconst 0, 1) := dk_3 (dk_at dksX4_greatestWidth_1 0 rfl rfl)
theorem dX4_greatestWidth_25 : decode cX4_greatestWidth 25 = .ok (.invokestatic 172, 3) := dk_184 0 172 (dk_at dksX4_greatestWidth_1 1 rfl rfl)
theorem dX4_greatestWidth_28 : decode cX4_greatestWidth 28 = .ok (.ireturn, 1) := dk_172 (dk_at dksX4_greatestWidth_1 4 rfl rfl)
abbrev cX4_layOut : ByteArray := prog_14_method_44_code
def yX4_layOut : MethodName := ⟨RX4, "layOut", "(I)I"⟩
def dkwX4_layOut_5 : List UInt8 := [181, 0, 26, 42, 89, 180, 0, 20, 42, 180, 0, 23, 96, 181, 0, 20, 42, 180, 0, 23, 172]
abbrev dktX4_layOut_5 : List UInt8 := dkwX4_layOut_5 ++ []
def dkwX4_layOut_4 : List UInt8 := [180, 0, 202, 45, 180, 0, 128, 100, 184, 0, 163, 184, 1, 19, 4, 182, 1, 0, 167, 255, 204, 42, 4]
abbrev dktX4_layOut_4 : List UInt8 := dkwX4_layOut_4 ++ dktX4_layOut_5
def dkwX4_layOut_3 : List UInt8 := [185, 0, 156, 1, 0, 192, 0, 30, 78, 45, 182, 0, 169, 153, 0, 29, 42, 45, 45, 3, 45, 184, 1, 79]
abbrev dktX4_layOut_3 : List UInt8 := dkwX4_layOut_3 ++ dktX4_layOut_4
def dkwX4_layOut_2 : List UInt8 := [182, 1, 0, 42, 180, 0, 10, 182, 0, 146, 77, 44, 185, 0, 150, 1, 0, 153, 0, 49, 44]
abbrev dktX4_layOut_2 : List UInt8 := dkwX4_layOut_2 ++ dktX4_layOut_3
def dkwX4_layOut_1 : List UInt8 := [158, 0, 5, 3, 172, 42, 3, 181, 0, 23, 42, 42, 180, 0, 10, 3, 182, 0, 58, 192, 0, 30, 27, 4]
abbrev dktX4_layOut_1 : List UInt8 := dkwX4_layOut_1 ++ dktX4_layOut_2
def dkwX4_layOut_0 : List UInt8 := [42, 27, 3, 17, 1, 144, 184, 0, 43, 153, 0, 7, 3, 167, 0, 4, 4, 181, 0, 16, 42, 180, 0, 16]
abbrev dktX4_layOut_0 : List UInt8 := dkwX4_layOut_0 ++ dktX4_layOut_1
theorem dksX4_layOut_0 : cX4_layOut.data.toList.drop 0 = dktX4_layOut_0 := by decide +kernel
theorem dksX4_layOut_1 : cX4_layOut.data.toList.drop 24 = dktX4_layOut_1 := dk_seg dksX4_layOut_0 24 rfl rfl
theorem dksX4_layOut_2 : cX4_layOut.data.toList.drop 48 = dktX4_layOut_2 := dk_seg dksX4_layOut_1 24 rfl rfl
theorem dksX4_layOut_3 : cX4_layOut.data.toList.drop 69 = dktX4_layOut_3 := dk_seg dksX4_layOut_2 21 rfl rfl
theorem dksX4_layOut_4 : cX4_layOut.data.toList.drop 93 = dktX4_layOut_4 := dk_seg dksX4_layOut_3 24 rfl rfl
theorem dksX4_layOut_5 : cX4_layOut.data.toList.drop 116 = dktX4_layOut_5 := dk_seg dksX4_layOut_4 23 rfl rfl
theorem dX4_layOut_0 : decode cX4_layOut 0 = .ok (.aload_n 0, 1) := dk_42 (dk_at dksX4_layOut_0 0 rfl rfl)
theorem dX4_layOut_1 : decode cX4_layOut 1 = .ok (.iload_n 1, 1) := dk_27 (dk_at dksX4_layOut_0 1 rfl rfl)
theorem dX4_layOut_2 : decode cX4_layOut 2 = .ok (.iconst 0, 1) := dk_3 (dk_at dksX4_layOut_0 2 rfl rfl)
theorem dX4_layOut_3 : decode cX4_layOut 3 = .ok (.sipush 400, 3) := dk_17 1 144 (dk_at dksX4_layOut_0 3 rfl rfl)
theorem dX4_layOut_6 : decode cX4_layOut 6 = .ok (.invokestatic 43, 3) := dk_184 0 43 (dk_at dksX4_layOut_0 6 rfl rfl)
theorem dX4_layOut_9 : decode cX4_layOut 9 = .ok (.ifCond .eq 7, 3) := dk_153 0 7 (dk_at dksX4_layOut_0 9 rfl rfl)
theorem dX4_layOut_12 : decode cX4_layOut 12 = .ok (.iconst 0, 1) := dk_3 (dk_at dksX4_layOut_0 12 rfl rfl)
theorem dX4_layOut_13 : decode cX4_layOut 13 = .ok (.goto 4, 3) := dk_167 0 4 (dk_at dksX4_layOut_0 13 rfl rfl)
theorem dX4_layOut_16 : decode cX4_layOut 16 = .ok (.iconst 1, 1) := dk_4 (dk_at dksX4_layOut_0 16 rfl rfl)
theorem dX4_layOut_17 : decode cX4_layOut 17 = .ok (.putfield 16, 3) := dk_181 0 16 (dk_at dksX4_layOut_0 17 rfl rfl)
theorem dX4_layOut_20 : decode cX4_layOut 20 = .ok (.aload_n 0, 1) := dk_42 (dk_at dksX4_layOut_0 20 rfl rfl)
theorem dX4_layOut_21 : decode cX4_layOut 21 = .ok (.getfield 16, 3) := dk_180 0 16 (dk_at dksX4_layOut_0 21 rfl rfl)
theorem dX4_layOut_24 : decode cX4_layOut 24 = .ok (.ifCond .le 5, 3) := dk_158 0 5 (dk_at dksX4_layOut_1 0 rfl rfl)
theorem dX4_layOut_27 : decode cX4_layOut 27 = .ok (.iconst 0, 1) := dk_3 (dk_at dksX4_layOut_1 3 rfl rfl)
theorem dX4_layOut_28 : decode cX4_layOut 28 = .ok (.ireturn, 1) := dk_172 (dk_at dksX4_layOut_1 4 rfl rfl)
theorem dX4_layOut_29 : decode cX4_layOut 29 = .ok (.aload_n 0, 1) := dk_42 (dk_at dksX4_layOut_1 5 rfl rfl)
theorem dX4_layOut_30 : decode cX4_layOut 30 = .ok (.iconst 0, 1) := dk_3 (dk_at dksX4_layOut_1 6 rfl rfl)
theorem dX4_layOut_31 : decode cX4_layOut 31 = .ok (.putfield 23, 3) := dk_181 0 23 (dk_at dksX4_layOut_1 7 rfl rfl)
theorem dX4_layOut_34 : decode cX4_layOut 34 = .ok (.aload_n 0, 1) := dk_42 (dk_at dksX4_layOut_1 10 rfl rfl)
theorem dX4_layOut_35 : decode cX4_layOut 35 = .ok (.aload_n 0, 1) := dk_42 (dk_at dksX4_layOut_1 11 rfl rfl)
theorem dX4_layOut_36 : decode cX4_layOut 36 = .ok (.getfield 10, 3) := dk_180 0 10 (dk_at dksX4_layOut_1 12 rfl rfl)
theorem dX4_layOut_39 : decode cX4_layOut 39 = .ok (.iconst 0, 1) := dk_3 (dk_at dksX4_layOut_1 15 rfl rfl)
theorem dX4_layOut_40 : decode cX4_layOut 40 = .ok (.invokevirtual 58, 3) := dk_182 0 58 (dk_at dksX4_layOut_1 16 rfl rfl)
theorem dX4_layOut_43 : decode cX4_layOut 43 = .ok (.checkcast 30, 3) := dk_192 0 30 (dk_at dksX4_layOut_1 19 rfl rfl)
theorem dX4_layOut_46 : decode cX4_layOut 46 = .ok (.iload_n 1, 1) := dk_27 (dk_at dksX4_layOut_1 22 rfl rfl)
theorem dX4_layOut_47 : decode cX4_layOut 47 = .ok (.iconst 1, 1) := dk_4 (dk_at dksX4_layOut_1 23 rfl rfl)
theorem dX4_layOut_48 : decode cX4_layOut 48 = .ok (.invokevirtual 256, 3) := dk_182 1 0 (dk_at dksX4_layOut_2 0 rfl rfl)
theorem dX4_layOut_51 : decode cX4_layOut 51 = .ok (.aload_n 0, 1) := dk_42 (dk_at dksX4_layOut_2 3 rfl rfl)
theorem dX4_layOut_52 : decode cX4_layOut 52 = .ok (.getfield 10, 3) := dk_180 0 10 (dk_at dksX4_layOut_2 4 rfl rfl)
theorem dX4_layOut_55 : decode cX4_layOut 55 = .ok (.invokevirtual 146, 3) := dk_182 0 146 (dk_at dksX4_layOut_2 7 rfl rfl)
theorem dX4_layOut_58 : decode cX4_layOut 58 = .ok (.astore_n 2, 1) := dk_77 (dk_at dksX4_layOut_2 10 rfl rfl)
theorem dX4_layOut_59 : decode cX4_layOut 59 = .ok (.aload_n 2, 1) := dk_44 (dk_at dksX4_layOut_2 11 rfl rfl)
theorem dX4_layOut_60 : decode cX4_layOut 60 = .ok (.invokeinterface 150 1, 5) := by decide +kernel
theorem dX4_layOut_65 : decode cX4_layOut 65 = .ok (.ifCond .eq 49, 3) := dk_153 0 49 (dk_at dksX4_layOut_2 17 rfl rfl)
theorem dX4_layOut_68 : decode cX4_layOut 68 = .ok (.aload_n 2, 1) := dk_44 (dk_at dksX4_layOut_2 20 rfl rfl)
theorem dX4_layOut_69 : decode cX4_layOut 69 = .ok (.invokeinterface 156 1, 5) := by decide +kernel
theorem dX4_layOut_74 : decode cX4_layOut 74 = .ok (.checkcast 30, 3) := dk_192 0 30 (dk_at dksX4_layOut_3 5 rfl rfl)
theorem dX4_layOut_77 : decode cX4_layOut 77 = .ok (.astore_n 3, 1) := dk_78 (dk_at dksX4_layOut_3 8 rfl rfl)
theorem dX4_layOut_78 : decode cX4_layOut 78 = .ok (.aload_n 3, 1) := dk_45 (dk_at dksX4_layOut_3 9 rfl rfl)
theorem dX4_layOut_79 : decode cX4_layOut 79 = .ok (.invokevirtual 169, 3) := dk_182 0 169 (dk_at dksX4_layOut_3 10 rfl rfl)
theorem dX4_layOut_82 : decode cX4_layOut 82 = .ok (.ifCond .eq 29, 3) := dk_153 0 29 (dk_at dksX4_layOut_3 13 rfl rfl)
theorem dX4_layOut_85 : decode cX4_layOut 85 = .ok (.aload_n 0, 1) := dk_42 (dk_at dksX4_layOut_3 16 rfl rfl)
theorem dX4_layOut_86 : decode cX4_layOut 86 = .ok (.aload_n 3, 1) := dk_45 (dk_at dksX4_layOut_3 17 rfl rfl)
theorem dX4_layOut_87 : decode cX4_layOut 87 = .ok (.aload_n 3, 1) := dk_45 (dk_at dksX4_layOut_3 18 rfl rfl)
theorem dX4_layOut_88 : decode cX4_layOut 88 = .ok (.iconst 0, 1) := dk_3 (dk_at dksX4_layOut_3 19 rfl rfl)
theorem dX4_layOut_89 : decode cX4_layOut 89 = .ok (.aload_n 3, 1) := dk_45 (dk_at dksX4_layOut_3 20 rfl rfl)
theorem dX4_layOut_90 : decode cX4_layOut 90 = .ok (.invokestatic 335, 3) := dk_184 1 79 (dk_at dksX4_layOut_3 21 rfl rfl)
theorem dX4_layOut_93 : decode cX4_layOut 93 = .ok (.getfield 202, 3) := dk_180 0 202 (dk_at dksX4_layOut_4 0 rfl rfl)
theorem dX4_layOut_96 : decode cX4_layOut 96 = .ok (.aload_n 3, 1) := dk_45 (dk_at dksX4_layOut_4 3 rfl rfl)
theorem dX4_layOut_97 : decode cX4_layOut 97 = .ok (.getfield 128, 3) := dk_180 0 128 (dk_at dksX4_layOut_4 4 rfl rfl)
theorem dX4_layOut_100 : decode cX4_layOut 100 = .ok (.isub, 1) := dk_100 (dk_at dksX4_layOut_4 7 rfl rfl)
theorem dX4_layOut_101 : decode cX4_layOut 101 = .ok (.invokestatic 163, 3) := dk_184 0 163 (dk_at dksX4_layOut_4 8 rfl rfl)
theorem dX4_layOut_104 : decode cX4_layOut 104 = .ok (.invokestatic 275, 3) := dk_184 1 19 (dk_at dksX4_layOut_4 11 rfl rfl)
theorem dX4_layOut_107 : decode cX4_layOut 107 = .ok (.iconst 1, 1) := dk_4 (dk_at dksX4_layOut_4 14 rfl rfl)
theorem dX4_layOut_108 : decode cX4_layOut 108 = .ok (.invokevirtual 256, 3) := dk_182 1 0 (dk_at dksX4_layOut_4 15 rfl rfl)
theorem dX4_layOut_111 : decode cX4_layOut 111 = .ok (.goto (-52), 3) := dk_167 255 204 (dk_at dksX4_layOut_4 18 rfl rfl)
theorem dX4_layOut_114 : decode cX4_layOut 114 = .ok (.aload_n 0, 1) := dk_42 (dk_at dksX4_layOut_4 21 rfl rfl)
theorem dX4_layOut_115 : decode cX4_layOut 115 = .ok (.iconst 1, 1) := dk_4 (dk_at dksX4_layOut_4 22 rfl rfl)
theorem dX4_layOut_116 : decode cX4_layOut 116 = .ok (.putfield 26, 3) := dk_181 0 26 (dk_at dksX4_layOut_5 0 rfl rfl)
theorem dX4_layOut_119 : decode cX4_layOut 119 = .ok (.aload_n 0, 1) := dk_42 (dk_at dksX4_layOut_5 3 rfl rfl)
theorem dX4_layOut_120 : decode cX4_layOut 120 = .ok (.dup, 1) := dk_89 (dk_at dksX4_layOut_5 4 rfl rfl)
theorem dX4_layOut_121 : decode cX4_layOut 121 = .ok (.getfield 20, 3) := dk_180 0 20 (dk_at dksX4_layOut_5 5 rfl rfl)
theorem dX4_layOut_124 : decode cX4_layOut 124 = .ok (.aload_n 0, 1) := dk_42 (dk_at dksX4_layOut_5 8 rfl rfl)
theorem dX4_layOut_125 : decode cX4_layOut 125 = .ok (.getfield 23, 3) := dk_180 0 23 (dk_at dksX4_layOut_5 9 rfl rfl)
theorem dX4_layOut_128 : decode cX4_layOut 128 = .ok (.iadd, 1) := dk_96 (dk_at dksX4_layOut_5 12 rfl rfl)
theorem dX4_layOut_129 : decode cX4_layOut 129 = .ok (.putfield 20, 3) := dk_181 0 20 (dk_at dksX4_layOut_5 13 rfl rfl)
theorem dX4_layOut_132 : decode cX4_layOut 132 = .ok (.aload_n 0, 1) := dk_42 (dk_at dksX4_layOut_5 16 rfl rfl)
theorem dX4_layOut_133 : decode cX4_layOut 133 = .ok (.getfield 23, 3) := dk_180 0 23 (dk_at dksX4_layOut_5 17 rfl rfl)
theorem dX4_layOut_136 : decode cX4_layOut 136 = .ok (.ireturn, 1) := dk_172 (dk_at dksX4_layOut_5 20 rfl rfl)
abbrev cX4_lays : ByteArray := prog_14_method_27_code
def yX4_lays : MethodName := ⟨RX4, "lays", "(LColumnarPressModel$Box;IZ)V"⟩
def dkwX4_lays_6 : List UInt8 := [184, 0, 212, 43, 180, 0, 110, 96, 184, 0, 163, 167, 0, 5, 21, 6, 181, 0, 216, 177]
abbrev dktX4_lays_6 : List UInt8 := dkwX4_lays_6 ++ []
def dkwX4_lays_5 : List UInt8 := [180, 0, 95, 155, 0, 10, 43, 180, 0, 95, 167, 0, 28, 21, 7, 153, 0, 21, 21, 6, 25, 5]
abbrev dktX4_lays_5 : List UInt8 := dkwX4_lays_5 ++ dktX4_lays_6
def dkwX4_lays_4 : List UInt8 := [16, 116, 160, 0, 15, 25, 5, 182, 0, 209, 154, 0, 7, 4, 167, 0, 4, 3, 54, 7, 43, 43]
abbrev dktX4_lays_4 : List UInt8 := dkwX4_lays_4 ++ dktX4_lays_5
def dkwX4_lays_3 : List UInt8 := [3, 3, 25, 5, 21, 4, 182, 0, 205, 54, 6, 43, 180, 0, 62, 16, 98, 159, 0, 12, 43, 180, 0, 62]
abbrev dktX4_lays_3 : List UInt8 := dkwX4_lays_3 ++ dktX4_lays_4
def dkwX4_lays_2 : List UInt8 := [181, 0, 199, 43, 3, 181, 0, 51, 43, 28, 181, 0, 202, 187, 0, 7, 89, 183, 0, 9, 58, 5, 42, 43]
abbrev dktX4_lays_2 : List UInt8 := dkwX4_lays_2 ++ dktX4_lays_3
def dkwX4_lays_1 : List UInt8 := [54, 4, 42, 89, 180, 0, 23, 21, 4, 153, 0, 7, 4, 167, 0, 4, 3, 96, 181, 0, 23, 43, 28]
abbrev dktX4_lays_1 : List UInt8 := dkwX4_lays_1 ++ dktX4_lays_2
def dkwX4_lays_0 : List UInt8 := [29, 153, 0, 22, 43, 180, 0, 199, 28, 160, 0, 10, 43, 180, 0, 51, 153, 0, 7, 4, 167, 0, 4, 3]
abbrev dktX4_lays_0 : List UInt8 := dkwX4_lays_0 ++ dktX4_lays_1
theorem dksX4_lays_0 : cX4_lays.data.toList.drop 0 = dktX4_lays_0 := by decide +kernel
theorem dksX4_lays_1 : cX4_lays.data.toList.drop 24 = dktX4_lays_1 := dk_seg dksX4_lays_0 24 rfl rfl
theorem dksX4_lays_2 : cX4_lays.data.toList.drop 47 = dktX4_lays_2 := dk_seg dksX4_lays_1 23 rfl rfl
theorem dksX4_lays_3 : cX4_lays.data.toList.drop 71 = dktX4_lays_3 := dk_seg dksX4_lays_2 24 rfl rfl
theorem dksX4_lays_4 : cX4_lays.data.toList.drop 95 = dktX4_lays_4 := dk_seg dksX4_lays_3 24 rfl rfl
theorem dksX4_lays_5 : cX4_lays.data.toList.drop 117 = dktX4_lays_5 := dk_seg dksX4_lays_4 22 rfl rfl
theorem dksX4_lays_6 : cX4_lays.data.toList.drop 139 = dktX4_lays_6 := dk_seg dksX4_lays_5 22 rfl rfl
theorem dX4_lays_0 : decode cX4_lays 0 = .ok (.iload_n 3, 1) := dk_29 (dk_at dksX4_lays_0 0 rfl rfl)
theorem dX4_lays_1 : decode cX4_lays 1 = .ok (.ifCond .eq 22, 3) := dk_153 0 22 (dk_at dksX4_lays_0 1 rfl rfl)
theorem dX4_lays_4 : decode cX4_lays 4 = .ok (.aload_n 1, 1) := dk_43 (dk_at dksX4_lays_0 4 rfl rfl)
theorem dX4_lays_5 : decode cX4_lays 5 = .ok (.getfield 199, 3) := dk_180 0 199 (dk_at dksX4_lays_0 5 rfl rfl)
theorem dX4_lays_8 : decode cX4_lays 8 = .ok (.iload_n 2, 1) := dk_28 (dk_at dksX4_lays_0 8 rfl rfl)
theorem dX4_lays_9 : decode cX4_lays 9 = .ok (.if_icmp .ne 10, 3) := dk_160 0 10 (dk_at dksX4_lays_0 9 rfl rfl)
theorem dX4_lays_12 : decode cX4_lays 12 = .ok (.aload_n 1, 1) := dk_43 (dk_at dksX4_lays_0 12 rfl rfl)
theorem dX4_lays_13 : decode cX4_lays 13 = .ok (.getfield 51, 3) := dk_180 0 51 (dk_at dksX4_lays_0 13 rfl rfl)
theorem dX4_lays_16 : decode cX4_lays 16 = .ok (.ifCond .eq 7, 3) := dk_153 0 7 (dk_at dksX4_lays_0 16 rfl rfl)
theorem dX4_lays_19 : decode cX4_lays 19 = .ok (.iconst 1, 1) := dk_4 (dk_at dksX4_lays_0 19 rfl rfl)
theorem dX4_lays_20 : decode cX4_lays 20 = .ok (.goto 4, 3) := dk_167 0 4 (dk_at dksX4_lays_0 20 rfl rfl)
theorem dX4_lays_23 : decode cX4_lays 23 = .ok (.iconst 0, 1) := dk_3 (dk_at dksX4_lays_0 23 rfl rfl)
theorem dX4_lays_24 : decode cX4_lays 24 = .ok (.istore 4, 2) := dk_54 4 (dk_at dksX4_lays_1 0 rfl rfl)
theorem dX4_lays_26 : decode cX4_lays 26 = .ok (.aload_n 0, 1) := dk_42 (dk_at dksX4_lays_1 2 rfl rfl)
theorem dX4_lays_27 : decode cX4_lays 27 = .ok (.dup, 1) := dk_89 (dk_at dksX4_lays_1 3 rfl rfl)
theorem dX4_lays_28 : decode cX4_lays 28 = .ok (.getfield 23, 3) := dk_180 0 23 (dk_at dksX4_lays_1 4 rfl rfl)
theorem dX4_lays_31 : decode cX4_lays 31 = .ok (.iload 4, 2) := dk_21 4 (dk_at dksX4_lays_1 7 rfl rfl)
theorem dX4_lays_33 : decode cX4_lays 33 = .ok (.ifCond .eq 7, 3) := dk_153 0 7 (dk_at dksX4_lays_1 9 rfl rfl)
theorem dX4_lays_36 : decode cX4_lays 36 = .ok (.iconst 1, 1) := dk_4 (dk_at dksX4_lays_1 12 rfl rfl)
theorem dX4_lays_37 : decode cX4_lays 37 = .ok (.goto 4, 3) := dk_167 0 4 (dk_at dksX4_lays_1 13 rfl rfl)
theorem dX4_lays_40 : decode cX4_lays 40 = .ok (.iconst 0, 1) := dk_3 (dk_at dksX4_lays_1 16 rfl rfl)
theorem dX4_lays_41 : decode cX4_lays 41 = .ok (.iadd, 1) := dk_96 (dk_at dksX4_lays_1 17 rfl rfl)
theorem dX4_lays_42 : decode cX4_lays 42 = .ok (.putfield 23, 3) := dk_181 0 23 (dk_at dksX4_lays_1 18 rfl rfl)
theorem dX4_lays_45 : decode cX4_lays 45 = .ok (.aload_n 1, 1) := dk_43 (dk_at dksX4_lays_1 21 rfl rfl)
theorem dX4_lays_46 : decode cX4_lays 46 = .ok (.iload_n 2, 1) := dk_28 (dk_at dksX4_lays_1 22 rfl rfl)
theorem dX4_lays_47 : decode cX4_lays 47 = .ok (.putfield 199, 3) := dk_181 0 199 (dk_at dksX4_lays_2 0 rfl rfl)
theorem dX4_lays_50 : decode cX4_lays 50 = .ok (.aload_n 1, 1) := dk_43 (dk_at dksX4_lays_2 3 rfl rfl)
theorem dX4_lays_51 : decode cX4_lays 51 = .ok (.iconst 0, 1) := dk_3 (dk_at dksX4_lays_2 4 rfl rfl)
theorem dX4_lays_52 : decode cX4_lays 52 = .ok (.putfield 51, 3) := dk_181 0 51 (dk_at dksX4_lays_2 5 rfl rfl)
theorem dX4_lays_55 : decode cX4_lays 55 = .ok (.aload_n 1, 1) := dk_43 (dk_at dksX4_lays_2 8 rfl rfl)
theorem dX4_lays_56 : decode cX4_lays 56 = .ok (.iload_n 2, 1) := dk_28 (dk_at dksX4_lays_2 9 rfl rfl)
theorem dX4_lays_57 : decode cX4_lays 57 = .ok (.putfield 202, 3) := dk_181 0 202 (dk_at dksX4_lays_2 10 rfl rfl)
theorem dX4_lays_60 : decode cX4_lays 60 = .ok (.new 7, 3) := dk_187 0 7 (dk_at dksX4_lays_2 13 rfl rfl)
theorem dX4_lays_63 : decode cX4_lays 63 = .ok (.dup, 1) := dk_89 (dk_at dksX4_lays_2 16 rfl rfl)
theorem dX4_lays_64 : decode cX4_lays 64 = .ok (.invokespecial 9, 3) := dk_183 0 9 (dk_at dksX4_lays_2 17 rfl rfl)
theorem dX4_lays_67 : decode cX4_lays 67 = .ok (.astore 5, 2) := dk_58 5 (dk_at dksX4_lays_2 20 rfl rfl)
theorem dX4_lays_69 : decode cX4_lays 69 = .ok (.aload_n 0, 1) := dk_42 (dk_at dksX4_lays_2 22 rfl rfl)
theorem dX4_lays_70 : decode cX4_lays 70 = .ok (.aload_n 1, 1) := dk_43 (dk_at dksX4_lays_2 23 rfl rfl)
theorem dX4_lays_71 : decode cX4_lays 71 = .ok (.iconst 0, 1) := dk_3 (dk_at dksX4_lays_3 0 rfl rfl)
theorem dX4_lays_72 : decode cX4_lays 72 = .ok (.iconst 0, 1) := dk_3 (dk_at dksX4_lays_3 1 rfl rfl)
theorem dX4_lays_73 : decode cX4_lays 73 = .ok (.aload 5, 2) := dk_25 5 (dk_at dksX4_lays_3 2 rfl rfl)
theorem dX4_lays_75 : decode cX4_lays 75 = .ok (.iload 4, 2) := dk_21 4 (dk_at dksX4_lays_3 4 rfl rfl)
theorem dX4_lays_77 : decode cX4_lays 77 = .ok (.invokevirtual 205, 3) := dk_182 0 205 (dk_at dksX4_lays_3 6 rfl rfl)
theorem dX4_lays_80 : decode cX4_lays 80 = .ok (.istore 6, 2) := dk_54 6 (dk_at dksX4_lays_3 9 rfl rfl)
theorem dX4_lays_82 : decode cX4_lays 82 = .ok (.aload_n 1, 1) := dk_43 (dk_at dksX4_lays_3 11 rfl rfl)
theorem dX4_lays_83 : decode cX4_lays 83 = .ok (.getfield 62, 3) := dk_180 0 62 (dk_at dksX4_lays_3 12 rfl rfl)
theorem dX4_lays_86 : decode cX4_lays 86 = .ok (.bipush 98, 2) := dk_16 98 (dk_at dksX4_lays_3 15 rfl rfl)
theorem dX4_lays_88 : decode cX4_lays 88 = .ok (.if_icmp .eq 12, 3) := dk_159 0 12 (dk_at dksX4_lays_3 17 rfl rfl)
theorem dX4_lays_91 : decode cX4_lays 91 = .ok (.aload_n 1, 1) := dk_43 (dk_at dksX4_lays_3 20 rfl rfl)
theorem dX4_lays_92 : decode cX4_lays 92 = .ok (.getfield 62, 3) := dk_180 0 62 (dk_at dksX4_lays_3 21 rfl rfl)
theorem dX4_lays_95 : decode cX4_lays 95 = .ok (.bipush 116, 2) := dk_16 116 (dk_at dksX4_lays_4 0 rfl rfl)
theorem dX4_lays_97 : decode cX4_lays 97 = .ok (.if_icmp .ne 15, 3) := dk_160 0 15 (dk_at dksX4_lays_4 2 rfl rfl)
theorem dX4_lays_100 : decode cX4_lays 100 = .ok (.aload 5, 2) := dk_25 5 (dk_at dksX4_lays_4 5 rfl rfl)
theorem dX4_lays_102 : decode cX4_lays 102 = .ok (.invokevirtual 209, 3) := dk_182 0 209 (dk_at dksX4_lays_4 7 rfl rfl)
theorem dX4_lays_105 : decode cX4_lays 105 = .ok (.ifCond .ne 7, 3) := dk_154 0 7 (dk_at dksX4_lays_4 10 rfl rfl)
theorem dX4_lays_108 : decode cX4_lays 108 = .ok (.iconst 1, 1) := dk_4 (dk_at dksX4_lays_4 13 rfl rfl)
theorem dX4_lays_109 : decode cX4_lays 109 = .ok (.goto 4, 3) := dk_167 0 4 (dk_at dksX4_lays_4 14 rfl rfl)
theorem dX4_lays_112 : decode cX4_lays 112 = .ok (.iconst 0, 1) := dk_3 (dk_at dksX4_lays_4 17 rfl rfl)
theorem dX4_lays_113 : decode cX4_lays 113 = .ok (.istore 7, 2) := dk_54 7 (dk_at dksX4_lays_4 18 rfl rfl)
theorem dX4_lays_115 : decode cX4_lays 115 = .ok (.aload_n 1, 1) := dk_43 (dk_at dksX4_lays_4 20 rfl rfl)
theorem dX4_lays_116 : decode cX4_lays 116 = .ok (.aload_n 1, 1) := dk_43 (dk_at dksX4_lays_4 21 rfl rfl)
theorem dX4_lays_117 : decode cX4_lays 117 = .ok (.getfield 95, 3) := dk_180 0 95 (dk_at dksX4_lays_5 0 rfl rfl)
theorem dX4_lays_120 : decode cX4_lays 120 = .ok (.ifCond .lt 10, 3) := dk_155 0 10 (dk_at dksX4_lays_5 3 rfl rfl)
theorem dX4_lays_123 : decode cX4_lays 123 = .ok (.aload_n 1, 1) := dk_43 (dk_at dksX4_lays_5 6 rfl rfl)
theorem dX4_lays_124 : decode cX4_lays 124 = .ok (.getfield 95, 3) := dk_180 0 95 (dk_at dksX4_lays_5 7 rfl rfl)
theorem dX4_lays_127 : decode cX4_lays 127 = .ok (.goto 28, 3) := dk_167 0 28 (dk_at dksX4_lays_5 10 rfl rfl)
theorem dX4_lays_130 : decode cX4_lays 130 = .ok (.iload 7, 2) := dk_21 7 (dk_at dksX4_lays_5 13 rfl rfl)
theorem dX4_lays_132 : decode cX4_lays 132 = .ok (.ifCond .eq 21, 3) := dk_153 0 21 (dk_at dksX4_lays_5 15 rfl rfl)
theorem dX4_lays_135 : decode cX4_lays 135 = .ok (.iload 6, 2) := dk_21 6 (dk_at dksX4_lays_5 18 rfl rfl)
theorem dX4_lays_137 : decode cX4_lays 137 = .ok (.aload 5, 2) := dk_25 5 (dk_at dksX4_lays_5 20 rfl rfl)
theorem dX4_lays_139 : decode cX4_lays 139 = .ok (.invokestatic 212, 3) := dk_184 0 212 (dk_at dksX4_lays_6 0 rfl rfl)
theorem dX4_lays_142 : decode cX4_lays 142 = .ok (.aload_n 1, 1) := dk_43 (dk_at dksX4_lays_6 3 rfl rfl)
theorem dX4_lays_143 : decode cX4_lays 143 = .ok (.getfield 110, 3) := dk_180 0 110 (dk_at dksX4_lays_6 4 rfl rfl)
theorem dX4_lays_146 : decode cX4_lays 146 = .ok (.iadd, 1) := dk_96 (dk_at dksX4_lays_6 7 rfl rfl)
theorem dX4_lays_147 : decode cX4_lays 147 = .ok (.invokestatic 163, 3) := dk_184 0 163 (dk_at dksX4_lays_6 8 rfl rfl)
theorem dX4_lays_150 : decode cX4_lays 150 = .ok (.goto 5, 3) := dk_167 0 5 (dk_at dksX4_lays_6 11 rfl rfl)
theorem dX4_lays_153 : decode cX4_lays 153 = .ok (.iload 6, 2) := dk_21 6 (dk_at dksX4_lays_6 14 rfl rfl)
theorem dX4_lays_155 : decode cX4_lays 155 = .ok (.putfield 216, 3) := dk_181 0 216 (dk_at dksX4_lays_6 16 rfl rfl)
theorem dX4_lays_158 : decode cX4_lays 158 = .ok (.return_, 1) := dk_177 (dk_at dksX4_lays_6 19 rfl rfl)
abbrev cX4_contents : ByteArray := prog_14_method_28_code
def yX4_contents : MethodName := ⟨RX4, "contents", "(LColumnarPressModel$Box;IILjava/util/List;Z)I"⟩
def dkwX4_contents_3 : List UInt8 := [167, 0, 20, 42, 43, 21, 5, 182, 0, 226, 167, 0, 10, 42, 43, 21, 5, 182, 0, 229, 172]
abbrev dktX4_contents_3 : List UInt8 := dkwX4_contents_3 ++ []
def dkwX4_contents_2 : List UInt8 := [42, 43, 28, 29, 25, 4, 21, 5, 182, 0, 219, 167, 0, 31, 43, 28, 29, 25, 4, 184, 0, 222]
abbrev dktX4_contents_2 : List UInt8 := dkwX4_contents_2 ++ dktX4_contents_3
def dkwX4_contents_1 : List UInt8 := [171, 0, 0, 0, 0, 0, 0, 71, 0, 0, 0, 3, 0, 0, 0, 98, 0, 0, 0, 36, 0, 0, 0, 102, 0, 0, 0, 61, 0, 0, 0, 116, 0, 0, 0, 50]
abbrev dktX4_contents_1 : List UInt8 := dkwX4_contents_1 ++ dktX4_contents_2
def dkwX4_contents_0 : List UInt8 := [43, 180, 0, 62]
abbrev dktX4_contents_0 : List UInt8 := dkwX4_contents_0 ++ dktX4_contents_1
theorem dksX4_contents_0 : cX4_contents.data.toList.drop 0 = dktX4_contents_0 := by decide +kernel
theorem dksX4_contents_1 : cX4_contents.data.toList.drop 4 = dktX4_contents_1 := dk_seg dksX4_contents_0 4 rfl rfl
theorem dksX4_contents_2 : cX4_contents.data.toList.drop 40 = dktX4_contents_2 := dk_seg dksX4_contents_1 36 rfl rfl
theorem dksX4_contents_3 : cX4_contents.data.toList.drop 62 = dktX4_contents_3 := dk_seg dksX4_contents_2 22 rfl rfl
theorem dX4_contents_0 : decode cX4_contents 0 = .ok (.aload_n 1, 1) := dk_43 (dk_at dksX4_contents_0 0 rfl rfl)
theorem dX4_contents_1 : decode cX4_contents 1 = .ok (.getfield 62, 3) := dk_180 0 62 (dk_at dksX4_contents_0 1 rfl rfl)
theorem dX4_contents_4 : decode cX4_contents 4 = .ok (.lookupswitch 71 #[(98, 36), (102, 61), (116, 50)], 36) := by decide +kernel
theorem dX4_contents_40 : decode cX4_contents 40 = .ok (.aload_n 0, 1) := dk_42 (dk_at dksX4_contents_2 0 rfl rfl)
theorem dX4_contents_41 : decode cX4_contents 41 = .ok (.aload_n 1, 1) := dk_43 (dk_at dksX4_contents_2 1 rfl rfl)
theorem dX4_contents_42 : decode cX4_contents 42 = .ok (.iload_n 2, 1) := dk_28 (dk_at dksX4_contents_2 2 rfl rfl)
theorem dX4_contents_43 : decode cX4_contents 43 = .ok (.iload_n 3, 1) := dk_29 (dk_at dksX4_contents_2 3 rfl rfl)
theorem dX4_contents_44 : decode cX4_contents 44 = .ok (.aload 4, 2) := dk_25 4 (dk_at dksX4_contents_2 4 rfl rfl)
theorem dX4_contents_46 : decode cX4_contents 46 = .ok (.iload 5, 2) := dk_21 5 (dk_at dksX4_contents_2 6 rfl rfl)
theorem dX4_contents_48 : decode cX4_contents 48 = .ok (.invokevirtual 219, 3) := dk_182 0 219 (dk_at dksX4_contents_2 8 rfl rfl)
theorem dX4_contents_51 : decode cX4_contents 51 = .ok (.goto 31, 3) := dk_167 0 31 (dk_at dksX4_contents_2 11 rfl rfl)
theorem dX4_contents_54 : decode cX4_contents 54 = .ok (.aload_n 1, 1) := dk_43 (dk_at dksX4_contents_2 14 rfl rfl)
theorem dX4_contents_55 : decode cX4_contents 55 = .ok (.iload_n 2, 1) := dk_28 (dk_at dksX4_contents_2 15 rfl rfl)
theorem dX4_contents_56 : decode cX4_contents 56 = .ok (.iload_n 3, 1) := dk_29 (dk_at dksX4_contents_2 16 rfl rfl)
theorem dX4_contents_57 : decode cX4_contents 57 = .ok (.aload 4, 2) := dk_25 4 (dk_at dksX4_contents_2 17 rfl rfl)
theorem dX4_contents_59 : decode cX4_contents 59 = .ok (.invokestatic 222, 3) := dk_184 0 222 (dk_at dksX4_contents_2 19 rfl rfl)
theorem dX4_contents_62 : decode cX4_contents 62 = .ok (.goto 20, 3) := dk_167 0 20 (dk_at dksX4_contents_3 0 rfl rfl)
theorem dX4_contents_65 : decode cX4_contents 65 = .ok (.aload_n 0, 1) := dk_42 (dk_at dksX4_contents_3 3 rfl rfl)
theorem dX4_contents_66 : decode cX4_contents 66 = .ok (.aload_n 1, 1) := dk_43 (dk_at dksX4_contents_3 4 rfl rfl)
theorem dX4_contents_67 : decode cX4_contents 67 = .ok (.iload 5, 2) := dk_21 5 (dk_at dksX4_contents_3 5 rfl rfl)
theorem dX4_contents_69 : decode cX4_contents 69 = .ok (.invokevirtual 226, 3) := dk_182 0 226 (dk_at dksX4_contents_3 7 rfl rfl)
theorem dX4_contents_72 : decode cX4_contents 72 = .ok (.goto 10, 3) := dk_167 0 10 (dk_at dksX4_contents_3 10 rfl rfl)
theorem dX4_contents_75 : decode cX4_contents 75 = .ok (.aload_n 0, 1) := dk_42 (dk_at dksX4_contents_3 13 rfl rfl)
theorem dX4_contents_76 : decode cX4_contents 76 = .ok (.aload_n 1, 1) := dk_43 (dk_at dksX4_contents_3 14 rfl rfl)
theorem dX4_contents_77 : decode cX4_contents 77 = .ok (.iload 5, 2) := dk_21 5 (dk_at dksX4_contents_3 15 rfl rfl)
theorem dX4_contents_79 : decode cX4_contents 79 = .ok (.invokevirtual 229, 3) := dk_182 0 229 (dk_at dksX4_contents_3 17 rfl rfl)
theorem dX4_contents_82 : decode cX4_contents 82 = .ok (.ireturn, 1) := dk_172 (dk_at dksX4_contents_3 20 rfl rfl)
abbrev cX4_block : ByteArray := prog_14_method_30_code
def yX4_block : MethodName := ⟨RX4, "block", "(LColumnarPressModel$Box;IILjava/util/List;Z)I"⟩
def dkwX4_block_15 : List UInt8 := [96, 172]
abbrev dktX4_block_15 : List UInt8 := dkwX4_block_15 ++ []
def dkwX4_block_14 : List UInt8 := [54, 10, 167, 254, 216, 21, 8, 21, 9, 96, 21, 10, 96, 43, 180, 0, 110, 184, 0, 163, 43, 180, 0, 110]
abbrev dktX4_block_14 : List UInt8 := dkwX4_block_14 ++ dktX4_block_15
def dkwX4_block_13 : List UInt8 := [54, 9, 25, 12, 180, 0, 216, 154, 0, 8, 21, 10, 167, 0, 4, 3, 25, 12, 180, 0, 101, 184, 0, 188]
abbrev dktX4_block_13 : List UInt8 := dkwX4_block_13 ++ dktX4_block_14
def dkwX4_block_12 : List UInt8 := [54, 8, 25, 12, 180, 0, 216, 154, 0, 8, 21, 9, 167, 0, 4, 3, 25, 12, 180, 0, 101, 184, 0, 163]
abbrev dktX4_block_12 : List UInt8 := dkwX4_block_12 ++ dktX4_block_13
def dkwX4_block_11 : List UInt8 := [182, 0, 244, 25, 12, 180, 0, 216, 154, 0, 8, 21, 8, 167, 0, 11, 21, 13, 25, 12, 180, 0, 216, 96]
abbrev dktX4_block_11 : List UInt8 := dkwX4_block_11 ++ dktX4_block_12
def dkwX4_block_10 : List UInt8 := [21, 7, 25, 12, 182, 0, 176, 100, 5, 25, 12, 180, 0, 110, 104, 184, 0, 163, 25, 4, 21, 5]
abbrev dktX4_block_10 : List UInt8 := dkwX4_block_10 ++ dktX4_block_11
def dkwX4_block_9 : List UInt8 := [180, 0, 104, 96, 29, 21, 13, 96, 25, 12, 180, 0, 92, 155, 0, 11, 25, 12, 180, 0, 92, 167, 0, 21]
abbrev dktX4_block_9 : List UInt8 := dkwX4_block_9 ++ dktX4_block_10
def dkwX4_block_8 : List UInt8 := [154, 0, 17, 21, 13, 25, 4, 184, 0, 212, 29, 100, 184, 0, 163, 54, 13, 42, 25, 12, 21, 6, 25, 12]
abbrev dktX4_block_8 : List UInt8 := dkwX4_block_8 ++ dktX4_block_9
def dkwX4_block_7 : List UInt8 := [16, 103, 160, 0, 7, 4, 167, 0, 4, 3, 54, 14, 21, 14, 153, 0, 27, 25, 4, 185, 0, 243, 1, 0]
abbrev dktX4_block_7 : List UInt8 := dkwX4_block_7 ++ dktX4_block_8
def dkwX4_block_6 : List UInt8 := [25, 12, 180, 0, 137, 154, 0, 23, 25, 12, 180, 0, 62, 16, 102, 159, 0, 13, 25, 12, 180, 0, 62]
abbrev dktX4_block_6 : List UInt8 := dkwX4_block_6 ++ dktX4_block_7
def dkwX4_block_5 : List UInt8 := [54, 9, 21, 10, 25, 12, 180, 0, 98, 184, 0, 188, 54, 10, 21, 8, 21, 9, 96, 21, 10, 96, 54, 13]
abbrev dktX4_block_5 : List UInt8 := dkwX4_block_5 ++ dktX4_block_6
def dkwX4_block_4 : List UInt8 := [21, 7, 96, 25, 4, 21, 5, 182, 0, 239, 167, 255, 188, 21, 9, 25, 12, 180, 0, 98, 184, 0, 163]
abbrev dktX4_block_4 : List UInt8 := dkwX4_block_4 ++ dktX4_block_5
def dkwX4_block_3 : List UInt8 := [182, 0, 236, 153, 0, 33, 42, 25, 12, 29, 21, 8, 96, 21, 9, 96, 21, 10, 96, 21, 6, 21, 6]
abbrev dktX4_block_3 : List UInt8 := dkwX4_block_3 ++ dktX4_block_4
def dkwX4_block_2 : List UInt8 := [185, 0, 156, 1, 0, 192, 0, 30, 58, 12, 25, 12, 182, 0, 169, 153, 0, 6, 167, 255, 226, 25, 12]
abbrev dktX4_block_2 : List UInt8 := dkwX4_block_2 ++ dktX4_block_3
def dkwX4_block_1 : List UInt8 := [54, 10, 43, 180, 0, 69, 182, 0, 146, 58, 11, 25, 11, 185, 0, 150, 1, 0, 153, 1, 36, 25, 11]
abbrev dktX4_block_1 : List UInt8 := dkwX4_block_1 ++ dktX4_block_2
def dkwX4_block_0 : List UInt8 := [28, 43, 180, 0, 110, 96, 54, 6, 43, 184, 0, 232, 54, 7, 43, 180, 0, 110, 54, 8, 3, 54, 9, 3]
abbrev dktX4_block_0 : List UInt8 := dkwX4_block_0 ++ dktX4_block_1
theorem dksX4_block_0 : cX4_block.data.toList.drop 0 = dktX4_block_0 := by decide +kernel
theorem dksX4_block_1 : cX4_block.data.toList.drop 24 = dktX4_block_1 := dk_seg dksX4_block_0 24 rfl rfl
theorem dksX4_block_2 : cX4_block.data.toList.drop 47 = dktX4_block_2 := dk_seg dksX4_block_1 23 rfl rfl
theorem dksX4_block_3 : cX4_block.data.toList.drop 70 = dktX4_block_3 := dk_seg dksX4_block_2 23 rfl rfl
theorem dksX4_block_4 : cX4_block.data.toList.drop 93 = dktX4_block_4 := dk_seg dksX4_block_3 23 rfl rfl
theorem dksX4_block_5 : cX4_block.data.toList.drop 116 = dktX4_block_5 := dk_seg dksX4_block_4 23 rfl rfl
theorem dksX4_block_6 : cX4_block.data.toList.drop 140 = dktX4_block_6 := dk_seg dksX4_block_5 24 rfl rfl
theorem dksX4_block_7 : cX4_block.data.toList.drop 163 = dktX4_block_7 := dk_seg dksX4_block_6 23 rfl rfl
theorem dksX4_block_8 : cX4_block.data.toList.drop 187 = dktX4_block_8 := dk_seg dksX4_block_7 24 rfl rfl
theorem dksX4_block_9 : cX4_block.data.toList.drop 211 = dktX4_block_9 := dk_seg dksX4_block_8 24 rfl rfl
theorem dksX4_block_10 : cX4_block.data.toList.drop 235 = dktX4_block_10 := dk_seg dksX4_block_9 24 rfl rfl
theorem dksX4_block_11 : cX4_block.data.toList.drop 257 = dktX4_block_11 := dk_seg dksX4_block_10 22 rfl rfl
theorem dksX4_block_12 : cX4_block.data.toList.drop 281 = dktX4_block_12 := dk_seg dksX4_block_11 24 rfl rfl
theorem dksX4_block_13 : cX4_block.data.toList.drop 305 = dktX4_block_13 := dk_seg dksX4_block_12 24 rfl rfl
theorem dksX4_block_14 : cX4_block.data.toList.drop 329 = dktX4_block_14 := dk_seg dksX4_block_13 24 rfl rfl
theorem dksX4_block_15 : cX4_block.data.toList.drop 353 = dktX4_block_15 := dk_seg dksX4_block_14 24 rfl rfl
theorem dX4_block_0 : decode cX4_block 0 = .ok (.iload_n 2, 1) := dk_28 (dk_at dksX4_block_0 0 rfl rfl)
theorem dX4_block_1 : decode cX4_block 1 = .ok (.aload_n 1, 1) := dk_43 (dk_at dksX4_block_0 1 rfl rfl)
theorem dX4_block_2 : decode cX4_block 2 = .ok (.getfield 110, 3) := dk_180 0 110 (dk_at dksX4_block_0 2 rfl rfl)
theorem dX4_block_5 : decode cX4_block 5 = .ok (.iadd, 1) := dk_96 (dk_at dksX4_block_0 5 rfl rfl)
theorem dX4_block_6 : decode cX4_block 6 = .ok (.istore 6, 2) := dk_54 6 (dk_at dksX4_block_0 6 rfl rfl)
theorem dX4_block_8 : decode cX4_block 8 = .ok (.aload_n 1, 1) := dk_43 (dk_at dksX4_block_0 8 rfl rfl)
theorem dX4_block_9 : decode cX4_block 9 = .ok (.invokestatic 232, 3) := dk_184 0 232 (dk_at dksX4_block_0 9 rfl rfl)
theorem dX4_block_12 : decode cX4_block 12 = .ok (.istore 7, 2) := dk_54 7 (dk_at dksX4_block_0 12 rfl rfl)
theorem dX4_block_14 : decode cX4_block 14 = .ok (.aload_n 1, 1) := dk_43 (dk_at dksX4_block_0 14 rfl rfl)
theorem dX4_block_15 : decode cX4_block 15 = .ok (.getfield 110, 3) := dk_180 0 110 (dk_at dksX4_block_0 15 rfl rfl)
theorem dX4_block_18 : decode cX4_block 18 = .ok (.istore 8, 2) := dk_54 8 (dk_at dksX4_block_0 18 rfl rfl)
theorem dX4_block_20 : decode cX4_block 20 = .ok (.iconst 0, 1) := dk_3 (dk_at dksX4_block_0 20 rfl rfl)
theorem dX4_block_21 : decode cX4_block 21 = .ok (.istore 9, 2) := dk_54 9 (dk_at dksX4_block_0 21 rfl rfl)
theorem dX4_block_23 : decode cX4_block 23 = .ok (.iconst 0, 1) := dk_3 (dk_at dksX4_block_0 23 rfl rfl)
theorem dX4_block_24 : decode cX4_block 24 = .ok (.istore 10, 2) := dk_54 10 (dk_at dksX4_block_1 0 rfl rfl)
theorem dX4_block_26 : decode cX4_block 26 = .ok (.aload_n 1, 1) := dk_43 (dk_at dksX4_block_1 2 rfl rfl)
theorem dX4_block_27 : decode cX4_block 27 = .ok (.getfield 69, 3) := dk_180 0 69 (dk_at dksX4_block_1 3 rfl rfl)
theorem dX4_block_30 : decode cX4_block 30 = .ok (.invokevirtual 146, 3) := dk_182 0 146 (dk_at dksX4_block_1 6 rfl rfl)
theorem dX4_block_33 : decode cX4_block 33 = .ok (.astore 11, 2) := dk_58 11 (dk_at dksX4_block_1 9 rfl rfl)
theorem dX4_block_35 : decode cX4_block 35 = .ok (.aload 11, 2) := dk_25 11 (dk_at dksX4_block_1 11 rfl rfl)
theorem dX4_block_37 : decode cX4_block 37 = .ok (.invokeinterface 150 1, 5) := by decide +kernel
theorem dX4_block_42 : decode cX4_block 42 = .ok (.ifCond .eq 292, 3) := dk_153 1 36 (dk_at dksX4_block_1 18 rfl rfl)
theorem dX4_block_45 : decode cX4_block 45 = .ok (.aload 11, 2) := dk_25 11 (dk_at dksX4_block_1 21 rfl rfl)
theorem dX4_block_47 : decode cX4_block 47 = .ok (.invokeinterface 156 1, 5) := by decide +kernel
theorem dX4_block_52 : decode cX4_block 52 = .ok (.checkcast 30, 3) := dk_192 0 30 (dk_at dksX4_block_2 5 rfl rfl)
theorem dX4_block_55 : decode cX4_block 55 = .ok (.astore 12, 2) := dk_58 12 (dk_at dksX4_block_2 8 rfl rfl)
theorem dX4_block_57 : decode cX4_block 57 = .ok (.aload 12, 2) := dk_25 12 (dk_at dksX4_block_2 10 rfl rfl)
theorem dX4_block_59 : decode cX4_block 59 = .ok (.invokevirtual 169, 3) := dk_182 0 169 (dk_at dksX4_block_2 12 rfl rfl)
theorem dX4_block_62 : decode cX4_block 62 = .ok (.ifCond .eq 6, 3) := dk_153 0 6 (dk_at dksX4_block_2 15 rfl rfl)
theorem dX4_block_65 : decode cX4_block 65 = .ok (.goto (-30), 3) := dk_167 255 226 (dk_at dksX4_block_2 18 rfl rfl)
theorem dX4_block_68 : decode cX4_block 68 = .ok (.aload 12, 2) := dk_25 12 (dk_at dksX4_block_2 21 rfl rfl)
theorem dX4_block_70 : decode cX4_block 70 = .ok (.invokevirtual 236, 3) := dk_182 0 236 (dk_at dksX4_block_3 0 rfl rfl)
theorem dX4_block_73 : decode cX4_block 73 = .ok (.ifCond .eq 33, 3) := dk_153 0 33 (dk_at dksX4_block_3 3 rfl rfl)
theorem dX4_block_76 : decode cX4_block 76 = .ok (.aload_n 0, 1) := dk_42 (dk_at dksX4_block_3 6 rfl rfl)
theorem dX4_block_77 : decode cX4_block 77 = .ok (.aload 12, 2) := dk_25 12 (dk_at dksX4_block_3 7 rfl rfl)
theorem dX4_block_79 : decode cX4_block 79 = .ok (.iload_n 3, 1) := dk_29 (dk_at dksX4_block_3 9 rfl rfl)
theorem dX4_block_80 : decode cX4_block 80 = .ok (.iload 8, 2) := dk_21 8 (dk_at dksX4_block_3 10 rfl rfl)
theorem dX4_block_82 : decode cX4_block 82 = .ok (.iadd, 1) := dk_96 (dk_at dksX4_block_3 12 rfl rfl)
theorem dX4_block_83 : decode cX4_block 83 = .ok (.iload 9, 2) := dk_21 9 (dk_at dksX4_block_3 13 rfl rfl)
theorem dX4_block_85 : decode cX4_block 85 = .ok (.iadd, 1) := dk_96 (dk_at dksX4_block_3 15 rfl rfl)
theorem dX4_block_86 : decode cX4_block 86 = .ok (.iload 10, 2) := dk_21 10 (dk_at dksX4_block_3 16 rfl rfl)
theorem dX4_block_88 : decode cX4_block 88 = .ok (.iadd, 1) := dk_96 (dk_at dksX4_block_3 18 rfl rfl)
theorem dX4_block_89 : decode cX4_block 89 = .ok (.iload 6, 2) := dk_21 6 (dk_at dksX4_block_3 19 rfl rfl)
theorem dX4_block_91 : decode cX4_block 91 = .ok (.iload 6, 2) := dk_21 6 (dk_at dksX4_block_3 21 rfl rfl)
theorem dX4_block_93 : decode cX4_block 93 = .ok (.iload 7, 2) := dk_21 7 (dk_at dksX4_block_4 0 rfl rfl)
theorem dX4_block_95 : decode cX4_block 95 = .ok (.iadd, 1) := dk_96 (dk_at dksX4_block_4 2 rfl rfl)
theorem dX4_block_96 : decode cX4_block 96 = .ok (.aload 4, 2) := dk_25 4 (dk_at dksX4_block_4 3 rfl rfl)
theorem dX4_block_98 : decode cX4_block 98 = .ok (.iload 5, 2) := dk_21 5 (dk_at dksX4_block_4 5 rfl rfl)
theorem dX4_block_100 : decode cX4_block 100 = .ok (.invokevirtual 239, 3) := dk_182 0 239 (dk_at dksX4_block_4 7 rfl rfl)
theorem dX4_block_103 : decode cX4_block 103 = .ok (.goto (-68), 3) := dk_167 255 188 (dk_at dksX4_block_4 10 rfl rfl)
theorem dX4_block_106 : decode cX4_block 106 = .ok (.iload 9, 2) := dk_21 9 (dk_at dksX4_block_4 13 rfl rfl)
theorem dX4_block_108 : decode cX4_block 108 = .ok (.aload 12, 2) := dk_25 12 (dk_at dksX4_block_4 15 rfl rfl)
theorem dX4_block_110 : decode cX4_block 110 = .ok (.getfield 98, 3) := dk_180 0 98 (dk_at dksX4_block_4 17 rfl rfl)
theorem dX4_block_113 : decode cX4_block 113 = .ok (.invokestatic 163, 3) := dk_184 0 163 (dk_at dksX4_block_4 20 rfl rfl)
theorem dX4_block_116 : decode cX4_block 116 = .ok (.istore 9, 2) := dk_54 9 (dk_at dksX4_block_5 0 rfl rfl)
theorem dX4_block_118 : decode cX4_block 118 = .ok (.iload 10, 2) := dk_21 10 (dk_at dksX4_block_5 2 rfl rfl)
theorem dX4_block_120 : decode cX4_block 120 = .ok (.aload 12, 2) := dk_25 12 (dk_at dksX4_block_5 4 rfl rfl)
theorem dX4_block_122 : decode cX4_block 122 = .ok (.getfield 98, 3) := dk_180 0 98 (dk_at dksX4_block_5 6 rfl rfl)
theorem dX4_block_125 : decode cX4_block 125 = .ok (.invokestatic 188, 3) := dk_184 0 188 (dk_at dksX4_block_5 9 rfl rfl)
theorem dX4_block_128 : decode cX4_block 128 = .ok (.istore 10, 2) := dk_54 10 (dk_at dksX4_block_5 12 rfl rfl)
theorem dX4_block_130 : decode cX4_block 130 = .ok (.iload 8, 2) := dk_21 8 (dk_at dksX4_block_5 14 rfl rfl)
theorem dX4_block_132 : decode cX4_block 132 = .ok (.iload 9, 2) := dk_21 9 (dk_at dksX4_block_5 16 rfl rfl)
theorem dX4_block_134 : decode cX4_block 134 = .ok (.iadd, 1) := dk_96 (dk_at dksX4_block_5 18 rfl rfl)
theorem dX4_block_135 : decode cX4_block 135 = .ok (.iload 10, 2) := dk_21 10 (dk_at dksX4_block_5 19 rfl rfl)
theorem dX4_block_137 : decode cX4_block 137 = .ok (.iadd, 1) := dk_96 (dk_at dksX4_block_5 21 rfl rfl)
theorem dX4_block_138 : decode cX4_block 138 = .ok (.istore 13, 2) := dk_54 13 (dk_at dksX4_block_5 22 rfl rfl)
theorem dX4_block_140 : decode cX4_block 140 = .ok (.aload 12, 2) := dk_25 12 (dk_at dksX4_block_6 0 rfl rfl)
theorem dX4_block_142 : decode cX4_block 142 = .ok (.getfield 137, 3) := dk_180 0 137 (dk_at dksX4_block_6 2 rfl rfl)
theorem dX4_block_145 : decode cX4_block 145 = .ok (.ifCond .ne 23, 3) := dk_154 0 23 (dk_at dksX4_block_6 5 rfl rfl)
theorem dX4_block_148 : decode cX4_block 148 = .ok (.aload 12, 2) := dk_25 12 (dk_at dksX4_block_6 8 rfl rfl)
theorem dX4_block_150 : decode cX4_block 150 = .ok (.getfield 62, 3) := dk_180 0 62 (dk_at dksX4_block_6 10 rfl rfl)
theorem dX4_block_153 : decode cX4_block 153 = .ok (.bipush 102, 2) := dk_16 102 (dk_at dksX4_block_6 13 rfl rfl)
theorem dX4_block_155 : decode cX4_block 155 = .ok (.if_icmp .eq 13, 3) := dk_159 0 13 (dk_at dksX4_block_6 15 rfl rfl)
theorem dX4_block_158 : decode cX4_block 158 = .ok (.aload 12, 2) := dk_25 12 (dk_at dksX4_block_6 18 rfl rfl)
theorem dX4_block_160 : decode cX4_block 160 = .ok (.getfield 62, 3) := dk_180 0 62 (dk_at dksX4_block_6 20 rfl rfl)
theorem dX4_block_163 : decode cX4_block 163 = .ok (.bipush 103, 2) := dk_16 103 (dk_at dksX4_block_7 0 rfl rfl)
theorem dX4_block_165 : decode cX4_block 165 = .ok (.if_icmp .ne 7, 3) := dk_160 0 7 (dk_at dksX4_block_7 2 rfl rfl)
theorem dX4_block_168 : decode cX4_block 168 = .ok (.iconst 1, 1) := dk_4 (dk_at dksX4_block_7 5 rfl rfl)
theorem dX4_block_169 : decode cX4_block 169 = .ok (.goto 4, 3) := dk_167 0 4 (dk_at dksX4_block_7 6 rfl rfl)
theorem dX4_block_172 : decode cX4_block 172 = .ok (.iconst 0, 1) := dk_3 (dk_at dksX4_block_7 9 rfl rfl)
theorem dX4_block_173 : decode cX4_block 173 = .ok (.istore 14, 2) := dk_54 14 (dk_at dksX4_block_7 10 rfl rfl)
theorem dX4_block_175 : decode cX4_block 175 = .ok (.iload 14, 2) := dk_21 14 (dk_at dksX4_block_7 12 rfl rfl)
theorem dX4_block_177 : decode cX4_block 177 = .ok (.ifCond .eq 27, 3) := dk_153 0 27 (dk_at dksX4_block_7 14 rfl rfl)
theorem dX4_block_180 : decode cX4_block 180 = .ok (.aload 4, 2) := dk_25 4 (dk_at dksX4_block_7 17 rfl rfl)
theorem dX4_block_182 : decode cX4_block 182 = .ok (.invokeinterface 243 1, 5) := by decide +kernel
theorem dX4_block_187 : decode cX4_block 187 = .ok (.ifCond .ne 17, 3) := dk_154 0 17 (dk_at dksX4_block_8 0 rfl rfl)
theorem dX4_block_190 : decode cX4_block 190 = .ok (.iload 13, 2) := dk_21 13 (dk_at dksX4_block_8 3 rfl rfl)
theorem dX4_block_192 : decode cX4_block 192 = .ok (.aload 4, 2) := dk_25 4 (dk_at dksX4_block_8 5 rfl rfl)
theorem dX4_block_194 : decode cX4_block 194 = .ok (.invokestatic 212, 3) := dk_184 0 212 (dk_at dksX4_block_8 7 rfl rfl)
theorem dX4_block_197 : decode cX4_block 197 = .ok (.iload_n 3, 1) := dk_29 (dk_at dksX4_block_8 10 rfl rfl)
theorem dX4_block_198 : decode cX4_block 198 = .ok (.isub, 1) := dk_100 (dk_at dksX4_block_8 11 rfl rfl)
theorem dX4_block_199 : decode cX4_block 199 = .ok (.invokestatic 163, 3) := dk_184 0 163 (dk_at dksX4_block_8 12 rfl rfl)
theorem dX4_block_202 : decode cX4_block 202 = .ok (.istore 13, 2) := dk_54 13 (dk_at dksX4_block_8 15 rfl rfl)
theorem dX4_block_204 : decode cX4_block 204 = .ok (.aload_n 0, 1) := dk_42 (dk_at dksX4_block_8 17 rfl rfl)
theorem dX4_block_205 : decode cX4_block 205 = .ok (.aload 12, 2) := dk_25 12 (dk_at dksX4_block_8 18 rfl rfl)
theorem dX4_block_207 : decode cX4_block 207 = .ok (.iload 6, 2) := dk_21 6 (dk_at dksX4_block_8 20 rfl rfl)
theorem dX4_block_209 : decode cX4_block 209 = .ok (.aload 12, 2) := dk_25 12 (dk_at dksX4_block_8 22 rfl rfl)
theorem dX4_block_211 : decode cX4_block 211 = .ok (.getfield 104, 3) := dk_180 0 104 (dk_at dksX4_block_9 0 rfl rfl)
theorem dX4_block_214 : decode cX4_block 214 = .ok (.iadd, 1) := dk_96 (dk_at dksX4_block_9 3 rfl rfl)
theorem dX4_block_215 : decode cX4_block 215 = .ok (.iload_n 3, 1) := dk_29 (dk_at dksX4_block_9 4 rfl rfl)
theorem dX4_block_216 : decode cX4_block 216 = .ok (.iload 13, 2) := dk_21 13 (dk_at dksX4_block_9 5 rfl rfl)
theorem dX4_block_218 : decode cX4_block 218 = .ok (.iadd, 1) := dk_96 (dk_at dksX4_block_9 7 rfl rfl)
theorem dX4_block_219 : decode cX4_block 219 = .ok (.aload 12, 2) := dk_25 12 (dk_at dksX4_block_9 8 rfl rfl)
theorem dX4_block_221 : decode cX4_block 221 = .ok (.getfield 92, 3) := dk_180 0 92 (dk_at dksX4_block_9 10 rfl rfl)
theorem dX4_block_224 : decode cX4_block 224 = .ok (.ifCond .lt 11, 3) := dk_155 0 11 (dk_at dksX4_block_9 13 rfl rfl)
theorem dX4_block_227 : decode cX4_block 227 = .ok (.aload 12, 2) := dk_25 12 (dk_at dksX4_block_9 16 rfl rfl)
theorem dX4_block_229 : decode cX4_block 229 = .ok (.getfield 92, 3) := dk_180 0 92 (dk_at dksX4_block_9 18 rfl rfl)
theorem dX4_block_232 : decode cX4_block 232 = .ok (.goto 21, 3) := dk_167 0 21 (dk_at dksX4_block_9 21 rfl rfl)
theorem dX4_block_235 : decode cX4_block 235 = .ok (.iload 7, 2) := dk_21 7 (dk_at dksX4_block_10 0 rfl rfl)
theorem dX4_block_237 : decode cX4_block 237 = .ok (.aload 12, 2) := dk_25 12 (dk_at dksX4_block_10 2 rfl rfl)
theorem dX4_block_239 : decode cX4_block 239 = .ok (.invokevirtual 176, 3) := dk_182 0 176 (dk_at dksX4_block_10 4 rfl rfl)
theorem dX4_block_242 : decode cX4_block 242 = .ok (.isub, 1) := dk_100 (dk_at dksX4_block_10 7 rfl rfl)
theorem dX4_block_243 : decode cX4_block 243 = .ok (.iconst 2, 1) := dk_5 (dk_at dksX4_block_10 8 rfl rfl)
theorem dX4_block_244 : decode cX4_block 244 = .ok (.aload 12, 2) := dk_25 12 (dk_at dksX4_block_10 9 rfl rfl)
theorem dX4_block_246 : decode cX4_block 246 = .ok (.getfield 110, 3) := dk_180 0 110 (dk_at dksX4_block_10 11 rfl rfl)
theorem dX4_block_249 : decode cX4_block 249 = .ok (.imul, 1) := dk_104 (dk_at dksX4_block_10 14 rfl rfl)
theorem dX4_block_250 : decode cX4_block 250 = .ok (.invokestatic 163, 3) := dk_184 0 163 (dk_at dksX4_block_10 15 rfl rfl)
theorem dX4_block_253 : decode cX4_block 253 = .ok (.aload 4, 2) := dk_25 4 (dk_at dksX4_block_10 18 rfl rfl)
theorem dX4_block_255 : decode cX4_block 255 = .ok (.iload 5, 2) := dk_21 5 (dk_at dksX4_block_10 20 rfl rfl)
theorem dX4_block_257 : decode cX4_block 257 = .ok (.invokevirtual 244, 3) := dk_182 0 244 (dk_at dksX4_block_11 0 rfl rfl)
theorem dX4_block_260 : decode cX4_block 260 = .ok (.aload 12, 2) := dk_25 12 (dk_at dksX4_block_11 3 rfl rfl)
theorem dX4_block_262 : decode cX4_block 262 = .ok (.getfield 216, 3) := dk_180 0 216 (dk_at dksX4_block_11 5 rfl rfl)
theorem dX4_block_265 : decode cX4_block 265 = .ok (.ifCond .ne 8, 3) := dk_154 0 8 (dk_at dksX4_block_11 8 rfl rfl)
theorem dX4_block_268 : decode cX4_block 268 = .ok (.iload 8, 2) := dk_21 8 (dk_at dksX4_block_11 11 rfl rfl)
theorem dX4_block_270 : decode cX4_block 270 = .ok (.goto 11, 3) := dk_167 0 11 (dk_at dksX4_block_11 13 rfl rfl)
theorem dX4_block_273 : decode cX4_block 273 = .ok (.iload 13, 2) := dk_21 13 (dk_at dksX4_block_11 16 rfl rfl)
theorem dX4_block_275 : decode cX4_block 275 = .ok (.aload 12, 2) := dk_25 12 (dk_at dksX4_block_11 18 rfl rfl)
theorem dX4_block_277 : decode cX4_block 277 = .ok (.getfield 216, 3) := dk_180 0 216 (dk_at dksX4_block_11 20 rfl rfl)
theorem dX4_block_280 : decode cX4_block 280 = .ok (.iadd, 1) := dk_96 (dk_at dksX4_block_11 23 rfl rfl)
theorem dX4_block_281 : decode cX4_block 281 = .ok (.istore 8, 2) := dk_54 8 (dk_at dksX4_block_12 0 rfl rfl)
theorem dX4_block_283 : decode cX4_block 283 = .ok (.aload 12, 2) := dk_25 12 (dk_at dksX4_block_12 2 rfl rfl)
theorem dX4_block_285 : decode cX4_block 285 = .ok (.getfield 216, 3) := dk_180 0 216 (dk_at dksX4_block_12 4 rfl rfl)
theorem dX4_block_288 : decode cX4_block 288 = .ok (.ifCond .ne 8, 3) := dk_154 0 8 (dk_at dksX4_block_12 7 rfl rfl)
theorem dX4_block_291 : decode cX4_block 291 = .ok (.iload 9, 2) := dk_21 9 (dk_at dksX4_block_12 10 rfl rfl)
theorem dX4_block_293 : decode cX4_block 293 = .ok (.goto 4, 3) := dk_167 0 4 (dk_at dksX4_block_12 12 rfl rfl)
theorem dX4_block_296 : decode cX4_block 296 = .ok (.iconst 0, 1) := dk_3 (dk_at dksX4_block_12 15 rfl rfl)
theorem dX4_block_297 : decode cX4_block 297 = .ok (.aload 12, 2) := dk_25 12 (dk_at dksX4_block_12 16 rfl rfl)
theorem dX4_block_299 : decode cX4_block 299 = .ok (.getfield 101, 3) := dk_180 0 101 (dk_at dksX4_block_12 18 rfl rfl)
theorem dX4_block_302 : decode cX4_block 302 = .ok (.invokestatic 163, 3) := dk_184 0 163 (dk_at dksX4_block_12 21 rfl rfl)
theorem dX4_block_305 : decode cX4_block 305 = .ok (.istore 9, 2) := dk_54 9 (dk_at dksX4_block_13 0 rfl rfl)
theorem dX4_block_307 : decode cX4_block 307 = .ok (.aload 12, 2) := dk_25 12 (dk_at dksX4_block_13 2 rfl rfl)
theorem dX4_block_309 : decode cX4_block 309 = .ok (.getfield 216, 3) := dk_180 0 216 (dk_at dksX4_block_13 4 rfl rfl)
theorem dX4_block_312 : decode cX4_block 312 = .ok (.ifCond .ne 8, 3) := dk_154 0 8 (dk_at dksX4_block_13 7 rfl rfl)
theorem dX4_block_315 : decode cX4_block 315 = .ok (.iload 10, 2) := dk_21 10 (dk_at dksX4_block_13 10 rfl rfl)
theorem dX4_block_317 : decode cX4_block 317 = .ok (.goto 4, 3) := dk_167 0 4 (dk_at dksX4_block_13 12 rfl rfl)
theorem dX4_block_320 : decode cX4_block 320 = .ok (.iconst 0, 1) := dk_3 (dk_at dksX4_block_13 15 rfl rfl)
theorem dX4_block_321 : decode cX4_block 321 = .ok (.aload 12, 2) := dk_25 12 (dk_at dksX4_block_13 16 rfl rfl)
theorem dX4_block_323 : decode cX4_block 323 = .ok (.getfield 101, 3) := dk_180 0 101 (dk_at dksX4_block_13 18 rfl rfl)
theorem dX4_block_326 : decode cX4_block 326 = .ok (.invokestatic 188, 3) := dk_184 0 188 (dk_at dksX4_block_13 21 rfl rfl)
theorem dX4_block_329 : decode cX4_block 329 = .ok (.istore 10, 2) := dk_54 10 (dk_at dksX4_block_14 0 rfl rfl)
theorem dX4_block_331 : decode cX4_block 331 = .ok (.goto (-296), 3) := dk_167 254 216 (dk_at dksX4_block_14 2 rfl rfl)
theorem dX4_block_334 : decode cX4_block 334 = .ok (.iload 8, 2) := dk_21 8 (dk_at dksX4_block_14 5 rfl rfl)
theorem dX4_block_336 : decode cX4_block 336 = .ok (.iload 9, 2) := dk_21 9 (dk_at dksX4_block_14 7 rfl rfl)
theorem dX4_block_338 : decode cX4_block 338 = .ok (.iadd, 1) := dk_96 (dk_at dksX4_block_14 9 rfl rfl)
theorem dX4_block_339 : decode cX4_block 339 = .ok (.iload 10, 2) := dk_21 10 (dk_at dksX4_block_14 10 rfl rfl)
theorem dX4_block_341 : decode cX4_block 341 = .ok (.iadd, 1) := dk_96 (dk_at dksX4_block_14 12 rfl rfl)
theorem dX4_block_342 : decode cX4_block 342 = .ok (.aload_n 1, 1) := dk_43 (dk_at dksX4_block_14 13 rfl rfl)
theorem dX4_block_343 : decode cX4_block 343 = .ok (.getfield 110, 3) := dk_180 0 110 (dk_at dksX4_block_14 14 rfl rfl)
theorem dX4_block_346 : decode cX4_block 346 = .ok (.invokestatic 163, 3) := dk_184 0 163 (dk_at dksX4_block_14 17 rfl rfl)
theorem dX4_block_349 : decode cX4_block 349 = .ok (.aload_n 1, 1) := dk_43 (dk_at dksX4_block_14 20 rfl rfl)
theorem dX4_block_350 : decode cX4_block 350 = .ok (.getfield 110, 3) := dk_180 0 110 (dk_at dksX4_block_14 21 rfl rfl)
theorem dX4_block_353 : decode cX4_block 353 = .ok (.iadd, 1) := dk_96 (dk_at dksX4_block_15 0 rfl rfl)
theorem dX4_block_354 : decode cX4_block 354 = .ok (.ireturn, 1) := dk_172 (dk_at dksX4_block_15 1 rfl rfl)
abbrev cX4_inner : ByteArray := prog_14_method_29_code
def yX4_inner : MethodName := ⟨RX4, "inner", "(LColumnarPressModel$Box;)I"⟩
def dkwX4_inner_0 : List UInt8 := [3, 42, 180, 0, 202, 5, 42, 180, 0, 110, 104, 100, 184, 0, 163, 172]
abbrev dktX4_inner_0 : List UInt8 := dkwX4_inner_0 ++ []
theorem dksX4_inner_0 : cX4_inner.data.toList.drop 0 = dktX4_inner_0 := by decide +kernel
theorem dX4_inner_0 : decode cX4_inner 0 = .ok (.iconst 0, 1) := dk_3 (dk_at dksX4_inner_0 0 rfl rfl)
theorem dX4_inner_1 : decode cX4_inner 1 = .ok (.aload_n 0, 1) := dk_42 (dk_at dksX4_inner_0 1 rfl rfl)
theorem dX4_inner_2 : decode cX4_inner 2 = .ok (.getfield 202, 3) := dk_180 0 202 (dk_at dksX4_inner_0 2 rfl rfl)
theorem dX4_inner_5 : decode cX4_inner 5 = .ok (.iconst 2, 1) := dk_5 (dk_at dksX4_inner_0 5 rfl rfl)
theorem dX4_inner_6 : decode cX4_inner 6 = .ok (.aload_n 0, 1) := dk_42 (dk_at dksX4_inner_0 6 rfl rfl)
theorem dX4_inner_7 : decode cX4_inner 7 = .ok (.getfield 110, 3) := dk_180 0 110 (dk_at dksX4_inner_0 7 rfl rfl)
theorem dX4_inner_10 : decode cX4_inner 10 = .ok (.imul, 1) := dk_104 (dk_at dksX4_inner_0 10 rfl rfl)
theorem dX4_inner_11 : decode cX4_inner 11 = .ok (.isub, 1) := dk_100 (dk_at dksX4_inner_0 11 rfl rfl)
theorem dX4_inner_12 : decode cX4_inner 12 = .ok (.invokestatic 163, 3) := dk_184 0 163 (dk_at dksX4_inner_0 12 rfl rfl)
theorem dX4_inner_15 : decode cX4_inner 15 = .ok (.ireturn, 1) := dk_172 (dk_at dksX4_inner_0 15 rfl rfl)
abbrev cX4_floats : ByteArray := prog_14_method_35_code
def yX4_floats : MethodName := ⟨RX4, "floats", "(LColumnarPressModel$Box;IIILjava/util/List;Z)V"⟩
def dkwX4_floats_10 : List UInt8 := [21, 10, 21, 10, 21, 8, 96, 183, 1, 44, 185, 1, 47, 2, 0, 87, 177]
abbrev dktX4_floats_10 : List UInt8 := dkwX4_floats_10 ++ []
def dkwX4_floats_9 : List UInt8 := [182, 1, 23, 96, 181, 0, 250, 25, 5, 187, 0, 195, 89, 43, 180, 0, 122, 21, 11, 21, 11, 21, 7, 96]
abbrev dktX4_floats_9 : List UInt8 := dkwX4_floats_9 ++ dktX4_floats_10
def dkwX4_floats_8 : List UInt8 := [184, 1, 33, 21, 7, 100, 54, 11, 43, 21, 11, 43, 180, 0, 104, 96, 181, 0, 247, 43, 21, 10, 43]
abbrev dktX4_floats_8 : List UInt8 := dkwX4_floats_8 ++ dktX4_floats_9
def dkwX4_floats_7 : List UInt8 := [160, 0, 16, 25, 5, 29, 21, 10, 21, 9, 184, 1, 37, 167, 0, 17, 25, 5, 21, 4, 21, 10, 21, 9]
abbrev dktX4_floats_7 : List UInt8 := dkwX4_floats_7 ++ dktX4_floats_8
def dkwX4_floats_6 : List UInt8 := [164, 0, 17, 25, 5, 21, 10, 21, 9, 184, 1, 40, 54, 10, 167, 255, 204, 43, 180, 0, 122, 16, 108]
abbrev dktX4_floats_6 : List UInt8 := dkwX4_floats_6 ++ dktX4_floats_7
def dkwX4_floats_5 : List UInt8 := [21, 10, 21, 9, 184, 1, 37, 100, 164, 0, 31, 25, 5, 21, 10, 21, 9, 184, 1, 40, 21, 10]
abbrev dktX4_floats_5 : List UInt8 := dkwX4_floats_5 ++ dktX4_floats_6
def dkwX4_floats_4 : List UInt8 := [182, 1, 31, 184, 0, 163, 54, 10, 21, 7, 25, 5, 21, 4, 21, 10, 21, 9, 184, 1, 33, 25, 5, 29]
abbrev dktX4_floats_4 : List UInt8 := dkwX4_floats_4 ++ dktX4_floats_5
def dkwX4_floats_3 : List UInt8 := [167, 0, 29, 28, 25, 5, 25, 5, 185, 1, 29, 1, 0, 4, 100, 185, 1, 30, 2, 0, 192, 0, 195]
abbrev dktX4_floats_3 : List UInt8 := dkwX4_floats_3 ++ dktX4_floats_4
def dkwX4_floats_2 : List UInt8 := [96, 54, 8, 4, 21, 8, 184, 0, 163, 54, 9, 25, 5, 185, 0, 243, 1, 0, 153, 0, 7, 28]
abbrev dktX4_floats_2 : List UInt8 := dkwX4_floats_2 ++ dktX4_floats_3
def dkwX4_floats_1 : List UInt8 := [43, 180, 0, 202, 43, 182, 0, 176, 96, 54, 7, 43, 182, 1, 23, 43, 180, 0, 216, 96, 43, 182, 1, 26]
abbrev dktX4_floats_1 : List UInt8 := dkwX4_floats_1 ++ dktX4_floats_2
def dkwX4_floats_0 : List UInt8 := [42, 43, 43, 3, 21, 4, 29, 100, 184, 0, 163, 43, 182, 0, 176, 100, 184, 1, 19, 21, 6, 182, 1, 0]
abbrev dktX4_floats_0 : List UInt8 := dkwX4_floats_0 ++ dktX4_floats_1
theorem dksX4_floats_0 : cX4_floats.data.toList.drop 0 = dktX4_floats_0 := by decide +kernel
theorem dksX4_floats_1 : cX4_floats.data.toList.drop 24 = dktX4_floats_1 := dk_seg dksX4_floats_0 24 rfl rfl
theorem dksX4_floats_2 : cX4_floats.data.toList.drop 48 = dktX4_floats_2 := dk_seg dksX4_floats_1 24 rfl rfl
theorem dksX4_floats_3 : cX4_floats.data.toList.drop 70 = dktX4_floats_3 := dk_seg dksX4_floats_2 22 rfl rfl
theorem dksX4_floats_4 : cX4_floats.data.toList.drop 93 = dktX4_floats_4 := dk_seg dksX4_floats_3 23 rfl rfl
theorem dksX4_floats_5 : cX4_floats.data.toList.drop 117 = dktX4_floats_5 := dk_seg dksX4_floats_4 24 rfl rfl
theorem dksX4_floats_6 : cX4_floats.data.toList.drop 139 = dktX4_floats_6 := dk_seg dksX4_floats_5 22 rfl rfl
theorem dksX4_floats_7 : cX4_floats.data.toList.drop 162 = dktX4_floats_7 := dk_seg dksX4_floats_6 23 rfl rfl
theorem dksX4_floats_8 : cX4_floats.data.toList.drop 186 = dktX4_floats_8 := dk_seg dksX4_floats_7 24 rfl rfl
theorem dksX4_floats_9 : cX4_floats.data.toList.drop 209 = dktX4_floats_9 := dk_seg dksX4_floats_8 23 rfl rfl
theorem dksX4_floats_10 : cX4_floats.data.toList.drop 233 = dktX4_floats_10 := dk_seg dksX4_floats_9 24 rfl rfl
theorem dX4_floats_0 : decode cX4_floats 0 = .ok (.aload_n 0, 1) := dk_42 (dk_at dksX4_floats_0 0 rfl rfl)
theorem dX4_floats_1 : decode cX4_floats 1 = .ok (.aload_n 1, 1) := dk_43 (dk_at dksX4_floats_0 1 rfl rfl)
theorem dX4_floats_2 : decode cX4_floats 2 = .ok (.aload_n 1, 1) := dk_43 (dk_at dksX4_floats_0 2 rfl rfl)
theorem dX4_floats_3 : decode cX4_floats 3 = .ok (.iconst 0, 1) := dk_3 (dk_at dksX4_floats_0 3 rfl rfl)
theorem dX4_floats_4 : decode cX4_floats 4 = .ok (.iload 4, 2) := dk_21 4 (dk_at dksX4_floats_0 4 rfl rfl)
theorem dX4_floats_6 : decode cX4_floats 6 = .ok (.iload_n 3, 1) := dk_29 (dk_at dksX4_floats_0 6 rfl rfl)
theorem dX4_floats_7 : decode cX4_floats 7 = .ok (.isub, 1) := dk_100 (dk_at dksX4_floats_0 7 rfl rfl)
theorem dX4_floats_8 : decode cX4_floats 8 = .ok (.invokestatic 163, 3) := dk_184 0 163 (dk_at dksX4_floats_0 8 rfl rfl)
theorem dX4_floats_11 : decode cX4_floats 11 = .ok (.aload_n 1, 1) := dk_43 (dk_at dksX4_floats_0 11 rfl rfl)
theorem dX4_floats_12 : decode cX4_floats 12 = .ok (.invokevirtual 176, 3) := dk_182 0 176 (dk_at dksX4_floats_0 12 rfl rfl)
theorem dX4_floats_15 : decode cX4_floats 15 = .ok (.isub, 1) := dk_100 (dk_at dksX4_floats_0 15 rfl rfl)
theorem dX4_floats_16 : decode cX4_floats 16 = .ok (.invokestatic 275, 3) := dk_184 1 19 (dk_at dksX4_floats_0 16 rfl rfl)
theorem dX4_floats_19 : decode cX4_floats 19 = .ok (.iload 6, 2) := dk_21 6 (dk_at dksX4_floats_0 19 rfl rfl)
theorem dX4_floats_21 : decode cX4_floats 21 = .ok (.invokevirtual 256, 3) := dk_182 1 0 (dk_at dksX4_floats_0 21 rfl rfl)
theorem dX4_floats_24 : decode cX4_floats 24 = .ok (.aload_n 1, 1) := dk_43 (dk_at dksX4_floats_1 0 rfl rfl)
theorem dX4_floats_25 : decode cX4_floats 25 = .ok (.getfield 202, 3) := dk_180 0 202 (dk_at dksX4_floats_1 1 rfl rfl)
theorem dX4_floats_28 : decode cX4_floats 28 = .ok (.aload_n 1, 1) := dk_43 (dk_at dksX4_floats_1 4 rfl rfl)
theorem dX4_floats_29 : decode cX4_floats 29 = .ok (.invokevirtual 176, 3) := dk_182 0 176 (dk_at dksX4_floats_1 5 rfl rfl)
theorem dX4_floats_32 : decode cX4_floats 32 = .ok (.iadd, 1) := dk_96 (dk_at dksX4_floats_1 8 rfl rfl)
theorem dX4_floats_33 : decode cX4_floats 33 = .ok (.istore 7, 2) := dk_54 7 (dk_at dksX4_floats_1 9 rfl rfl)
theorem dX4_floats_35 : decode cX4_floats 35 = .ok (.aload_n 1, 1) := dk_43 (dk_at dksX4_floats_1 11 rfl rfl)
theorem dX4_floats_36 : decode cX4_floats 36 = .ok (.invokevirtual 279, 3) := dk_182 1 23 (dk_at dksX4_floats_1 12 rfl rfl)
theorem dX4_floats_39 : decode cX4_floats 39 = .ok (.aload_n 1, 1) := dk_43 (dk_at dksX4_floats_1 15 rfl rfl)
theorem dX4_floats_40 : decode cX4_floats 40 = .ok (.getfield 216, 3) := dk_180 0 216 (dk_at dksX4_floats_1 16 rfl rfl)
theorem dX4_floats_43 : decode cX4_floats 43 = .ok (.iadd, 1) := dk_96 (dk_at dksX4_floats_1 19 rfl rfl)
theorem dX4_floats_44 : decode cX4_floats 44 = .ok (.aload_n 1, 1) := dk_43 (dk_at dksX4_floats_1 20 rfl rfl)
theorem dX4_floats_45 : decode cX4_floats 45 = .ok (.invokevirtual 282, 3) := dk_182 1 26 (dk_at dksX4_floats_1 21 rfl rfl)
theorem dX4_floats_48 : decode cX4_floats 48 = .ok (.iadd, 1) := dk_96 (dk_at dksX4_floats_2 0 rfl rfl)
theorem dX4_floats_49 : decode cX4_floats 49 = .ok (.istore 8, 2) := dk_54 8 (dk_at dksX4_floats_2 1 rfl rfl)
theorem dX4_floats_51 : decode cX4_floats 51 = .ok (.iconst 1, 1) := dk_4 (dk_at dksX4_floats_2 3 rfl rfl)
theorem dX4_floats_52 : decode cX4_floats 52 = .ok (.iload 8, 2) := dk_21 8 (dk_at dksX4_floats_2 4 rfl rfl)
theorem dX4_floats_54 : decode cX4_floats 54 = .ok (.invokestatic 163, 3) := dk_184 0 163 (dk_at dksX4_floats_2 6 rfl rfl)
theorem dX4_floats_57 : decode cX4_floats 57 = .ok (.istore 9, 2) := dk_54 9 (dk_at dksX4_floats_2 9 rfl rfl)
theorem dX4_floats_59 : decode cX4_floats 59 = .ok (.aload 5, 2) := dk_25 5 (dk_at dksX4_floats_2 11 rfl rfl)
theorem dX4_floats_61 : decode cX4_floats 61 = .ok (.invokeinterface 243 1, 5) := by decide +kernel
theorem dX4_floats_66 : decode cX4_floats 66 = .ok (.ifCond .eq 7, 3) := dk_153 0 7 (dk_at dksX4_floats_2 18 rfl rfl)
theorem dX4_floats_69 : decode cX4_floats 69 = .ok (.iload_n 2, 1) := dk_28 (dk_at dksX4_floats_2 21 rfl rfl)
theorem dX4_floats_70 : decode cX4_floats 70 = .ok (.goto 29, 3) := dk_167 0 29 (dk_at dksX4_floats_3 0 rfl rfl)
theorem dX4_floats_73 : decode cX4_floats 73 = .ok (.iload_n 2, 1) := dk_28 (dk_at dksX4_floats_3 3 rfl rfl)
theorem dX4_floats_74 : decode cX4_floats 74 = .ok (.aload 5, 2) := dk_25 5 (dk_at dksX4_floats_3 4 rfl rfl)
theorem dX4_floats_76 : decode cX4_floats 76 = .ok (.aload 5, 2) := dk_25 5 (dk_at dksX4_floats_3 6 rfl rfl)
theorem dX4_floats_78 : decode cX4_floats 78 = .ok (.invokeinterface 285 1, 5) := by decide +kernel
theorem dX4_floats_83 : decode cX4_floats 83 = .ok (.iconst 1, 1) := dk_4 (dk_at dksX4_floats_3 13 rfl rfl)
theorem dX4_floats_84 : decode cX4_floats 84 = .ok (.isub, 1) := dk_100 (dk_at dksX4_floats_3 14 rfl rfl)
theorem dX4_floats_85 : decode cX4_floats 85 = .ok (.invokeinterface 286 2, 5) := by decide +kernel
theorem dX4_floats_90 : decode cX4_floats 90 = .ok (.checkcast 195, 3) := dk_192 0 195 (dk_at dksX4_floats_3 20 rfl rfl)
theorem dX4_floats_93 : decode cX4_floats 93 = .ok (.invokevirtual 287, 3) := dk_182 1 31 (dk_at dksX4_floats_4 0 rfl rfl)
theorem dX4_floats_96 : decode cX4_floats 96 = .ok (.invokestatic 163, 3) := dk_184 0 163 (dk_at dksX4_floats_4 3 rfl rfl)
theorem dX4_floats_99 : decode cX4_floats 99 = .ok (.istore 10, 2) := dk_54 10 (dk_at dksX4_floats_4 6 rfl rfl)
theorem dX4_floats_101 : decode cX4_floats 101 = .ok (.iload 7, 2) := dk_21 7 (dk_at dksX4_floats_4 8 rfl rfl)
theorem dX4_floats_103 : decode cX4_floats 103 = .ok (.aload 5, 2) := dk_25 5 (dk_at dksX4_floats_4 10 rfl rfl)
theorem dX4_floats_105 : decode cX4_floats 105 = .ok (.iload 4, 2) := dk_21 4 (dk_at dksX4_floats_4 12 rfl rfl)
theorem dX4_floats_107 : decode cX4_floats 107 = .ok (.iload 10, 2) := dk_21 10 (dk_at dksX4_floats_4 14 rfl rfl)
theorem dX4_floats_109 : decode cX4_floats 109 = .ok (.iload 9, 2) := dk_21 9 (dk_at dksX4_floats_4 16 rfl rfl)
theorem dX4_floats_111 : decode cX4_floats 111 = .ok (.invokestatic 289, 3) := dk_184 1 33 (dk_at dksX4_floats_4 18 rfl rfl)
theorem dX4_floats_114 : decode cX4_floats 114 = .ok (.aload 5, 2) := dk_25 5 (dk_at dksX4_floats_4 21 rfl rfl)
theorem dX4_floats_116 : decode cX4_floats 116 = .ok (.iload_n 3, 1) := dk_29 (dk_at dksX4_floats_4 23 rfl rfl)
theorem dX4_floats_117 : decode cX4_floats 117 = .ok (.iload 10, 2) := dk_21 10 (dk_at dksX4_floats_5 0 rfl rfl)
theorem dX4_floats_119 : decode cX4_floats 119 = .ok (.iload 9, 2) := dk_21 9 (dk_at dksX4_floats_5 2 rfl rfl)
theorem dX4_floats_121 : decode cX4_floats 121 = .ok (.invokestatic 293, 3) := dk_184 1 37 (dk_at dksX4_floats_5 4 rfl rfl)
theorem dX4_floats_124 : decode cX4_floats 124 = .ok (.isub, 1) := dk_100 (dk_at dksX4_floats_5 7 rfl rfl)
theorem dX4_floats_125 : decode cX4_floats 125 = .ok (.if_icmp .le 31, 3) := dk_164 0 31 (dk_at dksX4_floats_5 8 rfl rfl)
theorem dX4_floats_128 : decode cX4_floats 128 = .ok (.aload 5, 2) := dk_25 5 (dk_at dksX4_floats_5 11 rfl rfl)
theorem dX4_floats_130 : decode cX4_floats 130 = .ok (.iload 10, 2) := dk_21 10 (dk_at dksX4_floats_5 13 rfl rfl)
theorem dX4_floats_132 : decode cX4_floats 132 = .ok (.iload 9, 2) := dk_21 9 (dk_at dksX4_floats_5 15 rfl rfl)
theorem dX4_floats_134 : decode cX4_floats 134 = .ok (.invokestatic 296, 3) := dk_184 1 40 (dk_at dksX4_floats_5 17 rfl rfl)
theorem dX4_floats_137 : decode cX4_floats 137 = .ok (.iload 10, 2) := dk_21 10 (dk_at dksX4_floats_5 20 rfl rfl)
theorem dX4_floats_139 : decode cX4_floats 139 = .ok (.if_icmp .le 17, 3) := dk_164 0 17 (dk_at dksX4_floats_6 0 rfl rfl)
theorem dX4_floats_142 : decode cX4_floats 142 = .ok (.aload 5, 2) := dk_25 5 (dk_at dksX4_floats_6 3 rfl rfl)
theorem dX4_floats_144 : decode cX4_floats 144 = .ok (.iload 10, 2) := dk_21 10 (dk_at dksX4_floats_6 5 rfl rfl)
theorem dX4_floats_146 : decode cX4_floats 146 = .ok (.iload 9, 2) := dk_21 9 (dk_at dksX4_floats_6 7 rfl rfl)
theorem dX4_floats_148 : decode cX4_floats 148 = .ok (.invokestatic 296, 3) := dk_184 1 40 (dk_at dksX4_floats_6 9 rfl rfl)
theorem dX4_floats_151 : decode cX4_floats 151 = .ok (.istore 10, 2) := dk_54 10 (dk_at dksX4_floats_6 12 rfl rfl)
theorem dX4_floats_153 : decode cX4_floats 153 = .ok (.goto (-52), 3) := dk_167 255 204 (dk_at dksX4_floats_6 14 rfl rfl)
theorem dX4_floats_156 : decode cX4_floats 156 = .ok (.aload_n 1, 1) := dk_43 (dk_at dksX4_floats_6 17 rfl rfl)
theorem dX4_floats_157 : decode cX4_floats 157 = .ok (.getfield 122, 3) := dk_180 0 122 (dk_at dksX4_floats_6 18 rfl rfl)
theorem dX4_floats_160 : decode cX4_floats 160 = .ok (.bipush 108, 2) := dk_16 108 (dk_at dksX4_floats_6 21 rfl rfl)
theorem dX4_floats_162 : decode cX4_floats 162 = .ok (.if_icmp .ne 16, 3) := dk_160 0 16 (dk_at dksX4_floats_7 0 rfl rfl)
theorem dX4_floats_165 : decode cX4_floats 165 = .ok (.aload 5, 2) := dk_25 5 (dk_at dksX4_floats_7 3 rfl rfl)
theorem dX4_floats_167 : decode cX4_floats 167 = .ok (.iload_n 3, 1) := dk_29 (dk_at dksX4_floats_7 5 rfl rfl)
theorem dX4_floats_168 : decode cX4_floats 168 = .ok (.iload 10, 2) := dk_21 10 (dk_at dksX4_floats_7 6 rfl rfl)
theorem dX4_floats_170 : decode cX4_floats 170 = .ok (.iload 9, 2) := dk_21 9 (dk_at dksX4_floats_7 8 rfl rfl)
theorem dX4_floats_172 : decode cX4_floats 172 = .ok (.invokestatic 293, 3) := dk_184 1 37 (dk_at dksX4_floats_7 10 rfl rfl)
theorem dX4_floats_175 : decode cX4_floats 175 = .ok (.goto 17, 3) := dk_167 0 17 (dk_at dksX4_floats_7 13 rfl rfl)
theorem dX4_floats_178 : decode cX4_floats 178 = .ok (.aload 5, 2) := dk_25 5 (dk_at dksX4_floats_7 16 rfl rfl)
theorem dX4_floats_180 : decode cX4_floats 180 = .ok (.iload 4, 2) := dk_21 4 (dk_at dksX4_floats_7 18 rfl rfl)
theorem dX4_floats_182 : decode cX4_floats 182 = .ok (.iload 10, 2) := dk_21 10 (dk_at dksX4_floats_7 20 rfl rfl)
theorem dX4_floats_184 : decode cX4_floats 184 = .ok (.iload 9, 2) := dk_21 9 (dk_at dksX4_floats_7 22 rfl rfl)
theorem dX4_floats_186 : decode cX4_floats 186 = .ok (.invokestatic 289, 3) := dk_184 1 33 (dk_at dksX4_floats_8 0 rfl rfl)
theorem dX4_floats_189 : decode cX4_floats 189 = .ok (.iload 7, 2) := dk_21 7 (dk_at dksX4_floats_8 3 rfl rfl)
theorem dX4_floats_191 : decode cX4_floats 191 = .ok (.isub, 1) := dk_100 (dk_at dksX4_floats_8 5 rfl rfl)
theorem dX4_floats_192 : decode cX4_floats 192 = .ok (.istore 11, 2) := dk_54 11 (dk_at dksX4_floats_8 6 rfl rfl)
theorem dX4_floats_194 : decode cX4_floats 194 = .ok (.aload_n 1, 1) := dk_43 (dk_at dksX4_floats_8 8 rfl rfl)
theorem dX4_floats_195 : decode cX4_floats 195 = .ok (.iload 11, 2) := dk_21 11 (dk_at dksX4_floats_8 9 rfl rfl)
theorem dX4_floats_197 : decode cX4_floats 197 = .ok (.aload_n 1, 1) := dk_43 (dk_at dksX4_floats_8 11 rfl rfl)
theorem dX4_floats_198 : decode cX4_floats 198 = .ok (.getfield 104, 3) := dk_180 0 104 (dk_at dksX4_floats_8 12 rfl rfl)
theorem dX4_floats_201 : decode cX4_floats 201 = .ok (.iadd, 1) := dk_96 (dk_at dksX4_floats_8 15 rfl rfl)
theorem dX4_floats_202 : decode cX4_floats 202 = .ok (.putfield 247, 3) := dk_181 0 247 (dk_at dksX4_floats_8 16 rfl rfl)
theorem dX4_floats_205 : decode cX4_floats 205 = .ok (.aload_n 1, 1) := dk_43 (dk_at dksX4_floats_8 19 rfl rfl)
theorem dX4_floats_206 : decode cX4_floats 206 = .ok (.iload 10, 2) := dk_21 10 (dk_at dksX4_floats_8 20 rfl rfl)
theorem dX4_floats_208 : decode cX4_floats 208 = .ok (.aload_n 1, 1) := dk_43 (dk_at dksX4_floats_8 22 rfl rfl)
theorem dX4_floats_209 : decode cX4_floats 209 = .ok (.invokevirtual 279, 3) := dk_182 1 23 (dk_at dksX4_floats_9 0 rfl rfl)
theorem dX4_floats_212 : decode cX4_floats 212 = .ok (.iadd, 1) := dk_96 (dk_at dksX4_floats_9 3 rfl rfl)
theorem dX4_floats_213 : decode cX4_floats 213 = .ok (.putfield 250, 3) := dk_181 0 250 (dk_at dksX4_floats_9 4 rfl rfl)
theorem dX4_floats_216 : decode cX4_floats 216 = .ok (.aload 5, 2) := dk_25 5 (dk_at dksX4_floats_9 7 rfl rfl)
theorem dX4_floats_218 : decode cX4_floats 218 = .ok (.new 195, 3) := dk_187 0 195 (dk_at dksX4_floats_9 9 rfl rfl)
theorem dX4_floats_221 : decode cX4_floats 221 = .ok (.dup, 1) := dk_89 (dk_at dksX4_floats_9 12 rfl rfl)
theorem dX4_floats_222 : decode cX4_floats 222 = .ok (.aload_n 1, 1) := dk_43 (dk_at dksX4_floats_9 13 rfl rfl)
theorem dX4_floats_223 : decode cX4_floats 223 = .ok (.getfield 122, 3) := dk_180 0 122 (dk_at dksX4_floats_9 14 rfl rfl)
theorem dX4_floats_226 : decode cX4_floats 226 = .ok (.iload 11, 2) := dk_21 11 (dk_at dksX4_floats_9 17 rfl rfl)
theorem dX4_floats_228 : decode cX4_floats 228 = .ok (.iload 11, 2) := dk_21 11 (dk_at dksX4_floats_9 19 rfl rfl)
theorem dX4_floats_230 : decode cX4_floats 230 = .ok (.iload 7, 2) := dk_21 7 (dk_at dksX4_floats_9 21 rfl rfl)
theorem dX4_floats_232 : decode cX4_floats 232 = .ok (.iadd, 1) := dk_96 (dk_at dksX4_floats_9 23 rfl rfl)
theorem dX4_floats_233 : decode cX4_floats 233 = .ok (.iload 10, 2) := dk_21 10 (dk_at dksX4_floats_10 0 rfl rfl)
theorem dX4_floats_235 : decode cX4_floats 235 = .ok (.iload 10, 2) := dk_21 10 (dk_at dksX4_floats_10 2 rfl rfl)
theorem dX4_floats_237 : decode cX4_floats 237 = .ok (.iload 8, 2) := dk_21 8 (dk_at dksX4_floats_10 4 rfl rfl)
theorem dX4_floats_239 : decode cX4_floats 239 = .ok (.iadd, 1) := dk_96 (dk_at dksX4_floats_10 6 rfl rfl)
theorem dX4_floats_240 : decode cX4_floats 240 = .ok (.invokespecial 300, 3) := dk_183 1 44 (dk_at dksX4_floats_10 7 rfl rfl)
theorem dX4_floats_243 : decode cX4_floats 243 = .ok (.invokeinterface 303 2, 5) := by decide +kernel
theorem dX4_floats_248 : decode cX4_floats 248 = .ok (.pop, 1) := dk_87 (dk_at dksX4_floats_10 15 rfl rfl)
theorem dX4_floats_249 : decode cX4_floats 249 = .ok (.return_, 1) := dk_177 (dk_at dksX4_floats_10 16 rfl rfl)
abbrev cX4_fits : ByteArray := prog_14_method_23_code
def yX4_fits : MethodName := ⟨RX4, "fits", "(LColumnarPressModel$Box;I)I"⟩
def dkwX4_fits_1 : List UInt8 := [27, 184, 0, 188, 184, 0, 163, 172]
abbrev dktX4_fits_1 : List UInt8 := dkwX4_fits_1 ++ []
def dkwX4_fits_0 : List UInt8 := [42, 182, 0, 179, 155, 0, 10, 42, 182, 0, 179, 167, 0, 20, 42, 4, 184, 0, 172, 42, 3, 184, 0, 172]
abbrev dktX4_fits_0 : List UInt8 := dkwX4_fits_0 ++ dktX4_fits_1
theorem dksX4_fits_0 : cX4_fits.data.toList.drop 0 = dktX4_fits_0 := by decide +kernel
theorem dksX4_fits_1 : cX4_fits.data.toList.drop 24 = dktX4_fits_1 := dk_seg dksX4_fits_0 24 rfl rfl
theorem dX4_fits_0 : decode cX4_fits 0 = .ok (.aload_n 0, 1) := dk_42 (dk_at dksX4_fits_0 0 rfl rfl)
theorem dX4_fits_1 : decode cX4_fits 1 = .ok (.invokevirtual 179, 3) := dk_182 0 179 (dk_at dksX4_fits_0 1 rfl rfl)
theorem dX4_fits_4 : decode cX4_fits 4 = .ok (.ifCond .lt 10, 3) := dk_155 0 10 (dk_at dksX4_fits_0 4 rfl rfl)
theorem dX4_fits_7 : decode cX4_fits 7 = .ok (.aload_n 0, 1) := dk_42 (dk_at dksX4_fits_0 7 rfl rfl)
theorem dX4_fits_8 : decode cX4_fits 8 = .ok (.invokevirtual 179, 3) := dk_182 0 179 (dk_at dksX4_fits_0 8 rfl rfl)
theorem dX4_fits_11 : decode cX4_fits 11 = .ok (.goto 20, 3) := dk_167 0 20 (dk_at dksX4_fits_0 11 rfl rfl)
theorem dX4_fits_14 : decode cX4_fits 14 = .ok (.aload_n 0, 1) := dk_42 (dk_at dksX4_fits_0 14 rfl rfl)
theorem dX4_fits_15 : decode cX4_fits 15 = .ok (.iconst 1, 1) := dk_4 (dk_at dksX4_fits_0 15 rfl rfl)
theorem dX4_fits_16 : decode cX4_fits 16 = .ok (.invokestatic 172, 3) := dk_184 0 172 (dk_at dksX4_fits_0 16 rfl rfl)
theorem dX4_fits_19 : decode cX4_fits 19 = .ok (.aload_n 0, 1) := dk_42 (dk_at dksX4_fits_0 19 rfl rfl)
theorem dX4_fits_20 : decode cX4_fits 20 = .ok (.iconst 0, 1) := dk_3 (dk_at dksX4_fits_0 20 rfl rfl)
theorem dX4_fits_21 : decode cX4_fits 21 = .ok (.invokestatic 172, 3) := dk_184 0 172 (dk_at dksX4_fits_0 21 rfl rfl)
theorem dX4_fits_24 : decode cX4_fits 24 = .ok (.iload_n 1, 1) := dk_27 (dk_at dksX4_fits_1 0 rfl rfl)
theorem dX4_fits_25 : decode cX4_fits 25 = .ok (.invokestatic 188, 3) := dk_184 0 188 (dk_at dksX4_fits_1 1 rfl rfl)
theorem dX4_fits_28 : decode cX4_fits 28 = .ok (.invokestatic 163, 3) := dk_184 0 163 (dk_at dksX4_fits_1 4 rfl rfl)
theorem dX4_fits_31 : decode cX4_fits 31 = .ok (.ireturn, 1) := dk_172 (dk_at dksX4_fits_1 7 rfl rfl)
abbrev cX4_rightEdge : ByteArray := prog_14_method_33_code
def yX4_rightEdge : MethodName := ⟨RX4, "rightEdge", "(Ljava/util/List;III)I"⟩
def dkwX4_rightEdge_2 : List UInt8 := [182, 1, 7, 153, 0, 15, 21, 4, 25, 6, 182, 1, 13, 184, 0, 188, 54, 4, 167, 255, 202, 21, 4, 172]
abbrev dktX4_rightEdge_2 : List UInt8 := dkwX4_rightEdge_2 ++ []
def dkwX4_rightEdge_1 : List UInt8 := [185, 0, 156, 1, 0, 192, 0, 195, 58, 6, 25, 6, 182, 1, 4, 16, 114, 160, 0, 25, 25, 6, 28, 29]
abbrev dktX4_rightEdge_1 : List UInt8 := dkwX4_rightEdge_1 ++ dktX4_rightEdge_2
def dkwX4_rightEdge_0 : List UInt8 := [27, 54, 4, 42, 185, 0, 192, 1, 0, 58, 5, 25, 5, 185, 0, 150, 1, 0, 153, 0, 50, 25, 5]
abbrev dktX4_rightEdge_0 : List UInt8 := dkwX4_rightEdge_0 ++ dktX4_rightEdge_1
theorem dksX4_rightEdge_0 : cX4_rightEdge.data.toList.drop 0 = dktX4_rightEdge_0 := by decide +kernel
theorem dksX4_rightEdge_1 : cX4_rightEdge.data.toList.drop 23 = dktX4_rightEdge_1 := dk_seg dksX4_rightEdge_0 23 rfl rfl
theorem dksX4_rightEdge_2 : cX4_rightEdge.data.toList.drop 47 = dktX4_rightEdge_2 := dk_seg dksX4_rightEdge_1 24 rfl rfl
theorem dX4_rightEdge_0 : decode cX4_rightEdge 0 = .ok (.iload_n 1, 1) := dk_27 (dk_at dksX4_rightEdge_0 0 rfl rfl)
theorem dX4_rightEdge_1 : decode cX4_rightEdge 1 = .ok (.istore 4, 2) := dk_54 4 (dk_at dksX4_rightEdge_0 1 rfl rfl)
theorem dX4_rightEdge_3 : decode cX4_rightEdge 3 = .ok (.aload_n 0, 1) := dk_42 (dk_at dksX4_rightEdge_0 3 rfl rfl)
theorem dX4_rightEdge_4 : decode cX4_rightEdge 4 = .ok (.invokeinterface 192 1, 5) := by decide +kernel
theorem dX4_rightEdge_9 : decode cX4_rightEdge 9 = .ok (.astore 5, 2) := dk_58 5 (dk_at dksX4_rightEdge_0 9 rfl rfl)
theorem dX4_rightEdge_11 : decode cX4_rightEdge 11 = .ok (.aload 5, 2) := dk_25 5 (dk_at dksX4_rightEdge_0 11 rfl rfl)
theorem dX4_rightEdge_13 : decode cX4_rightEdge 13 = .ok (.invokeinterface 150 1, 5) := by decide +kernel
theorem dX4_rightEdge_18 : decode cX4_rightEdge 18 = .ok (.ifCond .eq 50, 3) := dk_153 0 50 (dk_at dksX4_rightEdge_0 18 rfl rfl)
theorem dX4_rightEdge_21 : decode cX4_rightEdge 21 = .ok (.aload 5, 2) := dk_25 5 (dk_at dksX4_rightEdge_0 21 rfl rfl)
theorem dX4_rightEdge_23 : decode cX4_rightEdge 23 = .ok (.invokeinterface 156 1, 5) := by decide +kernel
theorem dX4_rightEdge_28 : decode cX4_rightEdge 28 = .ok (.checkcast 195, 3) := dk_192 0 195 (dk_at dksX4_rightEdge_1 5 rfl rfl)
theorem dX4_rightEdge_31 : decode cX4_rightEdge 31 = .ok (.astore 6, 2) := dk_58 6 (dk_at dksX4_rightEdge_1 8 rfl rfl)
theorem dX4_rightEdge_33 : decode cX4_rightEdge 33 = .ok (.aload 6, 2) := dk_25 6 (dk_at dksX4_rightEdge_1 10 rfl rfl)
theorem dX4_rightEdge_35 : decode cX4_rightEdge 35 = .ok (.invokevirtual 260, 3) := dk_182 1 4 (dk_at dksX4_rightEdge_1 12 rfl rfl)
theorem dX4_rightEdge_38 : decode cX4_rightEdge 38 = .ok (.bipush 114, 2) := dk_16 114 (dk_at dksX4_rightEdge_1 15 rfl rfl)
theorem dX4_rightEdge_40 : decode cX4_rightEdge 40 = .ok (.if_icmp .ne 25, 3) := dk_160 0 25 (dk_at dksX4_rightEdge_1 17 rfl rfl)
theorem dX4_rightEdge_43 : decode cX4_rightEdge 43 = .ok (.aload 6, 2) := dk_25 6 (dk_at dksX4_rightEdge_1 20 rfl rfl)
theorem dX4_rightEdge_45 : decode cX4_rightEdge 45 = .ok (.iload_n 2, 1) := dk_28 (dk_at dksX4_rightEdge_1 22 rfl rfl)
theorem dX4_rightEdge_46 : decode cX4_rightEdge 46 = .ok (.iload_n 3, 1) := dk_29 (dk_at dksX4_rightEdge_1 23 rfl rfl)
theorem dX4_rightEdge_47 : decode cX4_rightEdge 47 = .ok (.invokevirtual 263, 3) := dk_182 1 7 (dk_at dksX4_rightEdge_2 0 rfl rfl)
theorem dX4_rightEdge_50 : decode cX4_rightEdge 50 = .ok (.ifCond .eq 15, 3) := dk_153 0 15 (dk_at dksX4_rightEdge_2 3 rfl rfl)
theorem dX4_rightEdge_53 : decode cX4_rightEdge 53 = .ok (.iload 4, 2) := dk_21 4 (dk_at dksX4_rightEdge_2 6 rfl rfl)
theorem dX4_rightEdge_55 : decode cX4_rightEdge 55 = .ok (.aload 6, 2) := dk_25 6 (dk_at dksX4_rightEdge_2 8 rfl rfl)
theorem dX4_rightEdge_57 : decode cX4_rightEdge 57 = .ok (.invokevirtual 269, 3) := dk_182 1 13 (dk_at dksX4_rightEdge_2 10 rfl rfl)
theorem dX4_rightEdge_60 : decode cX4_rightEdge 60 = .ok (.invokestatic 188, 3) := dk_184 0 188 (dk_at dksX4_rightEdge_2 13 rfl rfl)
theorem dX4_rightEdge_63 : decode cX4_rightEdge 63 = .ok (.istore 4, 2) := dk_54 4 (dk_at dksX4_rightEdge_2 16 rfl rfl)
theorem dX4_rightEdge_65 : decode cX4_rightEdge 65 = .ok (.goto (-54), 3) := dk_167 255 202 (dk_at dksX4_rightEdge_2 18 rfl rfl)
theorem dX4_rightEdge_68 : decode cX4_rightEdge 68 = .ok (.iload 4, 2) := dk_21 4 (dk_at dksX4_rightEdge_2 21 rfl rfl)
theorem dX4_rightEdge_70 : decode cX4_rightEdge 70 = .ok (.ireturn, 1) := dk_172 (dk_at dksX4_rightEdge_2 23 rfl rfl)
abbrev cX4_leftEdge : ByteArray := prog_14_method_32_code
def yX4_leftEdge : MethodName := ⟨RX4, "leftEdge", "(Ljava/util/List;III)I"⟩
def dkwX4_leftEdge_2 : List UInt8 := [182, 1, 7, 153, 0, 15, 21, 4, 25, 6, 182, 1, 11, 184, 0, 163, 54, 4, 167, 255, 202, 21, 4, 172]
abbrev dktX4_leftEdge_2 : List UInt8 := dkwX4_leftEdge_2 ++ []
def dkwX4_leftEdge_1 : List UInt8 := [185, 0, 156, 1, 0, 192, 0, 195, 58, 6, 25, 6, 182, 1, 4, 16, 108, 160, 0, 25, 25, 6, 28, 29]
abbrev dktX4_leftEdge_1 : List UInt8 := dkwX4_leftEdge_1 ++ dktX4_leftEdge_2
def dkwX4_leftEdge_0 : List UInt8 := [27, 54, 4, 42, 185, 0, 192, 1, 0, 58, 5, 25, 5, 185, 0, 150, 1, 0, 153, 0, 50, 25, 5]
abbrev dktX4_leftEdge_0 : List UInt8 := dkwX4_leftEdge_0 ++ dktX4_leftEdge_1
theorem dksX4_leftEdge_0 : cX4_leftEdge.data.toList.drop 0 = dktX4_leftEdge_0 := by decide +kernel
theorem dksX4_leftEdge_1 : cX4_leftEdge.data.toList.drop 23 = dktX4_leftEdge_1 := dk_seg dksX4_leftEdge_0 23 rfl rfl
theorem dksX4_leftEdge_2 : cX4_leftEdge.data.toList.drop 47 = dktX4_leftEdge_2 := dk_seg dksX4_leftEdge_1 24 rfl rfl
theorem dX4_leftEdge_0 : decode cX4_leftEdge 0 = .ok (.iload_n 1, 1) := dk_27 (dk_at dksX4_leftEdge_0 0 rfl rfl)
theorem dX4_leftEdge_1 : decode cX4_leftEdge 1 = .ok (.istore 4, 2) := dk_54 4 (dk_at dksX4_leftEdge_0 1 rfl rfl)
theorem dX4_leftEdge_3 : decode cX4_leftEdge 3 = .ok (.aload_n 0, 1) := dk_42 (dk_at dksX4_leftEdge_0 3 rfl rfl)
theorem dX4_leftEdge_4 : decode cX4_leftEdge 4 = .ok (.invokeinterface 192 1, 5) := by decide +kernel
theorem dX4_leftEdge_9 : decode cX4_leftEdge 9 = .ok (.astore 5, 2) := dk_58 5 (dk_at dksX4_leftEdge_0 9 rfl rfl)
theorem dX4_leftEdge_11 : decode cX4_leftEdge 11 = .ok (.aload 5, 2) := dk_25 5 (dk_at dksX4_leftEdge_0 11 rfl rfl)
theorem dX4_leftEdge_13 : decode cX4_leftEdge 13 = .ok (.invokeinterface 150 1, 5) := by decide +kernel
theorem dX4_leftEdge_18 : decode cX4_leftEdge 18 = .ok (.ifCond .eq 50, 3) := dk_153 0 50 (dk_at dksX4_leftEdge_0 18 rfl rfl)
theorem dX4_leftEdge_21 : decode cX4_leftEdge 21 = .ok (.aload 5, 2) := dk_25 5 (dk_at dksX4_leftEdge_0 21 rfl rfl)
theorem dX4_leftEdge_23 : decode cX4_leftEdge 23 = .ok (.invokeinterface 156 1, 5) := by decide +kernel
theorem dX4_leftEdge_28 : decode cX4_leftEdge 28 = .ok (.checkcast 195, 3) := dk_192 0 195 (dk_at dksX4_leftEdge_1 5 rfl rfl)
theorem dX4_leftEdge_31 : decode cX4_leftEdge 31 = .ok (.astore 6, 2) := dk_58 6 (dk_at dksX4_leftEdge_1 8 rfl rfl)
theorem dX4_leftEdge_33 : decode cX4_leftEdge 33 = .ok (.aload 6, 2) := dk_25 6 (dk_at dksX4_leftEdge_1 10 rfl rfl)
theorem dX4_leftEdge_35 : decode cX4_leftEdge 35 = .ok (.invokevirtual 260, 3) := dk_182 1 4 (dk_at dksX4_leftEdge_1 12 rfl rfl)
theorem dX4_leftEdge_38 : decode cX4_leftEdge 38 = .ok (.bipush 108, 2) := dk_16 108 (dk_at dksX4_leftEdge_1 15 rfl rfl)
theorem dX4_leftEdge_40 : decode cX4_leftEdge 40 = .ok (.if_icmp .ne 25, 3) := dk_160 0 25 (dk_at dksX4_leftEdge_1 17 rfl rfl)
theorem dX4_leftEdge_43 : decode cX4_leftEdge 43 = .ok (.aload 6, 2) := dk_25 6 (dk_at dksX4_leftEdge_1 20 rfl rfl)
theorem dX4_leftEdge_45 : decode cX4_leftEdge 45 = .ok (.iload_n 2, 1) := dk_28 (dk_at dksX4_leftEdge_1 22 rfl rfl)
theorem dX4_leftEdge_46 : decode cX4_leftEdge 46 = .ok (.iload_n 3, 1) := dk_29 (dk_at dksX4_leftEdge_1 23 rfl rfl)
theorem dX4_leftEdge_47 : decode cX4_leftEdge 47 = .ok (.invokevirtual 263, 3) := dk_182 1 7 (dk_at dksX4_leftEdge_2 0 rfl rfl)
theorem dX4_leftEdge_50 : decode cX4_leftEdge 50 = .ok (.ifCond .eq 15, 3) := dk_153 0 15 (dk_at dksX4_leftEdge_2 3 rfl rfl)
theorem dX4_leftEdge_53 : decode cX4_leftEdge 53 = .ok (.iload 4, 2) := dk_21 4 (dk_at dksX4_leftEdge_2 6 rfl rfl)
theorem dX4_leftEdge_55 : decode cX4_leftEdge 55 = .ok (.aload 6, 2) := dk_25 6 (dk_at dksX4_leftEdge_2 8 rfl rfl)
theorem dX4_leftEdge_57 : decode cX4_leftEdge 57 = .ok (.invokevirtual 267, 3) := dk_182 1 11 (dk_at dksX4_leftEdge_2 10 rfl rfl)
theorem dX4_leftEdge_60 : decode cX4_leftEdge 60 = .ok (.invokestatic 163, 3) := dk_184 0 163 (dk_at dksX4_leftEdge_2 13 rfl rfl)
theorem dX4_leftEdge_63 : decode cX4_leftEdge 63 = .ok (.istore 4, 2) := dk_54 4 (dk_at dksX4_leftEdge_2 16 rfl rfl)
theorem dX4_leftEdge_65 : decode cX4_leftEdge 65 = .ok (.goto (-54), 3) := dk_167 255 202 (dk_at dksX4_leftEdge_2 18 rfl rfl)
theorem dX4_leftEdge_68 : decode cX4_leftEdge 68 = .ok (.iload 4, 2) := dk_21 4 (dk_at dksX4_leftEdge_2 21 rfl rfl)
theorem dX4_leftEdge_70 : decode cX4_leftEdge 70 = .ok (.ireturn, 1) := dk_172 (dk_at dksX4_leftEdge_2 23 rfl rfl)
abbrev cX4_below : ByteArray := prog_14_method_34_code
def yX4_below : MethodName := ⟨RX4, "below", "(Ljava/util/List;II)I"⟩
def dkwX4_below_2 : List UInt8 := [182, 1, 16, 184, 0, 188, 62, 167, 255, 214, 29, 19, 1, 15, 160, 0, 7, 27, 167, 0, 4, 29, 172]
abbrev dktX4_below_2 : List UInt8 := dkwX4_below_2 ++ []
def dkwX4_below_1 : List UInt8 := [185, 0, 156, 1, 0, 192, 0, 195, 58, 5, 25, 5, 27, 28, 182, 1, 7, 153, 0, 13, 29, 25, 5]
abbrev dktX4_below_1 : List UInt8 := dkwX4_below_1 ++ dktX4_below_2
def dkwX4_below_0 : List UInt8 := [19, 1, 15, 62, 42, 185, 0, 192, 1, 0, 58, 4, 25, 4, 185, 0, 150, 1, 0, 153, 0, 38, 25, 4]
abbrev dktX4_below_0 : List UInt8 := dkwX4_below_0 ++ dktX4_below_1
theorem dksX4_below_0 : cX4_below.data.toList.drop 0 = dktX4_below_0 := by decide +kernel
theorem dksX4_below_1 : cX4_below.data.toList.drop 24 = dktX4_below_1 := dk_seg dksX4_below_0 24 rfl rfl
theorem dksX4_below_2 : cX4_below.data.toList.drop 47 = dktX4_below_2 := dk_seg dksX4_below_1 23 rfl rfl
theorem dX4_below_0 : decode cX4_below 0 = .ok (.ldc_w 271, 3) := dk_19 1 15 (dk_at dksX4_below_0 0 rfl rfl)
theorem dX4_below_3 : decode cX4_below 3 = .ok (.istore_n 3, 1) := dk_62 (dk_at dksX4_below_0 3 rfl rfl)
theorem dX4_below_4 : decode cX4_below 4 = .ok (.aload_n 0, 1) := dk_42 (dk_at dksX4_below_0 4 rfl rfl)
theorem dX4_below_5 : decode cX4_below 5 = .ok (.invokeinterface 192 1, 5) := by decide +kernel
theorem dX4_below_10 : decode cX4_below 10 = .ok (.astore 4, 2) := dk_58 4 (dk_at dksX4_below_0 10 rfl rfl)
theorem dX4_below_12 : decode cX4_below 12 = .ok (.aload 4, 2) := dk_25 4 (dk_at dksX4_below_0 12 rfl rfl)
theorem dX4_below_14 : decode cX4_below 14 = .ok (.invokeinterface 150 1, 5) := by decide +kernel
theorem dX4_below_19 : decode cX4_below 19 = .ok (.ifCond .eq 38, 3) := dk_153 0 38 (dk_at dksX4_below_0 19 rfl rfl)
theorem dX4_below_22 : decode cX4_below 22 = .ok (.aload 4, 2) := dk_25 4 (dk_at dksX4_below_0 22 rfl rfl)
theorem dX4_below_24 : decode cX4_below 24 = .ok (.invokeinterface 156 1, 5) := by decide +kernel
theorem dX4_below_29 : decode cX4_below 29 = .ok (.checkcast 195, 3) := dk_192 0 195 (dk_at dksX4_below_1 5 rfl rfl)
theorem dX4_below_32 : decode cX4_below 32 = .ok (.astore 5, 2) := dk_58 5 (dk_at dksX4_below_1 8 rfl rfl)
theorem dX4_below_34 : decode cX4_below 34 = .ok (.aload 5, 2) := dk_25 5 (dk_at dksX4_below_1 10 rfl rfl)
theorem dX4_below_36 : decode cX4_below 36 = .ok (.iload_n 1, 1) := dk_27 (dk_at dksX4_below_1 12 rfl rfl)
theorem dX4_below_37 : decode cX4_below 37 = .ok (.iload_n 2, 1) := dk_28 (dk_at dksX4_below_1 13 rfl rfl)
theorem dX4_below_38 : decode cX4_below 38 = .ok (.invokevirtual 263, 3) := dk_182 1 7 (dk_at dksX4_below_1 14 rfl rfl)
theorem dX4_below_41 : decode cX4_below 41 = .ok (.ifCond .eq 13, 3) := dk_153 0 13 (dk_at dksX4_below_1 17 rfl rfl)
theorem dX4_below_44 : decode cX4_below 44 = .ok (.iload_n 3, 1) := dk_29 (dk_at dksX4_below_1 20 rfl rfl)
theorem dX4_below_45 : decode cX4_below 45 = .ok (.aload 5, 2) := dk_25 5 (dk_at dksX4_below_1 21 rfl rfl)
theorem dX4_below_47 : decode cX4_below 47 = .ok (.invokevirtual 272, 3) := dk_182 1 16 (dk_at dksX4_below_2 0 rfl rfl)
theorem dX4_below_50 : decode cX4_below 50 = .ok (.invokestatic 188, 3) := dk_184 0 188 (dk_at dksX4_below_2 3 rfl rfl)
theorem dX4_below_53 : decode cX4_below 53 = .ok (.istore_n 3, 1) := dk_62 (dk_at dksX4_below_2 6 rfl rfl)
theorem dX4_below_54 : decode cX4_below 54 = .ok (.goto (-42), 3) := dk_167 255 214 (dk_at dksX4_below_2 7 rfl rfl)
theorem dX4_below_57 : decode cX4_below 57 = .ok (.iload_n 3, 1) := dk_29 (dk_at dksX4_below_2 10 rfl rfl)
theorem dX4_below_58 : decode cX4_below 58 = .ok (.ldc_w 271, 3) := dk_19 1 15 (dk_at dksX4_below_2 11 rfl rfl)
theorem dX4_below_61 : decode cX4_below 61 = .ok (.if_icmp .ne 7, 3) := dk_160 0 7 (dk_at dksX4_below_2 14 rfl rfl)
theorem dX4_below_64 : decode cX4_below 64 = .ok (.iload_n 1, 1) := dk_27 (dk_at dksX4_below_2 17 rfl rfl)
theorem dX4_below_65 : decode cX4_below 65 = .ok (.goto 4, 3) := dk_167 0 4 (dk_at dksX4_below_2 18 rfl rfl)
theorem dX4_below_68 : decode cX4_below 68 = .ok (.iload_n 3, 1) := dk_29 (dk_at dksX4_below_2 21 rfl rfl)
theorem dX4_below_69 : decode cX4_below 69 = .ok (.ireturn, 1) := dk_172 (dk_at dksX4_below_2 22 rfl rfl)
abbrev cX4_lowest : ByteArray := prog_14_method_26_code
def yX4_lowest : MethodName := ⟨RX4, "lowest", "(Ljava/util/List;)I"⟩
def dkwX4_lowest_1 : List UInt8 := [185, 0, 156, 1, 0, 192, 0, 195, 78, 27, 45, 182, 0, 197, 184, 0, 163, 60, 167, 255, 228, 27, 172]
abbrev dktX4_lowest_1 : List UInt8 := dkwX4_lowest_1 ++ []
def dkwX4_lowest_0 : List UInt8 := [18, 191, 60, 42, 185, 0, 192, 1, 0, 77, 44, 185, 0, 150, 1, 0, 153, 0, 25, 44]
abbrev dktX4_lowest_0 : List UInt8 := dkwX4_lowest_0 ++ dktX4_lowest_1
theorem dksX4_lowest_0 : cX4_lowest.data.toList.drop 0 = dktX4_lowest_0 := by decide +kernel
theorem dksX4_lowest_1 : cX4_lowest.data.toList.drop 20 = dktX4_lowest_1 := dk_seg dksX4_lowest_0 20 rfl rfl
theorem dX4_lowest_0 : decode cX4_lowest 0 = .ok (.ldc 191, 2) := dk_18 191 (dk_at dksX4_lowest_0 0 rfl rfl)
theorem dX4_lowest_2 : decode cX4_lowest 2 = .ok (.istore_n 1, 1) := dk_60 (dk_at dksX4_lowest_0 2 rfl rfl)
theorem dX4_lowest_3 : decode cX4_lowest 3 = .ok (.aload_n 0, 1) := dk_42 (dk_at dksX4_lowest_0 3 rfl rfl)
theorem dX4_lowest_4 : decode cX4_lowest 4 = .ok (.invokeinterface 192 1, 5) := by decide +kernel
theorem dX4_lowest_9 : decode cX4_lowest 9 = .ok (.astore_n 2, 1) := dk_77 (dk_at dksX4_lowest_0 9 rfl rfl)
theorem dX4_lowest_10 : decode cX4_lowest 10 = .ok (.aload_n 2, 1) := dk_44 (dk_at dksX4_lowest_0 10 rfl rfl)
theorem dX4_lowest_11 : decode cX4_lowest 11 = .ok (.invokeinterface 150 1, 5) := by decide +kernel
theorem dX4_lowest_16 : decode cX4_lowest 16 = .ok (.ifCond .eq 25, 3) := dk_153 0 25 (dk_at dksX4_lowest_0 16 rfl rfl)
theorem dX4_lowest_19 : decode cX4_lowest 19 = .ok (.aload_n 2, 1) := dk_44 (dk_at dksX4_lowest_0 19 rfl rfl)
theorem dX4_lowest_20 : decode cX4_lowest 20 = .ok (.invokeinterface 156 1, 5) := by decide +kernel
theorem dX4_lowest_25 : decode cX4_lowest 25 = .ok (.checkcast 195, 3) := dk_192 0 195 (dk_at dksX4_lowest_1 5 rfl rfl)
theorem dX4_lowest_28 : decode cX4_lowest 28 = .ok (.astore_n 3, 1) := dk_78 (dk_at dksX4_lowest_1 8 rfl rfl)
theorem dX4_lowest_29 : decode cX4_lowest 29 = .ok (.iload_n 1, 1) := dk_27 (dk_at dksX4_lowest_1 9 rfl rfl)
theorem dX4_lowest_30 : decode cX4_lowest 30 = .ok (.aload_n 3, 1) := dk_45 (dk_at dksX4_lowest_1 10 rfl rfl)
theorem dX4_lowest_31 : decode cX4_lowest 31 = .ok (.invokevirtual 197, 3) := dk_182 0 197 (dk_at dksX4_lowest_1 11 rfl rfl)
theorem dX4_lowest_34 : decode cX4_lowest 34 = .ok (.invokestatic 163, 3) := dk_184 0 163 (dk_at dksX4_lowest_1 14 rfl rfl)
theorem dX4_lowest_37 : decode cX4_lowest 37 = .ok (.istore_n 1, 1) := dk_60 (dk_at dksX4_lowest_1 17 rfl rfl)
theorem dX4_lowest_38 : decode cX4_lowest 38 = .ok (.goto (-28), 3) := dk_167 255 228 (dk_at dksX4_lowest_1 18 rfl rfl)
theorem dX4_lowest_41 : decode cX4_lowest 41 = .ok (.iload_n 1, 1) := dk_27 (dk_at dksX4_lowest_1 21 rfl rfl)
theorem dX4_lowest_42 : decode cX4_lowest 42 = .ok (.ireturn, 1) := dk_172 (dk_at dksX4_lowest_1 22 rfl rfl)
abbrev cX4_flows : ByteArray := prog_14_method_31_code
def yX4_flows : MethodName := ⟨RX4, "flows", "(LColumnarPressModel$Box;IIILjava/util/List;Z)V"⟩
def dkwX4_flows_2 : List UInt8 := [43, 180, 0, 95, 155, 0, 10, 43, 180, 0, 95, 167, 0, 5, 21, 7, 181, 0, 216, 177]
abbrev dktX4_flows_2 : List UInt8 := dkwX4_flows_2 ++ []
def dkwX4_flows_1 : List UInt8 := [182, 1, 0, 177, 43, 21, 4, 181, 0, 202, 42, 43, 28, 29, 25, 5, 21, 6, 182, 0, 205, 54, 7, 43]
abbrev dktX4_flows_1 : List UInt8 := dkwX4_flows_1 ++ dktX4_flows_2
def dkwX4_flows_0 : List UInt8 := [43, 28, 181, 0, 247, 43, 29, 181, 0, 250, 43, 182, 0, 253, 153, 0, 13, 42, 43, 21, 4, 21, 6]
abbrev dktX4_flows_0 : List UInt8 := dkwX4_flows_0 ++ dktX4_flows_1
theorem dksX4_flows_0 : cX4_flows.data.toList.drop 0 = dktX4_flows_0 := by decide +kernel
theorem dksX4_flows_1 : cX4_flows.data.toList.drop 23 = dktX4_flows_1 := dk_seg dksX4_flows_0 23 rfl rfl
theorem dksX4_flows_2 : cX4_flows.data.toList.drop 47 = dktX4_flows_2 := dk_seg dksX4_flows_1 24 rfl rfl
theorem dX4_flows_0 : decode cX4_flows 0 = .ok (.aload_n 1, 1) := dk_43 (dk_at dksX4_flows_0 0 rfl rfl)
theorem dX4_flows_1 : decode cX4_flows 1 = .ok (.iload_n 2, 1) := dk_28 (dk_at dksX4_flows_0 1 rfl rfl)
theorem dX4_flows_2 : decode cX4_flows 2 = .ok (.putfield 247, 3) := dk_181 0 247 (dk_at dksX4_flows_0 2 rfl rfl)
theorem dX4_flows_5 : decode cX4_flows 5 = .ok (.aload_n 1, 1) := dk_43 (dk_at dksX4_flows_0 5 rfl rfl)
theorem dX4_flows_6 : decode cX4_flows 6 = .ok (.iload_n 3, 1) := dk_29 (dk_at dksX4_flows_0 6 rfl rfl)
theorem dX4_flows_7 : decode cX4_flows 7 = .ok (.putfield 250, 3) := dk_181 0 250 (dk_at dksX4_flows_0 7 rfl rfl)
theorem dX4_flows_10 : decode cX4_flows 10 = .ok (.aload_n 1, 1) := dk_43 (dk_at dksX4_flows_0 10 rfl rfl)
theorem dX4_flows_11 : decode cX4_flows 11 = .ok (.invokevirtual 253, 3) := dk_182 0 253 (dk_at dksX4_flows_0 11 rfl rfl)
theorem dX4_flows_14 : decode cX4_flows 14 = .ok (.ifCond .eq 13, 3) := dk_153 0 13 (dk_at dksX4_flows_0 14 rfl rfl)
theorem dX4_flows_17 : decode cX4_flows 17 = .ok (.aload_n 0, 1) := dk_42 (dk_at dksX4_flows_0 17 rfl rfl)
theorem dX4_flows_18 : decode cX4_flows 18 = .ok (.aload_n 1, 1) := dk_43 (dk_at dksX4_flows_0 18 rfl rfl)
theorem dX4_flows_19 : decode cX4_flows 19 = .ok (.iload 4, 2) := dk_21 4 (dk_at dksX4_flows_0 19 rfl rfl)
theorem dX4_flows_21 : decode cX4_flows 21 = .ok (.iload 6, 2) := dk_21 6 (dk_at dksX4_flows_0 21 rfl rfl)
theorem dX4_flows_23 : decode cX4_flows 23 = .ok (.invokevirtual 256, 3) := dk_182 1 0 (dk_at dksX4_flows_1 0 rfl rfl)
theorem dX4_flows_26 : decode cX4_flows 26 = .ok (.return_, 1) := dk_177 (dk_at dksX4_flows_1 3 rfl rfl)
theorem dX4_flows_27 : decode cX4_flows 27 = .ok (.aload_n 1, 1) := dk_43 (dk_at dksX4_flows_1 4 rfl rfl)
theorem dX4_flows_28 : decode cX4_flows 28 = .ok (.iload 4, 2) := dk_21 4 (dk_at dksX4_flows_1 5 rfl rfl)
theorem dX4_flows_30 : decode cX4_flows 30 = .ok (.putfield 202, 3) := dk_181 0 202 (dk_at dksX4_flows_1 7 rfl rfl)
theorem dX4_flows_33 : decode cX4_flows 33 = .ok (.aload_n 0, 1) := dk_42 (dk_at dksX4_flows_1 10 rfl rfl)
theorem dX4_flows_34 : decode cX4_flows 34 = .ok (.aload_n 1, 1) := dk_43 (dk_at dksX4_flows_1 11 rfl rfl)
theorem dX4_flows_35 : decode cX4_flows 35 = .ok (.iload_n 2, 1) := dk_28 (dk_at dksX4_flows_1 12 rfl rfl)
theorem dX4_flows_36 : decode cX4_flows 36 = .ok (.iload_n 3, 1) := dk_29 (dk_at dksX4_flows_1 13 rfl rfl)
theorem dX4_flows_37 : decode cX4_flows 37 = .ok (.aload 5, 2) := dk_25 5 (dk_at dksX4_flows_1 14 rfl rfl)
theorem dX4_flows_39 : decode cX4_flows 39 = .ok (.iload 6, 2) := dk_21 6 (dk_at dksX4_flows_1 16 rfl rfl)
theorem dX4_flows_41 : decode cX4_flows 41 = .ok (.invokevirtual 205, 3) := dk_182 0 205 (dk_at dksX4_flows_1 18 rfl rfl)
theorem dX4_flows_44 : decode cX4_flows 44 = .ok (.istore 7, 2) := dk_54 7 (dk_at dksX4_flows_1 21 rfl rfl)
theorem dX4_flows_46 : decode cX4_flows 46 = .ok (.aload_n 1, 1) := dk_43 (dk_at dksX4_flows_1 23 rfl rfl)
theorem dX4_flows_47 : decode cX4_flows 47 = .ok (.aload_n 1, 1) := dk_43 (dk_at dksX4_flows_2 0 rfl rfl)
theorem dX4_flows_48 : decode cX4_flows 48 = .ok (.getfield 95, 3) := dk_180 0 95 (dk_at dksX4_flows_2 1 rfl rfl)
theorem dX4_flows_51 : decode cX4_flows 51 = .ok (.ifCond .lt 10, 3) := dk_155 0 10 (dk_at dksX4_flows_2 4 rfl rfl)
theorem dX4_flows_54 : decode cX4_flows 54 = .ok (.aload_n 1, 1) := dk_43 (dk_at dksX4_flows_2 7 rfl rfl)
theorem dX4_flows_55 : decode cX4_flows 55 = .ok (.getfield 95, 3) := dk_180 0 95 (dk_at dksX4_flows_2 8 rfl rfl)
theorem dX4_flows_58 : decode cX4_flows 58 = .ok (.goto 5, 3) := dk_167 0 5 (dk_at dksX4_flows_2 11 rfl rfl)
theorem dX4_flows_61 : decode cX4_flows 61 = .ok (.iload 7, 2) := dk_21 7 (dk_at dksX4_flows_2 14 rfl rfl)
theorem dX4_flows_63 : decode cX4_flows 63 = .ok (.putfield 216, 3) := dk_181 0 216 (dk_at dksX4_flows_2 16 rfl rfl)
theorem dX4_flows_66 : decode cX4_flows 66 = .ok (.return_, 1) := dk_177 (dk_at dksX4_flows_2 19 rfl rfl)
abbrev cX4_text : ByteArray := prog_14_method_36_code
def yX4_text : MethodName := ⟨RX4, "text", "(LColumnarPressModel$Box;IILjava/util/List;)I"⟩
def dkwX4_text_13 : List UInt8 := [54, 7, 167, 254, 247, 21, 7, 28, 100, 42, 180, 0, 110, 96, 172]
abbrev dktX4_text_13 : List UInt8 := dkwX4_text_13 ++ []
def dkwX4_text_12 : List UInt8 := [21, 6, 28, 100, 183, 1, 56, 182, 0, 35, 87, 21, 8, 21, 12, 96, 54, 8, 132, 6, 10, 21, 6]
abbrev dktX4_text_12 : List UInt8 := dkwX4_text_12 ++ dktX4_text_13
def dkwX4_text_11 : List UInt8 := [167, 0, 5, 21, 13, 54, 14, 42, 180, 1, 48, 187, 1, 54, 89, 21, 12, 21, 9, 21, 14, 96, 27, 100]
abbrev dktX4_text_11 : List UInt8 := dkwX4_text_11 ++ dktX4_text_12
def dkwX4_text_10 : List UInt8 := [16, 108, 160, 0, 7, 3, 167, 0, 21, 42, 180, 0, 143, 16, 99, 160, 0, 10, 21, 13, 5, 108]
abbrev dktX4_text_10 : List UInt8 := dkwX4_text_10 ++ dktX4_text_11
def dkwX4_text_9 : List UInt8 := [54, 11, 132, 12, 1, 167, 255, 185, 3, 21, 10, 21, 11, 100, 184, 0, 163, 54, 13, 42, 180, 0, 143]
abbrev dktX4_text_9 : List UInt8 := dkwX4_text_9 ++ dktX4_text_10
def dkwX4_text_8 : List UInt8 := [21, 11, 5, 42, 180, 0, 83, 21, 8, 21, 12, 96, 182, 0, 58, 192, 0, 87, 182, 0, 160, 96, 96]
abbrev dktX4_text_8 : List UInt8 := dkwX4_text_8 ++ dktX4_text_9
def dkwX4_text_7 : List UInt8 := [42, 180, 0, 83, 21, 8, 21, 12, 96, 182, 0, 58, 192, 0, 87, 182, 0, 160, 96, 21, 10, 163, 0, 34]
abbrev dktX4_text_7 : List UInt8 := dkwX4_text_7 ++ dktX4_text_8
def dkwX4_text_6 : List UInt8 := [54, 11, 4, 54, 12, 21, 8, 21, 12, 96, 42, 180, 0, 83, 182, 0, 39, 162, 0, 62, 21, 11, 5, 96]
abbrev dktX4_text_6 : List UInt8 := dkwX4_text_6 ++ dktX4_text_7
def dkwX4_text_5 : List UInt8 := [184, 1, 40, 54, 6, 167, 255, 174, 42, 180, 0, 83, 21, 8, 182, 0, 58, 192, 0, 87, 182, 0, 160]
abbrev dktX4_text_5 : List UInt8 := dkwX4_text_5 ++ dktX4_text_6
def dkwX4_text_4 : List UInt8 := [21, 10, 164, 0, 29, 45, 21, 6, 16, 10, 184, 1, 40, 21, 6, 164, 0, 16, 45, 21, 6, 16, 10]
abbrev dktX4_text_4 : List UInt8 := dkwX4_text_4 ++ dktX4_text_5
def dkwX4_text_3 : List UInt8 := [184, 1, 33, 21, 9, 100, 54, 10, 42, 180, 0, 83, 21, 8, 182, 0, 58, 192, 0, 87, 182, 0, 160]
abbrev dktX4_text_3 : List UInt8 := dkwX4_text_3 ++ dktX4_text_4
def dkwX4_text_2 : List UInt8 := [162, 1, 3, 45, 21, 4, 21, 6, 16, 10, 184, 1, 37, 54, 9, 45, 21, 5, 21, 6, 16, 10]
abbrev dktX4_text_2 : List UInt8 := dkwX4_text_2 ++ dktX4_text_3
def dkwX4_text_1 : List UInt8 := [28, 42, 180, 0, 110, 96, 54, 6, 21, 6, 54, 7, 3, 54, 8, 21, 8, 42, 180, 0, 83, 182, 0, 39]
abbrev dktX4_text_1 : List UInt8 := dkwX4_text_1 ++ dktX4_text_2
def dkwX4_text_0 : List UInt8 := [42, 180, 1, 48, 182, 1, 51, 27, 42, 180, 0, 110, 96, 54, 4, 21, 4, 42, 184, 0, 232, 96, 54, 5]
abbrev dktX4_text_0 : List UInt8 := dkwX4_text_0 ++ dktX4_text_1
theorem dksX4_text_0 : cX4_text.data.toList.drop 0 = dktX4_text_0 := by decide +kernel
theorem dksX4_text_1 : cX4_text.data.toList.drop 24 = dktX4_text_1 := dk_seg dksX4_text_0 24 rfl rfl
theorem dksX4_text_2 : cX4_text.data.toList.drop 48 = dktX4_text_2 := dk_seg dksX4_text_1 24 rfl rfl
theorem dksX4_text_3 : cX4_text.data.toList.drop 70 = dktX4_text_3 := dk_seg dksX4_text_2 22 rfl rfl
theorem dksX4_text_4 : cX4_text.data.toList.drop 93 = dktX4_text_4 := dk_seg dksX4_text_3 23 rfl rfl
theorem dksX4_text_5 : cX4_text.data.toList.drop 116 = dktX4_text_5 := dk_seg dksX4_text_4 23 rfl rfl
theorem dksX4_text_6 : cX4_text.data.toList.drop 139 = dktX4_text_6 := dk_seg dksX4_text_5 23 rfl rfl
theorem dksX4_text_7 : cX4_text.data.toList.drop 163 = dktX4_text_7 := dk_seg dksX4_text_6 24 rfl rfl
theorem dksX4_text_8 : cX4_text.data.toList.drop 187 = dktX4_text_8 := dk_seg dksX4_text_7 24 rfl rfl
theorem dksX4_text_9 : cX4_text.data.toList.drop 210 = dktX4_text_9 := dk_seg dksX4_text_8 23 rfl rfl
theorem dksX4_text_10 : cX4_text.data.toList.drop 233 = dktX4_text_10 := dk_seg dksX4_text_9 23 rfl rfl
theorem dksX4_text_11 : cX4_text.data.toList.drop 255 = dktX4_text_11 := dk_seg dksX4_text_10 22 rfl rfl
theorem dksX4_text_12 : cX4_text.data.toList.drop 279 = dktX4_text_12 := dk_seg dksX4_text_11 24 rfl rfl
theorem dksX4_text_13 : cX4_text.data.toList.drop 302 = dktX4_text_13 := dk_seg dksX4_text_12 23 rfl rfl
theorem dX4_text_0 : decode cX4_text 0 = .ok (.aload_n 0, 1) := dk_42 (dk_at dksX4_text_0 0 rfl rfl)
theorem dX4_text_1 : decode cX4_text 1 = .ok (.getfield 304, 3) := dk_180 1 48 (dk_at dksX4_text_0 1 rfl rfl)
theorem dX4_text_4 : decode cX4_text 4 = .ok (.invokevirtual 307, 3) := dk_182 1 51 (dk_at dksX4_text_0 4 rfl rfl)
theorem dX4_text_7 : decode cX4_text 7 = .ok (.iload_n 1, 1) := dk_27 (dk_at dksX4_text_0 7 rfl rfl)
theorem dX4_text_8 : decode cX4_text 8 = .ok (.aload_n 0, 1) := dk_42 (dk_at dksX4_text_0 8 rfl rfl)
theorem dX4_text_9 : decode cX4_text 9 = .ok (.getfield 110, 3) := dk_180 0 110 (dk_at dksX4_text_0 9 rfl rfl)
theorem dX4_text_12 : decode cX4_text 12 = .ok (.iadd, 1) := dk_96 (dk_at dksX4_text_0 12 rfl rfl)
theorem dX4_text_13 : decode cX4_text 13 = .ok (.istore 4, 2) := dk_54 4 (dk_at dksX4_text_0 13 rfl rfl)
theorem dX4_text_15 : decode cX4_text 15 = .ok (.iload 4, 2) := dk_21 4 (dk_at dksX4_text_0 15 rfl rfl)
theorem dX4_text_17 : decode cX4_text 17 = .ok (.aload_n 0, 1) := dk_42 (dk_at dksX4_text_0 17 rfl rfl)
theorem dX4_text_18 : decode cX4_text 18 = .ok (.invokestatic 232, 3) := dk_184 0 232 (dk_at dksX4_text_0 18 rfl rfl)
theorem dX4_text_21 : decode cX4_text 21 = .ok (.iadd, 1) := dk_96 (dk_at dksX4_text_0 21 rfl rfl)
theorem dX4_text_22 : decode cX4_text 22 = .ok (.istore 5, 2) := dk_54 5 (dk_at dksX4_text_0 22 rfl rfl)
theorem dX4_text_24 : decode cX4_text 24 = .ok (.iload_n 2, 1) := dk_28 (dk_at dksX4_text_1 0 rfl rfl)
theorem dX4_text_25 : decode cX4_text 25 = .ok (.aload_n 0, 1) := dk_42 (dk_at dksX4_text_1 1 rfl rfl)
theorem dX4_text_26 : decode cX4_text 26 = .ok (.getfield 110, 3) := dk_180 0 110 (dk_at dksX4_text_1 2 rfl rfl)
theorem dX4_text_29 : decode cX4_text 29 = .ok (.iadd, 1) := dk_96 (dk_at dksX4_text_1 5 rfl rfl)
theorem dX4_text_30 : decode cX4_text 30 = .ok (.istore 6, 2) := dk_54 6 (dk_at dksX4_text_1 6 rfl rfl)
theorem dX4_text_32 : decode cX4_text 32 = .ok (.iload 6, 2) := dk_21 6 (dk_at dksX4_text_1 8 rfl rfl)
theorem dX4_text_34 : decode cX4_text 34 = .ok (.istore 7, 2) := dk_54 7 (dk_at dksX4_text_1 10 rfl rfl)
theorem dX4_text_36 : decode cX4_text 36 = .ok (.iconst 0, 1) := dk_3 (dk_at dksX4_text_1 12 rfl rfl)
theorem dX4_text_37 : decode cX4_text 37 = .ok (.istore 8, 2) := dk_54 8 (dk_at dksX4_text_1 13 rfl rfl)
theorem dX4_text_39 : decode cX4_text 39 = .ok (.iload 8, 2) := dk_21 8 (dk_at dksX4_text_1 15 rfl rfl)
theorem dX4_text_41 : decode cX4_text 41 = .ok (.aload_n 0, 1) := dk_42 (dk_at dksX4_text_1 17 rfl rfl)
theorem dX4_text_42 : decode cX4_text 42 = .ok (.getfield 83, 3) := dk_180 0 83 (dk_at dksX4_text_1 18 rfl rfl)
theorem dX4_text_45 : decode cX4_text 45 = .ok (.invokevirtual 39, 3) := dk_182 0 39 (dk_at dksX4_text_1 21 rfl rfl)
theorem dX4_text_48 : decode cX4_text 48 = .ok (.if_icmp .ge 259, 3) := dk_162 1 3 (dk_at dksX4_text_2 0 rfl rfl)
theorem dX4_text_51 : decode cX4_text 51 = .ok (.aload_n 3, 1) := dk_45 (dk_at dksX4_text_2 3 rfl rfl)
theorem dX4_text_52 : decode cX4_text 52 = .ok (.iload 4, 2) := dk_21 4 (dk_at dksX4_text_2 4 rfl rfl)
theorem dX4_text_54 : decode cX4_text 54 = .ok (.iload 6, 2) := dk_21 6 (dk_at dksX4_text_2 6 rfl rfl)
theorem dX4_text_56 : decode cX4_text 56 = .ok (.bipush 10, 2) := dk_16 10 (dk_at dksX4_text_2 8 rfl rfl)
theorem dX4_text_58 : decode cX4_text 58 = .ok (.invokestatic 293, 3) := dk_184 1 37 (dk_at dksX4_text_2 10 rfl rfl)
theorem dX4_text_61 : decode cX4_text 61 = .ok (.istore 9, 2) := dk_54 9 (dk_at dksX4_text_2 13 rfl rfl)
theorem dX4_text_63 : decode cX4_text 63 = .ok (.aload_n 3, 1) := dk_45 (dk_at dksX4_text_2 15 rfl rfl)
theorem dX4_text_64 : decode cX4_text 64 = .ok (.iload 5, 2) := dk_21 5 (dk_at dksX4_text_2 16 rfl rfl)
theorem dX4_text_66 : decode cX4_text 66 = .ok (.iload 6, 2) := dk_21 6 (dk_at dksX4_text_2 18 rfl rfl)
theorem dX4_text_68 : decode cX4_text 68 = .ok (.bipush 10, 2) := dk_16 10 (dk_at dksX4_text_2 20 rfl rfl)
theorem dX4_text_70 : decode cX4_text 70 = .ok (.invokestatic 289, 3) := dk_184 1 33 (dk_at dksX4_text_3 0 rfl rfl)
theorem dX4_text_73 : decode cX4_text 73 = .ok (.iload 9, 2) := dk_21 9 (dk_at dksX4_text_3 3 rfl rfl)
theorem dX4_text_75 : decode cX4_text 75 = .ok (.isub, 1) := dk_100 (dk_at dksX4_text_3 5 rfl rfl)
theorem dX4_text_76 : decode cX4_text 76 = .ok (.istore 10, 2) := dk_54 10 (dk_at dksX4_text_3 6 rfl rfl)
theorem dX4_text_78 : decode cX4_text 78 = .ok (.aload_n 0, 1) := dk_42 (dk_at dksX4_text_3 8 rfl rfl)
theorem dX4_text_79 : decode cX4_text 79 = .ok (.getfield 83, 3) := dk_180 0 83 (dk_at dksX4_text_3 9 rfl rfl)
theorem dX4_text_82 : decode cX4_text 82 = .ok (.iload 8, 2) := dk_21 8 (dk_at dksX4_text_3 12 rfl rfl)
theorem dX4_text_84 : decode cX4_text 84 = .ok (.invokevirtual 58, 3) := dk_182 0 58 (dk_at dksX4_text_3 14 rfl rfl)
theorem dX4_text_87 : decode cX4_text 87 = .ok (.checkcast 87, 3) := dk_192 0 87 (dk_at dksX4_text_3 17 rfl rfl)
theorem dX4_text_90 : decode cX4_text 90 = .ok (.invokevirtual 160, 3) := dk_182 0 160 (dk_at dksX4_text_3 20 rfl rfl)
theorem dX4_text_93 : decode cX4_text 93 = .ok (.iload 10, 2) := dk_21 10 (dk_at dksX4_text_4 0 rfl rfl)
theorem dX4_text_95 : decode cX4_text 95 = .ok (.if_icmp .le 29, 3) := dk_164 0 29 (dk_at dksX4_text_4 2 rfl rfl)
theorem dX4_text_98 : decode cX4_text 98 = .ok (.aload_n 3, 1) := dk_45 (dk_at dksX4_text_4 5 rfl rfl)
theorem dX4_text_99 : decode cX4_text 99 = .ok (.iload 6, 2) := dk_21 6 (dk_at dksX4_text_4 6 rfl rfl)
theorem dX4_text_101 : decode cX4_text 101 = .ok (.bipush 10, 2) := dk_16 10 (dk_at dksX4_text_4 8 rfl rfl)
theorem dX4_text_103 : decode cX4_text 103 = .ok (.invokestatic 296, 3) := dk_184 1 40 (dk_at dksX4_text_4 10 rfl rfl)
theorem dX4_text_106 : decode cX4_text 106 = .ok (.iload 6, 2) := dk_21 6 (dk_at dksX4_text_4 13 rfl rfl)
theorem dX4_text_108 : decode cX4_text 108 = .ok (.if_icmp .le 16, 3) := dk_164 0 16 (dk_at dksX4_text_4 15 rfl rfl)
theorem dX4_text_111 : decode cX4_text 111 = .ok (.aload_n 3, 1) := dk_45 (dk_at dksX4_text_4 18 rfl rfl)
theorem dX4_text_112 : decode cX4_text 112 = .ok (.iload 6, 2) := dk_21 6 (dk_at dksX4_text_4 19 rfl rfl)
theorem dX4_text_114 : decode cX4_text 114 = .ok (.bipush 10, 2) := dk_16 10 (dk_at dksX4_text_4 21 rfl rfl)
theorem dX4_text_116 : decode cX4_text 116 = .ok (.invokestatic 296, 3) := dk_184 1 40 (dk_at dksX4_text_5 0 rfl rfl)
theorem dX4_text_119 : decode cX4_text 119 = .ok (.istore 6, 2) := dk_54 6 (dk_at dksX4_text_5 3 rfl rfl)
theorem dX4_text_121 : decode cX4_text 121 = .ok (.goto (-82), 3) := dk_167 255 174 (dk_at dksX4_text_5 5 rfl rfl)
theorem dX4_text_124 : decode cX4_text 124 = .ok (.aload_n 0, 1) := dk_42 (dk_at dksX4_text_5 8 rfl rfl)
theorem dX4_text_125 : decode cX4_text 125 = .ok (.getfield 83, 3) := dk_180 0 83 (dk_at dksX4_text_5 9 rfl rfl)
theorem dX4_text_128 : decode cX4_text 128 = .ok (.iload 8, 2) := dk_21 8 (dk_at dksX4_text_5 12 rfl rfl)
theorem dX4_text_130 : decode cX4_text 130 = .ok (.invokevirtual 58, 3) := dk_182 0 58 (dk_at dksX4_text_5 14 rfl rfl)
theorem dX4_text_133 : decode cX4_text 133 = .ok (.checkcast 87, 3) := dk_192 0 87 (dk_at dksX4_text_5 17 rfl rfl)
theorem dX4_text_136 : decode cX4_text 136 = .ok (.invokevirtual 160, 3) := dk_182 0 160 (dk_at dksX4_text_5 20 rfl rfl)
theorem dX4_text_139 : decode cX4_text 139 = .ok (.istore 11, 2) := dk_54 11 (dk_at dksX4_text_6 0 rfl rfl)
theorem dX4_text_141 : decode cX4_text 141 = .ok (.iconst 1, 1) := dk_4 (dk_at dksX4_text_6 2 rfl rfl)
theorem dX4_text_142 : decode cX4_text 142 = .ok (.istore 12, 2) := dk_54 12 (dk_at dksX4_text_6 3 rfl rfl)
theorem dX4_text_144 : decode cX4_text 144 = .ok (.iload 8, 2) := dk_21 8 (dk_at dksX4_text_6 5 rfl rfl)
theorem dX4_text_146 : decode cX4_text 146 = .ok (.iload 12, 2) := dk_21 12 (dk_at dksX4_text_6 7 rfl rfl)
theorem dX4_text_148 : decode cX4_text 148 = .ok (.iadd, 1) := dk_96 (dk_at dksX4_text_6 9 rfl rfl)
theorem dX4_text_149 : decode cX4_text 149 = .ok (.aload_n 0, 1) := dk_42 (dk_at dksX4_text_6 10 rfl rfl)
theorem dX4_text_150 : decode cX4_text 150 = .ok (.getfield 83, 3) := dk_180 0 83 (dk_at dksX4_text_6 11 rfl rfl)
theorem dX4_text_153 : decode cX4_text 153 = .ok (.invokevirtual 39, 3) := dk_182 0 39 (dk_at dksX4_text_6 14 rfl rfl)
theorem dX4_text_156 : decode cX4_text 156 = .ok (.if_icmp .ge 62, 3) := dk_162 0 62 (dk_at dksX4_text_6 17 rfl rfl)
theorem dX4_text_159 : decode cX4_text 159 = .ok (.iload 11, 2) := dk_21 11 (dk_at dksX4_text_6 20 rfl rfl)
theorem dX4_text_161 : decode cX4_text 161 = .ok (.iconst 2, 1) := dk_5 (dk_at dksX4_text_6 22 rfl rfl)
theorem dX4_text_162 : decode cX4_text 162 = .ok (.iadd, 1) := dk_96 (dk_at dksX4_text_6 23 rfl rfl)
theorem dX4_text_163 : decode cX4_text 163 = .ok (.aload_n 0, 1) := dk_42 (dk_at dksX4_text_7 0 rfl rfl)
theorem dX4_text_164 : decode cX4_text 164 = .ok (.getfield 83, 3) := dk_180 0 83 (dk_at dksX4_text_7 1 rfl rfl)
theorem dX4_text_167 : decode cX4_text 167 = .ok (.iload 8, 2) := dk_21 8 (dk_at dksX4_text_7 4 rfl rfl)
theorem dX4_text_169 : decode cX4_text 169 = .ok (.iload 12, 2) := dk_21 12 (dk_at dksX4_text_7 6 rfl rfl)
theorem dX4_text_171 : decode cX4_text 171 = .ok (.iadd, 1) := dk_96 (dk_at dksX4_text_7 8 rfl rfl)
theorem dX4_text_172 : decode cX4_text 172 = .ok (.invokevirtual 58, 3) := dk_182 0 58 (dk_at dksX4_text_7 9 rfl rfl)
theorem dX4_text_175 : decode cX4_text 175 = .ok (.checkcast 87, 3) := dk_192 0 87 (dk_at dksX4_text_7 12 rfl rfl)
theorem dX4_text_178 : decode cX4_text 178 = .ok (.invokevirtual 160, 3) := dk_182 0 160 (dk_at dksX4_text_7 15 rfl rfl)
theorem dX4_text_181 : decode cX4_text 181 = .ok (.iadd, 1) := dk_96 (dk_at dksX4_text_7 18 rfl rfl)
theorem dX4_text_182 : decode cX4_text 182 = .ok (.iload 10, 2) := dk_21 10 (dk_at dksX4_text_7 19 rfl rfl)
theorem dX4_text_184 : decode cX4_text 184 = .ok (.if_icmp .gt 34, 3) := dk_163 0 34 (dk_at dksX4_text_7 21 rfl rfl)
theorem dX4_text_187 : decode cX4_text 187 = .ok (.iload 11, 2) := dk_21 11 (dk_at dksX4_text_8 0 rfl rfl)
theorem dX4_text_189 : decode cX4_text 189 = .ok (.iconst 2, 1) := dk_5 (dk_at dksX4_text_8 2 rfl rfl)
theorem dX4_text_190 : decode cX4_text 190 = .ok (.aload_n 0, 1) := dk_42 (dk_at dksX4_text_8 3 rfl rfl)
theorem dX4_text_191 : decode cX4_text 191 = .ok (.getfield 83, 3) := dk_180 0 83 (dk_at dksX4_text_8 4 rfl rfl)
theorem dX4_text_194 : decode cX4_text 194 = .ok (.iload 8, 2) := dk_21 8 (dk_at dksX4_text_8 7 rfl rfl)
theorem dX4_text_196 : decode cX4_text 196 = .ok (.iload 12, 2) := dk_21 12 (dk_at dksX4_text_8 9 rfl rfl)
theorem dX4_text_198 : decode cX4_text 198 = .ok (.iadd, 1) := dk_96 (dk_at dksX4_text_8 11 rfl rfl)
theorem dX4_text_199 : decode cX4_text 199 = .ok (.invokevirtual 58, 3) := dk_182 0 58 (dk_at dksX4_text_8 12 rfl rfl)
theorem dX4_text_202 : decode cX4_text 202 = .ok (.checkcast 87, 3) := dk_192 0 87 (dk_at dksX4_text_8 15 rfl rfl)
theorem dX4_text_205 : decode cX4_text 205 = .ok (.invokevirtual 160, 3) := dk_182 0 160 (dk_at dksX4_text_8 18 rfl rfl)
theorem dX4_text_208 : decode cX4_text 208 = .ok (.iadd, 1) := dk_96 (dk_at dksX4_text_8 21 rfl rfl)
theorem dX4_text_209 : decode cX4_text 209 = .ok (.iadd, 1) := dk_96 (dk_at dksX4_text_8 22 rfl rfl)
theorem dX4_text_210 : decode cX4_text 210 = .ok (.istore 11, 2) := dk_54 11 (dk_at dksX4_text_9 0 rfl rfl)
theorem dX4_text_212 : decode cX4_text 212 = .ok (.iinc 12 1, 3) := dk_132 12 1 (dk_at dksX4_text_9 2 rfl rfl)
theorem dX4_text_215 : decode cX4_text 215 = .ok (.goto (-71), 3) := dk_167 255 185 (dk_at dksX4_text_9 5 rfl rfl)
theorem dX4_text_218 : decode cX4_text 218 = .ok (.iconst 0, 1) := dk_3 (dk_at dksX4_text_9 8 rfl rfl)
theorem dX4_text_219 : decode cX4_text 219 = .ok (.iload 10, 2) := dk_21 10 (dk_at dksX4_text_9 9 rfl rfl)
theorem dX4_text_221 : decode cX4_text 221 = .ok (.iload 11, 2) := dk_21 11 (dk_at dksX4_text_9 11 rfl rfl)
theorem dX4_text_223 : decode cX4_text 223 = .ok (.isub, 1) := dk_100 (dk_at dksX4_text_9 13 rfl rfl)
theorem dX4_text_224 : decode cX4_text 224 = .ok (.invokestatic 163, 3) := dk_184 0 163 (dk_at dksX4_text_9 14 rfl rfl)
theorem dX4_text_227 : decode cX4_text 227 = .ok (.istore 13, 2) := dk_54 13 (dk_at dksX4_text_9 17 rfl rfl)
theorem dX4_text_229 : decode cX4_text 229 = .ok (.aload_n 0, 1) := dk_42 (dk_at dksX4_text_9 19 rfl rfl)
theorem dX4_text_230 : decode cX4_text 230 = .ok (.getfield 143, 3) := dk_180 0 143 (dk_at dksX4_text_9 20 rfl rfl)
theorem dX4_text_233 : decode cX4_text 233 = .ok (.bipush 108, 2) := dk_16 108 (dk_at dksX4_text_10 0 rfl rfl)
theorem dX4_text_235 : decode cX4_text 235 = .ok (.if_icmp .ne 7, 3) := dk_160 0 7 (dk_at dksX4_text_10 2 rfl rfl)
theorem dX4_text_238 : decode cX4_text 238 = .ok (.iconst 0, 1) := dk_3 (dk_at dksX4_text_10 5 rfl rfl)
theorem dX4_text_239 : decode cX4_text 239 = .ok (.goto 21, 3) := dk_167 0 21 (dk_at dksX4_text_10 6 rfl rfl)
theorem dX4_text_242 : decode cX4_text 242 = .ok (.aload_n 0, 1) := dk_42 (dk_at dksX4_text_10 9 rfl rfl)
theorem dX4_text_243 : decode cX4_text 243 = .ok (.getfield 143, 3) := dk_180 0 143 (dk_at dksX4_text_10 10 rfl rfl)
theorem dX4_text_246 : decode cX4_text 246 = .ok (.bipush 99, 2) := dk_16 99 (dk_at dksX4_text_10 13 rfl rfl)
theorem dX4_text_248 : decode cX4_text 248 = .ok (.if_icmp .ne 10, 3) := dk_160 0 10 (dk_at dksX4_text_10 15 rfl rfl)
theorem dX4_text_251 : decode cX4_text 251 = .ok (.iload 13, 2) := dk_21 13 (dk_at dksX4_text_10 18 rfl rfl)
theorem dX4_text_253 : decode cX4_text 253 = .ok (.iconst 2, 1) := dk_5 (dk_at dksX4_text_10 20 rfl rfl)
theorem dX4_text_254 : decode cX4_text 254 = .ok (.idiv, 1) := dk_108 (dk_at dksX4_text_10 21 rfl rfl)
theorem dX4_text_255 : decode cX4_text 255 = .ok (.goto 5, 3) := dk_167 0 5 (dk_at dksX4_text_11 0 rfl rfl)
theorem dX4_text_258 : decode cX4_text 258 = .ok (.iload 13, 2) := dk_21 13 (dk_at dksX4_text_11 3 rfl rfl)
theorem dX4_text_260 : decode cX4_text 260 = .ok (.istore 14, 2) := dk_54 14 (dk_at dksX4_text_11 5 rfl rfl)
theorem dX4_text_262 : decode cX4_text 262 = .ok (.aload_n 0, 1) := dk_42 (dk_at dksX4_text_11 7 rfl rfl)
theorem dX4_text_263 : decode cX4_text 263 = .ok (.getfield 304, 3) := dk_180 1 48 (dk_at dksX4_text_11 8 rfl rfl)
theorem dX4_text_266 : decode cX4_text 266 = .ok (.new 310, 3) := dk_187 1 54 (dk_at dksX4_text_11 11 rfl rfl)
theorem dX4_text_269 : decode cX4_text 269 = .ok (.dup, 1) := dk_89 (dk_at dksX4_text_11 14 rfl rfl)
theorem dX4_text_270 : decode cX4_text 270 = .ok (.iload 12, 2) := dk_21 12 (dk_at dksX4_text_11 15 rfl rfl)
theorem dX4_text_272 : decode cX4_text 272 = .ok (.iload 9, 2) := dk_21 9 (dk_at dksX4_text_11 17 rfl rfl)
theorem dX4_text_274 : decode cX4_text 274 = .ok (.iload 14, 2) := dk_21 14 (dk_at dksX4_text_11 19 rfl rfl)
theorem dX4_text_276 : decode cX4_text 276 = .ok (.iadd, 1) := dk_96 (dk_at dksX4_text_11 21 rfl rfl)
theorem dX4_text_277 : decode cX4_text 277 = .ok (.iload_n 1, 1) := dk_27 (dk_at dksX4_text_11 22 rfl rfl)
theorem dX4_text_278 : decode cX4_text 278 = .ok (.isub, 1) := dk_100 (dk_at dksX4_text_11 23 rfl rfl)
theorem dX4_text_279 : decode cX4_text 279 = .ok (.iload 6, 2) := dk_21 6 (dk_at dksX4_text_12 0 rfl rfl)
theorem dX4_text_281 : decode cX4_text 281 = .ok (.iload_n 2, 1) := dk_28 (dk_at dksX4_text_12 2 rfl rfl)
theorem dX4_text_282 : decode cX4_text 282 = .ok (.isub, 1) := dk_100 (dk_at dksX4_text_12 3 rfl rfl)
theorem dX4_text_283 : decode cX4_text 283 = .ok (.invokespecial 312, 3) := dk_183 1 56 (dk_at dksX4_text_12 4 rfl rfl)
theorem dX4_text_286 : decode cX4_text 286 = .ok (.invokevirtual 35, 3) := dk_182 0 35 (dk_at dksX4_text_12 7 rfl rfl)
theorem dX4_text_289 : decode cX4_text 289 = .ok (.pop, 1) := dk_87 (dk_at dksX4_text_12 10 rfl rfl)
theorem dX4_text_290 : decode cX4_text 290 = .ok (.iload 8, 2) := dk_21 8 (dk_at dksX4_text_12 11 rfl rfl)
theorem dX4_text_292 : decode cX4_text 292 = .ok (.iload 12, 2) := dk_21 12 (dk_at dksX4_text_12 13 rfl rfl)
theorem dX4_text_294 : decode cX4_text 294 = .ok (.iadd, 1) := dk_96 (dk_at dksX4_text_12 15 rfl rfl)
theorem dX4_text_295 : decode cX4_text 295 = .ok (.istore 8, 2) := dk_54 8 (dk_at dksX4_text_12 16 rfl rfl)
theorem dX4_text_297 : decode cX4_text 297 = .ok (.iinc 6 10, 3) := dk_132 6 10 (dk_at dksX4_text_12 18 rfl rfl)
theorem dX4_text_300 : decode cX4_text 300 = .ok (.iload 6, 2) := dk_21 6 (dk_at dksX4_text_12 21 rfl rfl)
theorem dX4_text_302 : decode cX4_text 302 = .ok (.istore 7, 2) := dk_54 7 (dk_at dksX4_text_13 0 rfl rfl)
theorem dX4_text_304 : decode cX4_text 304 = .ok (.goto (-265), 3) := dk_167 254 247 (dk_at dksX4_text_13 2 rfl rfl)
theorem dX4_text_307 : decode cX4_text 307 = .ok (.iload 7, 2) := dk_21 7 (dk_at dksX4_text_13 5 rfl rfl)
theorem dX4_text_309 : decode cX4_text 309 = .ok (.iload_n 2, 1) := dk_28 (dk_at dksX4_text_13 7 rfl rfl)
theorem dX4_text_310 : decode cX4_text 310 = .ok (.isub, 1) := dk_100 (dk_at dksX4_text_13 8 rfl rfl)
theorem dX4_text_311 : decode cX4_text 311 = .ok (.aload_n 0, 1) := dk_42 (dk_at dksX4_text_13 9 rfl rfl)
theorem dX4_text_312 : decode cX4_text 312 = .ok (.getfield 110, 3) := dk_180 0 110 (dk_at dksX4_text_13 10 rfl rfl)
theorem dX4_text_315 : decode cX4_text 315 = .ok (.iadd, 1) := dk_96 (dk_at dksX4_text_13 13 rfl rfl)
theorem dX4_text_316 : decode cX4_text 316 = .ok (.ireturn, 1) := dk_172 (dk_at dksX4_text_13 14 rfl rfl)
abbrev cX4_row : ByteArray := prog_14_method_41_code
def yX4_row : MethodName := ⟨RX4, "row", "(LColumnarPressModel$Box;Z)I"⟩
def dkwX4_row_9 : List UInt8 := [180, 0, 110, 104, 96, 172]
abbrev dktX4_row_9 : List UInt8 := dkwX4_row_9 ++ []
def dkwX4_row_8 : List UInt8 := [21, 8, 25, 10, 180, 0, 202, 25, 10, 182, 0, 176, 96, 96, 54, 8, 167, 255, 190, 21, 7, 5, 43]
abbrev dktX4_row_8 : List UInt8 := dkwX4_row_8 ++ dktX4_row_9
def dkwX4_row_7 : List UInt8 := [25, 10, 180, 0, 104, 96, 181, 0, 247, 25, 10, 43, 180, 0, 110, 25, 10, 182, 1, 23, 96, 181, 0, 250]
abbrev dktX4_row_7 : List UInt8 := dkwX4_row_7 ++ dktX4_row_8
def dkwX4_row_6 : List UInt8 := [185, 0, 150, 1, 0, 153, 0, 62, 25, 9, 185, 0, 156, 1, 0, 192, 0, 30, 58, 10, 25, 10, 21, 8]
abbrev dktX4_row_6 : List UInt8 := dkwX4_row_6 ++ dktX4_row_7
def dkwX4_row_5 : List UInt8 := [3, 25, 4, 190, 28, 182, 1, 75, 54, 7, 43, 180, 0, 110, 54, 8, 45, 182, 0, 146, 58, 9, 25, 9]
abbrev dktX4_row_5 : List UInt8 := dkwX4_row_5 ++ dktX4_row_6
def dkwX4_row_4 : List UInt8 := [156, 0, 16, 45, 25, 4, 43, 184, 0, 232, 184, 1, 72, 167, 0, 5, 25, 4, 58, 6, 42, 45, 25, 6]
abbrev dktX4_row_4 : List UInt8 := dkwX4_row_4 ++ dktX4_row_5
def dkwX4_row_3 : List UInt8 := [132, 6, 1, 167, 255, 204, 21, 5, 158, 0, 14, 45, 25, 4, 21, 5, 184, 1, 68, 167, 0, 23, 21, 5]
abbrev dktX4_row_3 : List UInt8 := dkwX4_row_3 ++ dktX4_row_4
def dkwX4_row_2 : List UInt8 := [21, 5, 25, 4, 21, 6, 46, 45, 21, 6, 182, 0, 58, 192, 0, 30, 182, 0, 176, 96, 100, 54, 5]
abbrev dktX4_row_2 : List UInt8 := dkwX4_row_2 ++ dktX4_row_3
def dkwX4_row_1 : List UInt8 := [25, 4, 190, 162, 0, 50, 25, 4, 21, 6, 45, 21, 6, 182, 0, 58, 192, 0, 30, 3, 184, 0, 172, 79]
abbrev dktX4_row_1 : List UInt8 := dkwX4_row_1 ++ dktX4_row_2
def dkwX4_row_0 : List UInt8 := [43, 184, 1, 64, 78, 45, 182, 0, 39, 188, 10, 58, 4, 43, 184, 0, 232, 54, 5, 3, 54, 6, 21, 6]
abbrev dktX4_row_0 : List UInt8 := dkwX4_row_0 ++ dktX4_row_1
theorem dksX4_row_0 : cX4_row.data.toList.drop 0 = dktX4_row_0 := by decide +kernel
theorem dksX4_row_1 : cX4_row.data.toList.drop 24 = dktX4_row_1 := dk_seg dksX4_row_0 24 rfl rfl
theorem dksX4_row_2 : cX4_row.data.toList.drop 48 = dktX4_row_2 := dk_seg dksX4_row_1 24 rfl rfl
theorem dksX4_row_3 : cX4_row.data.toList.drop 71 = dktX4_row_3 := dk_seg dksX4_row_2 23 rfl rfl
theorem dksX4_row_4 : cX4_row.data.toList.drop 95 = dktX4_row_4 := dk_seg dksX4_row_3 24 rfl rfl
theorem dksX4_row_5 : cX4_row.data.toList.drop 119 = dktX4_row_5 := dk_seg dksX4_row_4 24 rfl rfl
theorem dksX4_row_6 : cX4_row.data.toList.drop 143 = dktX4_row_6 := dk_seg dksX4_row_5 24 rfl rfl
theorem dksX4_row_7 : cX4_row.data.toList.drop 167 = dktX4_row_7 := dk_seg dksX4_row_6 24 rfl rfl
theorem dksX4_row_8 : cX4_row.data.toList.drop 191 = dktX4_row_8 := dk_seg dksX4_row_7 24 rfl rfl
theorem dksX4_row_9 : cX4_row.data.toList.drop 214 = dktX4_row_9 := dk_seg dksX4_row_8 23 rfl rfl
theorem dX4_row_0 : decode cX4_row 0 = .ok (.aload_n 1, 1) := dk_43 (dk_at dksX4_row_0 0 rfl rfl)
theorem dX4_row_1 : decode cX4_row 1 = .ok (.invokestatic 320, 3) := dk_184 1 64 (dk_at dksX4_row_0 1 rfl rfl)
theorem dX4_row_4 : decode cX4_row 4 = .ok (.astore_n 3, 1) := dk_78 (dk_at dksX4_row_0 4 rfl rfl)
theorem dX4_row_5 : decode cX4_row 5 = .ok (.aload_n 3, 1) := dk_45 (dk_at dksX4_row_0 5 rfl rfl)
theorem dX4_row_6 : decode cX4_row 6 = .ok (.invokevirtual 39, 3) := dk_182 0 39 (dk_at dksX4_row_0 6 rfl rfl)
theorem dX4_row_9 : decode cX4_row 9 = .ok (.newarray .int, 2) := dk_188_10 (dk_at dksX4_row_0 9 rfl rfl)
theorem dX4_row_11 : decode cX4_row 11 = .ok (.astore 4, 2) := dk_58 4 (dk_at dksX4_row_0 11 rfl rfl)
theorem dX4_row_13 : decode cX4_row 13 = .ok (.aload_n 1, 1) := dk_43 (dk_at dksX4_row_0 13 rfl rfl)
theorem dX4_row_14 : decode cX4_row 14 = .ok (.invokestatic 232, 3) := dk_184 0 232 (dk_at dksX4_row_0 14 rfl rfl)
theorem dX4_row_17 : decode cX4_row 17 = .ok (.istore 5, 2) := dk_54 5 (dk_at dksX4_row_0 17 rfl rfl)
theorem dX4_row_19 : decode cX4_row 19 = .ok (.iconst 0, 1) := dk_3 (dk_at dksX4_row_0 19 rfl rfl)
theorem dX4_row_20 : decode cX4_row 20 = .ok (.istore 6, 2) := dk_54 6 (dk_at dksX4_row_0 20 rfl rfl)
theorem dX4_row_22 : decode cX4_row 22 = .ok (.iload 6, 2) := dk_21 6 (dk_at dksX4_row_0 22 rfl rfl)
theorem dX4_row_24 : decode cX4_row 24 = .ok (.aload 4, 2) := dk_25 4 (dk_at dksX4_row_1 0 rfl rfl)
theorem dX4_row_26 : decode cX4_row 26 = .ok (.arraylength, 1) := dk_190 (dk_at dksX4_row_1 2 rfl rfl)
theorem dX4_row_27 : decode cX4_row 27 = .ok (.if_icmp .ge 50, 3) := dk_162 0 50 (dk_at dksX4_row_1 3 rfl rfl)
theorem dX4_row_30 : decode cX4_row 30 = .ok (.aload 4, 2) := dk_25 4 (dk_at dksX4_row_1 6 rfl rfl)
theorem dX4_row_32 : decode cX4_row 32 = .ok (.iload 6, 2) := dk_21 6 (dk_at dksX4_row_1 8 rfl rfl)
theorem dX4_row_34 : decode cX4_row 34 = .ok (.aload_n 3, 1) := dk_45 (dk_at dksX4_row_1 10 rfl rfl)
theorem dX4_row_35 : decode cX4_row 35 = .ok (.iload 6, 2) := dk_21 6 (dk_at dksX4_row_1 11 rfl rfl)
theorem dX4_row_37 : decode cX4_row 37 = .ok (.invokevirtual 58, 3) := dk_182 0 58 (dk_at dksX4_row_1 13 rfl rfl)
theorem dX4_row_40 : decode cX4_row 40 = .ok (.checkcast 30, 3) := dk_192 0 30 (dk_at dksX4_row_1 16 rfl rfl)
theorem dX4_row_43 : decode cX4_row 43 = .ok (.iconst 0, 1) := dk_3 (dk_at dksX4_row_1 19 rfl rfl)
theorem dX4_row_44 : decode cX4_row 44 = .ok (.invokestatic 172, 3) := dk_184 0 172 (dk_at dksX4_row_1 20 rfl rfl)
theorem dX4_row_47 : decode cX4_row 47 = .ok (.iastore, 1) := dk_79 (dk_at dksX4_row_1 23 rfl rfl)
theorem dX4_row_48 : decode cX4_row 48 = .ok (.iload 5, 2) := dk_21 5 (dk_at dksX4_row_2 0 rfl rfl)
theorem dX4_row_50 : decode cX4_row 50 = .ok (.aload 4, 2) := dk_25 4 (dk_at dksX4_row_2 2 rfl rfl)
theorem dX4_row_52 : decode cX4_row 52 = .ok (.iload 6, 2) := dk_21 6 (dk_at dksX4_row_2 4 rfl rfl)
theorem dX4_row_54 : decode cX4_row 54 = .ok (.iaload, 1) := dk_46 (dk_at dksX4_row_2 6 rfl rfl)
theorem dX4_row_55 : decode cX4_row 55 = .ok (.aload_n 3, 1) := dk_45 (dk_at dksX4_row_2 7 rfl rfl)
theorem dX4_row_56 : decode cX4_row 56 = .ok (.iload 6, 2) := dk_21 6 (dk_at dksX4_row_2 8 rfl rfl)
theorem dX4_row_58 : decode cX4_row 58 = .ok (.invokevirtual 58, 3) := dk_182 0 58 (dk_at dksX4_row_2 10 rfl rfl)
theorem dX4_row_61 : decode cX4_row 61 = .ok (.checkcast 30, 3) := dk_192 0 30 (dk_at dksX4_row_2 13 rfl rfl)
theorem dX4_row_64 : decode cX4_row 64 = .ok (.invokevirtual 176, 3) := dk_182 0 176 (dk_at dksX4_row_2 16 rfl rfl)
theorem dX4_row_67 : decode cX4_row 67 = .ok (.iadd, 1) := dk_96 (dk_at dksX4_row_2 19 rfl rfl)
theorem dX4_row_68 : decode cX4_row 68 = .ok (.isub, 1) := dk_100 (dk_at dksX4_row_2 20 rfl rfl)
theorem dX4_row_69 : decode cX4_row 69 = .ok (.istore 5, 2) := dk_54 5 (dk_at dksX4_row_2 21 rfl rfl)
theorem dX4_row_71 : decode cX4_row 71 = .ok (.iinc 6 1, 3) := dk_132 6 1 (dk_at dksX4_row_3 0 rfl rfl)
theorem dX4_row_74 : decode cX4_row 74 = .ok (.goto (-52), 3) := dk_167 255 204 (dk_at dksX4_row_3 3 rfl rfl)
theorem dX4_row_77 : decode cX4_row 77 = .ok (.iload 5, 2) := dk_21 5 (dk_at dksX4_row_3 6 rfl rfl)
theorem dX4_row_79 : decode cX4_row 79 = .ok (.ifCond .le 14, 3) := dk_158 0 14 (dk_at dksX4_row_3 8 rfl rfl)
theorem dX4_row_82 : decode cX4_row 82 = .ok (.aload_n 3, 1) := dk_45 (dk_at dksX4_row_3 11 rfl rfl)
theorem dX4_row_83 : decode cX4_row 83 = .ok (.aload 4, 2) := dk_25 4 (dk_at dksX4_row_3 12 rfl rfl)
theorem dX4_row_85 : decode cX4_row 85 = .ok (.iload 5, 2) := dk_21 5 (dk_at dksX4_row_3 14 rfl rfl)
theorem dX4_row_87 : decode cX4_row 87 = .ok (.invokestatic 324, 3) := dk_184 1 68 (dk_at dksX4_row_3 16 rfl rfl)
theorem dX4_row_90 : decode cX4_row 90 = .ok (.goto 23, 3) := dk_167 0 23 (dk_at dksX4_row_3 19 rfl rfl)
theorem dX4_row_93 : decode cX4_row 93 = .ok (.iload 5, 2) := dk_21 5 (dk_at dksX4_row_3 22 rfl rfl)
theorem dX4_row_95 : decode cX4_row 95 = .ok (.ifCond .ge 16, 3) := dk_156 0 16 (dk_at dksX4_row_4 0 rfl rfl)
theorem dX4_row_98 : decode cX4_row 98 = .ok (.aload_n 3, 1) := dk_45 (dk_at dksX4_row_4 3 rfl rfl)
theorem dX4_row_99 : decode cX4_row 99 = .ok (.aload 4, 2) := dk_25 4 (dk_at dksX4_row_4 4 rfl rfl)
theorem dX4_row_101 : decode cX4_row 101 = .ok (.aload_n 1, 1) := dk_43 (dk_at dksX4_row_4 6 rfl rfl)
theorem dX4_row_102 : decode cX4_row 102 = .ok (.invokestatic 232, 3) := dk_184 0 232 (dk_at dksX4_row_4 7 rfl rfl)
theorem dX4_row_105 : decode cX4_row 105 = .ok (.invokestatic 328, 3) := dk_184 1 72 (dk_at dksX4_row_4 10 rfl rfl)
theorem dX4_row_108 : decode cX4_row 108 = .ok (.goto 5, 3) := dk_167 0 5 (dk_at dksX4_row_4 13 rfl rfl)
theorem dX4_row_111 : decode cX4_row 111 = .ok (.aload 4, 2) := dk_25 4 (dk_at dksX4_row_4 16 rfl rfl)
theorem dX4_row_113 : decode cX4_row 113 = .ok (.astore 6, 2) := dk_58 6 (dk_at dksX4_row_4 18 rfl rfl)
theorem dX4_row_115 : decode cX4_row 115 = .ok (.aload_n 0, 1) := dk_42 (dk_at dksX4_row_4 20 rfl rfl)
theorem dX4_row_116 : decode cX4_row 116 = .ok (.aload_n 3, 1) := dk_45 (dk_at dksX4_row_4 21 rfl rfl)
theorem dX4_row_117 : decode cX4_row 117 = .ok (.aload 6, 2) := dk_25 6 (dk_at dksX4_row_4 22 rfl rfl)
theorem dX4_row_119 : decode cX4_row 119 = .ok (.iconst 0, 1) := dk_3 (dk_at dksX4_row_5 0 rfl rfl)
theorem dX4_row_120 : decode cX4_row 120 = .ok (.aload 4, 2) := dk_25 4 (dk_at dksX4_row_5 1 rfl rfl)
theorem dX4_row_122 : decode cX4_row 122 = .ok (.arraylength, 1) := dk_190 (dk_at dksX4_row_5 3 rfl rfl)
theorem dX4_row_123 : decode cX4_row 123 = .ok (.iload_n 2, 1) := dk_28 (dk_at dksX4_row_5 4 rfl rfl)
theorem dX4_row_124 : decode cX4_row 124 = .ok (.invokevirtual 331, 3) := dk_182 1 75 (dk_at dksX4_row_5 5 rfl rfl)
theorem dX4_row_127 : decode cX4_row 127 = .ok (.istore 7, 2) := dk_54 7 (dk_at dksX4_row_5 8 rfl rfl)
theorem dX4_row_129 : decode cX4_row 129 = .ok (.aload_n 1, 1) := dk_43 (dk_at dksX4_row_5 10 rfl rfl)
theorem dX4_row_130 : decode cX4_row 130 = .ok (.getfield 110, 3) := dk_180 0 110 (dk_at dksX4_row_5 11 rfl rfl)
theorem dX4_row_133 : decode cX4_row 133 = .ok (.istore 8, 2) := dk_54 8 (dk_at dksX4_row_5 14 rfl rfl)
theorem dX4_row_135 : decode cX4_row 135 = .ok (.aload_n 3, 1) := dk_45 (dk_at dksX4_row_5 16 rfl rfl)
theorem dX4_row_136 : decode cX4_row 136 = .ok (.invokevirtual 146, 3) := dk_182 0 146 (dk_at dksX4_row_5 17 rfl rfl)
theorem dX4_row_139 : decode cX4_row 139 = .ok (.astore 9, 2) := dk_58 9 (dk_at dksX4_row_5 20 rfl rfl)
theorem dX4_row_141 : decode cX4_row 141 = .ok (.aload 9, 2) := dk_25 9 (dk_at dksX4_row_5 22 rfl rfl)
theorem dX4_row_143 : decode cX4_row 143 = .ok (.invokeinterface 150 1, 5) := by decide +kernel
theorem dX4_row_148 : decode cX4_row 148 = .ok (.ifCond .eq 62, 3) := dk_153 0 62 (dk_at dksX4_row_6 5 rfl rfl)
theorem dX4_row_151 : decode cX4_row 151 = .ok (.aload 9, 2) := dk_25 9 (dk_at dksX4_row_6 8 rfl rfl)
theorem dX4_row_153 : decode cX4_row 153 = .ok (.invokeinterface 156 1, 5) := by decide +kernel
theorem dX4_row_158 : decode cX4_row 158 = .ok (.checkcast 30, 3) := dk_192 0 30 (dk_at dksX4_row_6 15 rfl rfl)
theorem dX4_row_161 : decode cX4_row 161 = .ok (.astore 10, 2) := dk_58 10 (dk_at dksX4_row_6 18 rfl rfl)
theorem dX4_row_163 : decode cX4_row 163 = .ok (.aload 10, 2) := dk_25 10 (dk_at dksX4_row_6 20 rfl rfl)
theorem dX4_row_165 : decode cX4_row 165 = .ok (.iload 8, 2) := dk_21 8 (dk_at dksX4_row_6 22 rfl rfl)
theorem dX4_row_167 : decode cX4_row 167 = .ok (.aload 10, 2) := dk_25 10 (dk_at dksX4_row_7 0 rfl rfl)
theorem dX4_row_169 : decode cX4_row 169 = .ok (.getfield 104, 3) := dk_180 0 104 (dk_at dksX4_row_7 2 rfl rfl)
theorem dX4_row_172 : decode cX4_row 172 = .ok (.iadd, 1) := dk_96 (dk_at dksX4_row_7 5 rfl rfl)
theorem dX4_row_173 : decode cX4_row 173 = .ok (.putfield 247, 3) := dk_181 0 247 (dk_at dksX4_row_7 6 rfl rfl)
theorem dX4_row_176 : decode cX4_row 176 = .ok (.aload 10, 2) := dk_25 10 (dk_at dksX4_row_7 9 rfl rfl)
theorem dX4_row_178 : decode cX4_row 178 = .ok (.aload_n 1, 1) := dk_43 (dk_at dksX4_row_7 11 rfl rfl)
theorem dX4_row_179 : decode cX4_row 179 = .ok (.getfield 110, 3) := dk_180 0 110 (dk_at dksX4_row_7 12 rfl rfl)
theorem dX4_row_182 : decode cX4_row 182 = .ok (.aload 10, 2) := dk_25 10 (dk_at dksX4_row_7 15 rfl rfl)
theorem dX4_row_184 : decode cX4_row 184 = .ok (.invokevirtual 279, 3) := dk_182 1 23 (dk_at dksX4_row_7 17 rfl rfl)
theorem dX4_row_187 : decode cX4_row 187 = .ok (.iadd, 1) := dk_96 (dk_at dksX4_row_7 20 rfl rfl)
theorem dX4_row_188 : decode cX4_row 188 = .ok (.putfield 250, 3) := dk_181 0 250 (dk_at dksX4_row_7 21 rfl rfl)
theorem dX4_row_191 : decode cX4_row 191 = .ok (.iload 8, 2) := dk_21 8 (dk_at dksX4_row_8 0 rfl rfl)
theorem dX4_row_193 : decode cX4_row 193 = .ok (.aload 10, 2) := dk_25 10 (dk_at dksX4_row_8 2 rfl rfl)
theorem dX4_row_195 : decode cX4_row 195 = .ok (.getfield 202, 3) := dk_180 0 202 (dk_at dksX4_row_8 4 rfl rfl)
theorem dX4_row_198 : decode cX4_row 198 = .ok (.aload 10, 2) := dk_25 10 (dk_at dksX4_row_8 7 rfl rfl)
theorem dX4_row_200 : decode cX4_row 200 = .ok (.invokevirtual 176, 3) := dk_182 0 176 (dk_at dksX4_row_8 9 rfl rfl)
theorem dX4_row_203 : decode cX4_row 203 = .ok (.iadd, 1) := dk_96 (dk_at dksX4_row_8 12 rfl rfl)
theorem dX4_row_204 : decode cX4_row 204 = .ok (.iadd, 1) := dk_96 (dk_at dksX4_row_8 13 rfl rfl)
theorem dX4_row_205 : decode cX4_row 205 = .ok (.istore 8, 2) := dk_54 8 (dk_at dksX4_row_8 14 rfl rfl)
theorem dX4_row_207 : decode cX4_row 207 = .ok (.goto (-66), 3) := dk_167 255 190 (dk_at dksX4_row_8 16 rfl rfl)
theorem dX4_row_210 : decode cX4_row 210 = .ok (.iload 7, 2) := dk_21 7 (dk_at dksX4_row_8 19 rfl rfl)
theorem dX4_row_212 : decode cX4_row 212 = .ok (.iconst 2, 1) := dk_5 (dk_at dksX4_row_8 21 rfl rfl)
theorem dX4_row_213 : decode cX4_row 213 = .ok (.aload_n 1, 1) := dk_43 (dk_at dksX4_row_8 22 rfl rfl)
theorem dX4_row_214 : decode cX4_row 214 = .ok (.getfield 110, 3) := dk_180 0 110 (dk_at dksX4_row_9 0 rfl rfl)
theorem dX4_row_217 : decode cX4_row 217 = .ok (.imul, 1) := dk_104 (dk_at dksX4_row_9 3 rfl rfl)
theorem dX4_row_218 : decode cX4_row 218 = .ok (.iadd, 1) := dk_96 (dk_at dksX4_row_9 4 rfl rfl)
theorem dX4_row_219 : decode cX4_row 219 = .ok (.ireturn, 1) := dk_172 (dk_at dksX4_row_9 5 rfl rfl)
abbrev cX4_items : ByteArray := prog_14_method_37_code
def yX4_items : MethodName := ⟨RX4, "items", "(LColumnarPressModel$Box;)Ljava/util/ArrayList;"⟩
def dkwX4_items_2 : List UInt8 := [182, 0, 35, 87, 167, 255, 224, 43, 176]
abbrev dktX4_items_2 : List UInt8 := dkwX4_items_2 ++ []
def dkwX4_items_1 : List UInt8 := [153, 0, 29, 44, 185, 0, 156, 1, 0, 192, 0, 30, 78, 45, 182, 0, 169, 154, 0, 9, 43, 45]
abbrev dktX4_items_1 : List UInt8 := dkwX4_items_1 ++ dktX4_items_2
def dkwX4_items_0 : List UInt8 := [187, 0, 7, 89, 183, 0, 9, 76, 42, 180, 0, 69, 182, 0, 146, 77, 44, 185, 0, 150, 1, 0]
abbrev dktX4_items_0 : List UInt8 := dkwX4_items_0 ++ dktX4_items_1
theorem dksX4_items_0 : cX4_items.data.toList.drop 0 = dktX4_items_0 := by decide +kernel
theorem dksX4_items_1 : cX4_items.data.toList.drop 22 = dktX4_items_1 := dk_seg dksX4_items_0 22 rfl rfl
theorem dksX4_items_2 : cX4_items.data.toList.drop 44 = dktX4_items_2 := dk_seg dksX4_items_1 22 rfl rfl
theorem dX4_items_0 : decode cX4_items 0 = .ok (.new 7, 3) := dk_187 0 7 (dk_at dksX4_items_0 0 rfl rfl)
theorem dX4_items_3 : decode cX4_items 3 = .ok (.dup, 1) := dk_89 (dk_at dksX4_items_0 3 rfl rfl)
theorem dX4_items_4 : decode cX4_items 4 = .ok (.invokespecial 9, 3) := dk_183 0 9 (dk_at dksX4_items_0 4 rfl rfl)
theorem dX4_items_7 : decode cX4_items 7 = .ok (.astore_n 1, 1) := dk_76 (dk_at dksX4_items_0 7 rfl rfl)
theorem dX4_items_8 : decode cX4_items 8 = .ok (.aload_n 0, 1) := dk_42 (dk_at dksX4_items_0 8 rfl rfl)
theorem dX4_items_9 : decode cX4_items 9 = .ok (.getfield 69, 3) := dk_180 0 69 (dk_at dksX4_items_0 9 rfl rfl)
theorem dX4_items_12 : decode cX4_items 12 = .ok (.invokevirtual 146, 3) := dk_182 0 146 (dk_at dksX4_items_0 12 rfl rfl)
theorem dX4_items_15 : decode cX4_items 15 = .ok (.astore_n 2, 1) := dk_77 (dk_at dksX4_items_0 15 rfl rfl)
theorem dX4_items_16 : decode cX4_items 16 = .ok (.aload_n 2, 1) := dk_44 (dk_at dksX4_items_0 16 rfl rfl)
theorem dX4_items_17 : decode cX4_items 17 = .ok (.invokeinterface 150 1, 5) := by decide +kernel
theorem dX4_items_22 : decode cX4_items 22 = .ok (.ifCond .eq 29, 3) := dk_153 0 29 (dk_at dksX4_items_1 0 rfl rfl)
theorem dX4_items_25 : decode cX4_items 25 = .ok (.aload_n 2, 1) := dk_44 (dk_at dksX4_items_1 3 rfl rfl)
theorem dX4_items_26 : decode cX4_items 26 = .ok (.invokeinterface 156 1, 5) := by decide +kernel
theorem dX4_items_31 : decode cX4_items 31 = .ok (.checkcast 30, 3) := dk_192 0 30 (dk_at dksX4_items_1 9 rfl rfl)
theorem dX4_items_34 : decode cX4_items 34 = .ok (.astore_n 3, 1) := dk_78 (dk_at dksX4_items_1 12 rfl rfl)
theorem dX4_items_35 : decode cX4_items 35 = .ok (.aload_n 3, 1) := dk_45 (dk_at dksX4_items_1 13 rfl rfl)
theorem dX4_items_36 : decode cX4_items 36 = .ok (.invokevirtual 169, 3) := dk_182 0 169 (dk_at dksX4_items_1 14 rfl rfl)
theorem dX4_items_39 : decode cX4_items 39 = .ok (.ifCond .ne 9, 3) := dk_154 0 9 (dk_at dksX4_items_1 17 rfl rfl)
theorem dX4_items_42 : decode cX4_items 42 = .ok (.aload_n 1, 1) := dk_43 (dk_at dksX4_items_1 20 rfl rfl)
theorem dX4_items_43 : decode cX4_items 43 = .ok (.aload_n 3, 1) := dk_45 (dk_at dksX4_items_1 21 rfl rfl)
theorem dX4_items_44 : decode cX4_items 44 = .ok (.invokevirtual 35, 3) := dk_182 0 35 (dk_at dksX4_items_2 0 rfl rfl)
theorem dX4_items_47 : decode cX4_items 47 = .ok (.pop, 1) := dk_87 (dk_at dksX4_items_2 3 rfl rfl)
theorem dX4_items_48 : decode cX4_items 48 = .ok (.goto (-32), 3) := dk_167 255 224 (dk_at dksX4_items_2 4 rfl rfl)
theorem dX4_items_51 : decode cX4_items 51 = .ok (.aload_n 1, 1) := dk_43 (dk_at dksX4_items_2 7 rfl rfl)
theorem dX4_items_52 : decode cX4_items 52 = .ok (.areturn, 1) := dk_176 (dk_at dksX4_items_2 8 rfl rfl)
abbrev cX4_grown : ByteArray := prog_14_method_38_code
def yX4_grown : MethodName := ⟨RX4, "grown", "(Ljava/util/List;[II)[I"⟩
def dkwX4_grown_8 : List UInt8 := [25, 4, 176]
abbrev dktX4_grown_8 : List UInt8 := dkwX4_grown_8 ++ []
def dkwX4_grown_7 : List UInt8 := [154, 0, 6, 167, 0, 15, 25, 4, 21, 6, 92, 46, 4, 96, 79, 132, 5, 255, 132, 6, 1, 167, 255, 209]
abbrev dktX4_grown_7 : List UInt8 := dkwX4_grown_7 ++ dktX4_grown_8
def dkwX4_grown_6 : List UInt8 := [162, 0, 46, 21, 5, 158, 0, 41, 42, 21, 6, 185, 1, 30, 2, 0, 192, 0, 30, 180, 0, 113]
abbrev dktX4_grown_6 : List UInt8 := dkwX4_grown_6 ++ dktX4_grown_7
def dkwX4_grown_5 : List UInt8 := [180, 0, 113, 104, 29, 108, 100, 54, 5, 132, 6, 1, 167, 255, 197, 3, 54, 6, 21, 6, 43, 190]
abbrev dktX4_grown_5 : List UInt8 := dkwX4_grown_5 ++ dktX4_grown_6
def dkwX4_grown_4 : List UInt8 := [180, 0, 113, 104, 29, 108, 96, 79, 21, 5, 28, 42, 21, 6, 185, 1, 30, 2, 0, 192, 0, 30]
abbrev dktX4_grown_4 : List UInt8 := dkwX4_grown_4 ++ dktX4_grown_5
def dkwX4_grown_3 : List UInt8 := [190, 162, 0, 58, 25, 4, 21, 6, 92, 46, 28, 42, 21, 6, 185, 1, 30, 2, 0, 192, 0, 30]
abbrev dktX4_grown_3 : List UInt8 := dkwX4_grown_3 ++ dktX4_grown_4
def dkwX4_grown_2 : List UInt8 := [182, 1, 59, 192, 1, 60, 58, 4, 29, 154, 0, 6, 25, 4, 176, 28, 54, 5, 3, 54, 6, 21, 6, 43]
abbrev dktX4_grown_2 : List UInt8 := dkwX4_grown_2 ++ dktX4_grown_3
def dkwX4_grown_1 : List UInt8 := [185, 0, 156, 1, 0, 192, 0, 30, 58, 5, 29, 25, 5, 180, 0, 113, 96, 62, 167, 255, 226, 43]
abbrev dktX4_grown_1 : List UInt8 := dkwX4_grown_1 ++ dktX4_grown_2
def dkwX4_grown_0 : List UInt8 := [3, 62, 42, 185, 0, 192, 1, 0, 58, 4, 25, 4, 185, 0, 150, 1, 0, 153, 0, 26, 25, 4]
abbrev dktX4_grown_0 : List UInt8 := dkwX4_grown_0 ++ dktX4_grown_1
theorem dksX4_grown_0 : cX4_grown.data.toList.drop 0 = dktX4_grown_0 := by decide +kernel
theorem dksX4_grown_1 : cX4_grown.data.toList.drop 22 = dktX4_grown_1 := dk_seg dksX4_grown_0 22 rfl rfl
theorem dksX4_grown_2 : cX4_grown.data.toList.drop 44 = dktX4_grown_2 := dk_seg dksX4_grown_1 22 rfl rfl
theorem dksX4_grown_3 : cX4_grown.data.toList.drop 68 = dktX4_grown_3 := dk_seg dksX4_grown_2 24 rfl rfl
theorem dksX4_grown_4 : cX4_grown.data.toList.drop 90 = dktX4_grown_4 := dk_seg dksX4_grown_3 22 rfl rfl
theorem dksX4_grown_5 : cX4_grown.data.toList.drop 112 = dktX4_grown_5 := dk_seg dksX4_grown_4 22 rfl rfl
theorem dksX4_grown_6 : cX4_grown.data.toList.drop 134 = dktX4_grown_6 := dk_seg dksX4_grown_5 22 rfl rfl
theorem dksX4_grown_7 : cX4_grown.data.toList.drop 156 = dktX4_grown_7 := dk_seg dksX4_grown_6 22 rfl rfl
theorem dksX4_grown_8 : cX4_grown.data.toList.drop 180 = dktX4_grown_8 := dk_seg dksX4_grown_7 24 rfl rfl
theorem dX4_grown_0 : decode cX4_grown 0 = .ok (.iconst 0, 1) := dk_3 (dk_at dksX4_grown_0 0 rfl rfl)
theorem dX4_grown_1 : decode cX4_grown 1 = .ok (.istore_n 3, 1) := dk_62 (dk_at dksX4_grown_0 1 rfl rfl)
theorem dX4_grown_2 : decode cX4_grown 2 = .ok (.aload_n 0, 1) := dk_42 (dk_at dksX4_grown_0 2 rfl rfl)
theorem dX4_grown_3 : decode cX4_grown 3 = .ok (.invokeinterface 192 1, 5) := by decide +kernel
theorem dX4_grown_8 : decode cX4_grown 8 = .ok (.astore 4, 2) := dk_58 4 (dk_at dksX4_grown_0 8 rfl rfl)
theorem dX4_grown_10 : decode cX4_grown 10 = .ok (.aload 4, 2) := dk_25 4 (dk_at dksX4_grown_0 10 rfl rfl)
theorem dX4_grown_12 : decode cX4_grown 12 = .ok (.invokeinterface 150 1, 5) := by decide +kernel
theorem dX4_grown_17 : decode cX4_grown 17 = .ok (.ifCond .eq 26, 3) := dk_153 0 26 (dk_at dksX4_grown_0 17 rfl rfl)
theorem dX4_grown_20 : decode cX4_grown 20 = .ok (.aload 4, 2) := dk_25 4 (dk_at dksX4_grown_0 20 rfl rfl)
theorem dX4_grown_22 : decode cX4_grown 22 = .ok (.invokeinterface 156 1, 5) := by decide +kernel
theorem dX4_grown_27 : decode cX4_grown 27 = .ok (.checkcast 30, 3) := dk_192 0 30 (dk_at dksX4_grown_1 5 rfl rfl)
theorem dX4_grown_30 : decode cX4_grown 30 = .ok (.astore 5, 2) := dk_58 5 (dk_at dksX4_grown_1 8 rfl rfl)
theorem dX4_grown_32 : decode cX4_grown 32 = .ok (.iload_n 3, 1) := dk_29 (dk_at dksX4_grown_1 10 rfl rfl)
theorem dX4_grown_33 : decode cX4_grown 33 = .ok (.aload 5, 2) := dk_25 5 (dk_at dksX4_grown_1 11 rfl rfl)
theorem dX4_grown_35 : decode cX4_grown 35 = .ok (.getfield 113, 3) := dk_180 0 113 (dk_at dksX4_grown_1 13 rfl rfl)
theorem dX4_grown_38 : decode cX4_grown 38 = .ok (.iadd, 1) := dk_96 (dk_at dksX4_grown_1 16 rfl rfl)
theorem dX4_grown_39 : decode cX4_grown 39 = .ok (.istore_n 3, 1) := dk_62 (dk_at dksX4_grown_1 17 rfl rfl)
theorem dX4_grown_40 : decode cX4_grown 40 = .ok (.goto (-30), 3) := dk_167 255 226 (dk_at dksX4_grown_1 18 rfl rfl)
theorem dX4_grown_43 : decode cX4_grown 43 = .ok (.aload_n 1, 1) := dk_43 (dk_at dksX4_grown_1 21 rfl rfl)
theorem dX4_grown_44 : decode cX4_grown 44 = .ok (.invokevirtual 315, 3) := dk_182 1 59 (dk_at dksX4_grown_2 0 rfl rfl)
theorem dX4_grown_47 : decode cX4_grown 47 = .ok (.checkcast 316, 3) := dk_192 1 60 (dk_at dksX4_grown_2 3 rfl rfl)
theorem dX4_grown_50 : decode cX4_grown 50 = .ok (.astore 4, 2) := dk_58 4 (dk_at dksX4_grown_2 6 rfl rfl)
theorem dX4_grown_52 : decode cX4_grown 52 = .ok (.iload_n 3, 1) := dk_29 (dk_at dksX4_grown_2 8 rfl rfl)
theorem dX4_grown_53 : decode cX4_grown 53 = .ok (.ifCond .ne 6, 3) := dk_154 0 6 (dk_at dksX4_grown_2 9 rfl rfl)
theorem dX4_grown_56 : decode cX4_grown 56 = .ok (.aload 4, 2) := dk_25 4 (dk_at dksX4_grown_2 12 rfl rfl)
theorem dX4_grown_58 : decode cX4_grown 58 = .ok (.areturn, 1) := dk_176 (dk_at dksX4_grown_2 14 rfl rfl)
theorem dX4_grown_59 : decode cX4_grown 59 = .ok (.iload_n 2, 1) := dk_28 (dk_at dksX4_grown_2 15 rfl rfl)
theorem dX4_grown_60 : decode cX4_grown 60 = .ok (.istore 5, 2) := dk_54 5 (dk_at dksX4_grown_2 16 rfl rfl)
theorem dX4_grown_62 : decode cX4_grown 62 = .ok (.iconst 0, 1) := dk_3 (dk_at dksX4_grown_2 18 rfl rfl)
theorem dX4_grown_63 : decode cX4_grown 63 = .ok (.istore 6, 2) := dk_54 6 (dk_at dksX4_grown_2 19 rfl rfl)
theorem dX4_grown_65 : decode cX4_grown 65 = .ok (.iload 6, 2) := dk_21 6 (dk_at dksX4_grown_2 21 rfl rfl)
theorem dX4_grown_67 : decode cX4_grown 67 = .ok (.aload_n 1, 1) := dk_43 (dk_at dksX4_grown_2 23 rfl rfl)
theorem dX4_grown_68 : decode cX4_grown 68 = .ok (.arraylength, 1) := dk_190 (dk_at dksX4_grown_3 0 rfl rfl)
theorem dX4_grown_69 : decode cX4_grown 69 = .ok (.if_icmp .ge 58, 3) := dk_162 0 58 (dk_at dksX4_grown_3 1 rfl rfl)
theorem dX4_grown_72 : decode cX4_grown 72 = .ok (.aload 4, 2) := dk_25 4 (dk_at dksX4_grown_3 4 rfl rfl)
theorem dX4_grown_74 : decode cX4_grown 74 = .ok (.iload 6, 2) := dk_21 6 (dk_at dksX4_grown_3 6 rfl rfl)
theorem dX4_grown_76 : decode cX4_grown 76 = .ok (.dup2, 1) := dk_92 (dk_at dksX4_grown_3 8 rfl rfl)
theorem dX4_grown_77 : decode cX4_grown 77 = .ok (.iaload, 1) := dk_46 (dk_at dksX4_grown_3 9 rfl rfl)
theorem dX4_grown_78 : decode cX4_grown 78 = .ok (.iload_n 2, 1) := dk_28 (dk_at dksX4_grown_3 10 rfl rfl)
theorem dX4_grown_79 : decode cX4_grown 79 = .ok (.aload_n 0, 1) := dk_42 (dk_at dksX4_grown_3 11 rfl rfl)
theorem dX4_grown_80 : decode cX4_grown 80 = .ok (.iload 6, 2) := dk_21 6 (dk_at dksX4_grown_3 12 rfl rfl)
theorem dX4_grown_82 : decode cX4_grown 82 = .ok (.invokeinterface 286 2, 5) := by decide +kernel
theorem dX4_grown_87 : decode cX4_grown 87 = .ok (.checkcast 30, 3) := dk_192 0 30 (dk_at dksX4_grown_3 19 rfl rfl)
theorem dX4_grown_90 : decode cX4_grown 90 = .ok (.getfield 113, 3) := dk_180 0 113 (dk_at dksX4_grown_4 0 rfl rfl)
theorem dX4_grown_93 : decode cX4_grown 93 = .ok (.imul, 1) := dk_104 (dk_at dksX4_grown_4 3 rfl rfl)
theorem dX4_grown_94 : decode cX4_grown 94 = .ok (.iload_n 3, 1) := dk_29 (dk_at dksX4_grown_4 4 rfl rfl)
theorem dX4_grown_95 : decode cX4_grown 95 = .ok (.idiv, 1) := dk_108 (dk_at dksX4_grown_4 5 rfl rfl)
theorem dX4_grown_96 : decode cX4_grown 96 = .ok (.iadd, 1) := dk_96 (dk_at dksX4_grown_4 6 rfl rfl)
theorem dX4_grown_97 : decode cX4_grown 97 = .ok (.iastore, 1) := dk_79 (dk_at dksX4_grown_4 7 rfl rfl)
theorem dX4_grown_98 : decode cX4_grown 98 = .ok (.iload 5, 2) := dk_21 5 (dk_at dksX4_grown_4 8 rfl rfl)
theorem dX4_grown_100 : decode cX4_grown 100 = .ok (.iload_n 2, 1) := dk_28 (dk_at dksX4_grown_4 10 rfl rfl)
theorem dX4_grown_101 : decode cX4_grown 101 = .ok (.aload_n 0, 1) := dk_42 (dk_at dksX4_grown_4 11 rfl rfl)
theorem dX4_grown_102 : decode cX4_grown 102 = .ok (.iload 6, 2) := dk_21 6 (dk_at dksX4_grown_4 12 rfl rfl)
theorem dX4_grown_104 : decode cX4_grown 104 = .ok (.invokeinterface 286 2, 5) := by decide +kernel
theorem dX4_grown_109 : decode cX4_grown 109 = .ok (.checkcast 30, 3) := dk_192 0 30 (dk_at dksX4_grown_4 19 rfl rfl)
theorem dX4_grown_112 : decode cX4_grown 112 = .ok (.getfield 113, 3) := dk_180 0 113 (dk_at dksX4_grown_5 0 rfl rfl)
theorem dX4_grown_115 : decode cX4_grown 115 = .ok (.imul, 1) := dk_104 (dk_at dksX4_grown_5 3 rfl rfl)
theorem dX4_grown_116 : decode cX4_grown 116 = .ok (.iload_n 3, 1) := dk_29 (dk_at dksX4_grown_5 4 rfl rfl)
theorem dX4_grown_117 : decode cX4_grown 117 = .ok (.idiv, 1) := dk_108 (dk_at dksX4_grown_5 5 rfl rfl)
theorem dX4_grown_118 : decode cX4_grown 118 = .ok (.isub, 1) := dk_100 (dk_at dksX4_grown_5 6 rfl rfl)
theorem dX4_grown_119 : decode cX4_grown 119 = .ok (.istore 5, 2) := dk_54 5 (dk_at dksX4_grown_5 7 rfl rfl)
theorem dX4_grown_121 : decode cX4_grown 121 = .ok (.iinc 6 1, 3) := dk_132 6 1 (dk_at dksX4_grown_5 9 rfl rfl)
theorem dX4_grown_124 : decode cX4_grown 124 = .ok (.goto (-59), 3) := dk_167 255 197 (dk_at dksX4_grown_5 12 rfl rfl)
theorem dX4_grown_127 : decode cX4_grown 127 = .ok (.iconst 0, 1) := dk_3 (dk_at dksX4_grown_5 15 rfl rfl)
theorem dX4_grown_128 : decode cX4_grown 128 = .ok (.istore 6, 2) := dk_54 6 (dk_at dksX4_grown_5 16 rfl rfl)
theorem dX4_grown_130 : decode cX4_grown 130 = .ok (.iload 6, 2) := dk_21 6 (dk_at dksX4_grown_5 18 rfl rfl)
theorem dX4_grown_132 : decode cX4_grown 132 = .ok (.aload_n 1, 1) := dk_43 (dk_at dksX4_grown_5 20 rfl rfl)
theorem dX4_grown_133 : decode cX4_grown 133 = .ok (.arraylength, 1) := dk_190 (dk_at dksX4_grown_5 21 rfl rfl)
theorem dX4_grown_134 : decode cX4_grown 134 = .ok (.if_icmp .ge 46, 3) := dk_162 0 46 (dk_at dksX4_grown_6 0 rfl rfl)
theorem dX4_grown_137 : decode cX4_grown 137 = .ok (.iload 5, 2) := dk_21 5 (dk_at dksX4_grown_6 3 rfl rfl)
theorem dX4_grown_139 : decode cX4_grown 139 = .ok (.ifCond .le 41, 3) := dk_158 0 41 (dk_at dksX4_grown_6 5 rfl rfl)
theorem dX4_grown_142 : decode cX4_grown 142 = .ok (.aload_n 0, 1) := dk_42 (dk_at dksX4_grown_6 8 rfl rfl)
theorem dX4_grown_143 : decode cX4_grown 143 = .ok (.iload 6, 2) := dk_21 6 (dk_at dksX4_grown_6 9 rfl rfl)
theorem dX4_grown_145 : decode cX4_grown 145 = .ok (.invokeinterface 286 2, 5) := by decide +kernel
theorem dX4_grown_150 : decode cX4_grown 150 = .ok (.checkcast 30, 3) := dk_192 0 30 (dk_at dksX4_grown_6 16 rfl rfl)
theorem dX4_grown_153 : decode cX4_grown 153 = .ok (.getfield 113, 3) := dk_180 0 113 (dk_at dksX4_grown_6 19 rfl rfl)
theorem dX4_grown_156 : decode cX4_grown 156 = .ok (.ifCond .ne 6, 3) := dk_154 0 6 (dk_at dksX4_grown_7 0 rfl rfl)
theorem dX4_grown_159 : decode cX4_grown 159 = .ok (.goto 15, 3) := dk_167 0 15 (dk_at dksX4_grown_7 3 rfl rfl)
theorem dX4_grown_162 : decode cX4_grown 162 = .ok (.aload 4, 2) := dk_25 4 (dk_at dksX4_grown_7 6 rfl rfl)
theorem dX4_grown_164 : decode cX4_grown 164 = .ok (.iload 6, 2) := dk_21 6 (dk_at dksX4_grown_7 8 rfl rfl)
theorem dX4_grown_166 : decode cX4_grown 166 = .ok (.dup2, 1) := dk_92 (dk_at dksX4_grown_7 10 rfl rfl)
theorem dX4_grown_167 : decode cX4_grown 167 = .ok (.iaload, 1) := dk_46 (dk_at dksX4_grown_7 11 rfl rfl)
theorem dX4_grown_168 : decode cX4_grown 168 = .ok (.iconst 1, 1) := dk_4 (dk_at dksX4_grown_7 12 rfl rfl)
theorem dX4_grown_169 : decode cX4_grown 169 = .ok (.iadd, 1) := dk_96 (dk_at dksX4_grown_7 13 rfl rfl)
theorem dX4_grown_170 : decode cX4_grown 170 = .ok (.iastore, 1) := dk_79 (dk_at dksX4_grown_7 14 rfl rfl)
theorem dX4_grown_171 : decode cX4_grown 171 = .ok (.iinc 5 (-1), 3) := dk_132 5 255 (dk_at dksX4_grown_7 15 rfl rfl)
theorem dX4_grown_174 : decode cX4_grown 174 = .ok (.iinc 6 1, 3) := dk_132 6 1 (dk_at dksX4_grown_7 18 rfl rfl)
theorem dX4_grown_177 : decode cX4_grown 177 = .ok (.goto (-47), 3) := dk_167 255 209 (dk_at dksX4_grown_7 21 rfl rfl)
theorem dX4_grown_180 : decode cX4_grown 180 = .ok (.aload 4, 2) := dk_25 4 (dk_at dksX4_grown_8 0 rfl rfl)
theorem dX4_grown_182 : decode cX4_grown 182 = .ok (.areturn, 1) := dk_176 (dk_at dksX4_grown_8 2 rfl rfl)
abbrev cX4_shrunk : ByteArray := prog_14_method_39_code
def yX4_shrunk : MethodName := ⟨RX4, "shrunk", "(Ljava/util/List;[II)[I"⟩
def dkwX4_shrunk_15 : List UInt8 := [46, 4, 100, 79, 132, 10, 255, 132, 11, 1, 167, 255, 184, 25, 8, 176]
abbrev dktX4_shrunk_15 : List UInt8 := dkwX4_shrunk_15 ++ []
def dkwX4_shrunk_14 : List UInt8 := [153, 0, 31, 25, 8, 21, 11, 46, 25, 4, 21, 11, 46, 163, 0, 6, 167, 0, 15, 25, 8, 21, 11, 92]
abbrev dktX4_shrunk_14 : List UInt8 := dkwX4_shrunk_14 ++ dktX4_shrunk_15
def dkwX4_shrunk_13 : List UInt8 := [154, 0, 53, 42, 21, 11, 185, 1, 30, 2, 0, 192, 0, 30, 180, 0, 116, 43, 21, 11, 46, 104]
abbrev dktX4_shrunk_13 : List UInt8 := dkwX4_shrunk_13 ++ dktX4_shrunk_14
def dkwX4_shrunk_12 : List UInt8 := [167, 255, 28, 3, 54, 11, 21, 11, 29, 162, 0, 72, 21, 10, 158, 0, 67, 25, 5, 21, 11, 51]
abbrev dktX4_shrunk_12 : List UInt8 := dkwX4_shrunk_12 ++ dktX4_shrunk_13
def dkwX4_shrunk_11 : List UInt8 := [167, 0, 12, 25, 5, 21, 11, 4, 84, 4, 54, 9, 132, 11, 1, 167, 255, 167, 21, 9, 153, 0, 6]
abbrev dktX4_shrunk_11 : List UInt8 := dkwX4_shrunk_11 ++ dktX4_shrunk_12
def dkwX4_shrunk_10 : List UInt8 := [21, 12, 100, 79, 21, 10, 21, 12, 100, 54, 10, 25, 8, 21, 11, 46, 25, 4, 21, 11, 46, 161, 0, 6]
abbrev dktX4_shrunk_10 : List UInt8 := dkwX4_shrunk_10 ++ dktX4_shrunk_11
def dkwX4_shrunk_9 : List UInt8 := [192, 0, 30, 180, 0, 116, 43, 21, 11, 46, 104, 104, 21, 7, 108, 54, 12, 25, 8, 21, 11, 92, 46]
abbrev dktX4_shrunk_9 : List UInt8 := dkwX4_shrunk_9 ++ dktX4_shrunk_10
def dkwX4_shrunk_8 : List UInt8 := [162, 0, 89, 25, 5, 21, 11, 51, 153, 0, 6, 167, 0, 72, 21, 6, 42, 21, 11, 185, 1, 30, 2, 0]
abbrev dktX4_shrunk_8 : List UInt8 := dkwX4_shrunk_8 ++ dktX4_shrunk_9
def dkwX4_shrunk_7 : List UInt8 := [167, 255, 161, 21, 7, 154, 0, 6, 25, 8, 176, 3, 54, 9, 21, 6, 54, 10, 3, 54, 11, 21, 11, 29]
abbrev dktX4_shrunk_7 : List UInt8 := dkwX4_shrunk_7 ++ dktX4_shrunk_8
def dkwX4_shrunk_6 : List UInt8 := [185, 1, 30, 2, 0, 192, 0, 30, 180, 0, 116, 43, 21, 9, 46, 104, 96, 54, 7, 132, 9, 1]
abbrev dktX4_shrunk_6 : List UInt8 := dkwX4_shrunk_6 ++ dktX4_shrunk_7
def dkwX4_shrunk_5 : List UInt8 := [182, 0, 176, 96, 96, 54, 6, 21, 7, 25, 5, 21, 9, 51, 153, 0, 7, 3, 167, 0, 22, 42, 21, 9]
abbrev dktX4_shrunk_5 : List UInt8 := dkwX4_shrunk_5 ++ dktX4_shrunk_6
def dkwX4_shrunk_4 : List UInt8 := [43, 21, 9, 46, 79, 21, 6, 25, 8, 21, 9, 46, 42, 21, 9, 185, 1, 30, 2, 0, 192, 0, 30]
abbrev dktX4_shrunk_4 : List UInt8 := dkwX4_shrunk_4 ++ dktX4_shrunk_5
def dkwX4_shrunk_3 : List UInt8 := [29, 162, 0, 95, 25, 8, 21, 9, 25, 5, 21, 9, 51, 153, 0, 11, 25, 4, 21, 9, 46, 167, 0, 7]
abbrev dktX4_shrunk_3 : List UInt8 := dkwX4_shrunk_3 ++ dktX4_shrunk_4
def dkwX4_shrunk_2 : List UInt8 := [79, 132, 6, 1, 167, 255, 220, 28, 116, 54, 6, 3, 54, 7, 29, 188, 10, 58, 8, 3, 54, 9, 21, 9]
abbrev dktX4_shrunk_2 : List UInt8 := dkwX4_shrunk_2 ++ dktX4_shrunk_3
def dkwX4_shrunk_1 : List UInt8 := [21, 6, 42, 21, 6, 185, 1, 30, 2, 0, 192, 0, 30, 4, 184, 0, 172, 43, 21, 6, 46, 184, 0, 188]
abbrev dktX4_shrunk_1 : List UInt8 := dkwX4_shrunk_1 ++ dktX4_shrunk_2
def dkwX4_shrunk_0 : List UInt8 := [43, 190, 62, 29, 188, 10, 58, 4, 29, 188, 4, 58, 5, 3, 54, 6, 21, 6, 29, 162, 0, 36, 25, 4]
abbrev dktX4_shrunk_0 : List UInt8 := dkwX4_shrunk_0 ++ dktX4_shrunk_1
theorem dksX4_shrunk_0 : cX4_shrunk.data.toList.drop 0 = dktX4_shrunk_0 := by decide +kernel
theorem dksX4_shrunk_1 : cX4_shrunk.data.toList.drop 24 = dktX4_shrunk_1 := dk_seg dksX4_shrunk_0 24 rfl rfl
theorem dksX4_shrunk_2 : cX4_shrunk.data.toList.drop 48 = dktX4_shrunk_2 := dk_seg dksX4_shrunk_1 24 rfl rfl
theorem dksX4_shrunk_3 : cX4_shrunk.data.toList.drop 72 = dktX4_shrunk_3 := dk_seg dksX4_shrunk_2 24 rfl rfl
theorem dksX4_shrunk_4 : cX4_shrunk.data.toList.drop 96 = dktX4_shrunk_4 := dk_seg dksX4_shrunk_3 24 rfl rfl
theorem dksX4_shrunk_5 : cX4_shrunk.data.toList.drop 119 = dktX4_shrunk_5 := dk_seg dksX4_shrunk_4 23 rfl rfl
theorem dksX4_shrunk_6 : cX4_shrunk.data.toList.drop 143 = dktX4_shrunk_6 := dk_seg dksX4_shrunk_5 24 rfl rfl
theorem dksX4_shrunk_7 : cX4_shrunk.data.toList.drop 165 = dktX4_shrunk_7 := dk_seg dksX4_shrunk_6 22 rfl rfl
theorem dksX4_shrunk_8 : cX4_shrunk.data.toList.drop 189 = dktX4_shrunk_8 := dk_seg dksX4_shrunk_7 24 rfl rfl
theorem dksX4_shrunk_9 : cX4_shrunk.data.toList.drop 213 = dktX4_shrunk_9 := dk_seg dksX4_shrunk_8 24 rfl rfl
theorem dksX4_shrunk_10 : cX4_shrunk.data.toList.drop 236 = dktX4_shrunk_10 := dk_seg dksX4_shrunk_9 23 rfl rfl
theorem dksX4_shrunk_11 : cX4_shrunk.data.toList.drop 260 = dktX4_shrunk_11 := dk_seg dksX4_shrunk_10 24 rfl rfl
theorem dksX4_shrunk_12 : cX4_shrunk.data.toList.drop 283 = dktX4_shrunk_12 := dk_seg dksX4_shrunk_11 23 rfl rfl
theorem dksX4_shrunk_13 : cX4_shrunk.data.toList.drop 305 = dktX4_shrunk_13 := dk_seg dksX4_shrunk_12 22 rfl rfl
theorem dksX4_shrunk_14 : cX4_shrunk.data.toList.drop 327 = dktX4_shrunk_14 := dk_seg dksX4_shrunk_13 22 rfl rfl
theorem dksX4_shrunk_15 : cX4_shrunk.data.toList.drop 351 = dktX4_shrunk_15 := dk_seg dksX4_shrunk_14 24 rfl rfl
theorem dX4_shrunk_0 : decode cX4_shrunk 0 = .ok (.aload_n 1, 1) := dk_43 (dk_at dksX4_shrunk_0 0 rfl rfl)
theorem dX4_shrunk_1 : decode cX4_shrunk 1 = .ok (.arraylength, 1) := dk_190 (dk_at dksX4_shrunk_0 1 rfl rfl)
theorem dX4_shrunk_2 : decode cX4_shrunk 2 = .ok (.istore_n 3, 1) := dk_62 (dk_at dksX4_shrunk_0 2 rfl rfl)
theorem dX4_shrunk_3 : decode cX4_shrunk 3 = .ok (.iload_n 3, 1) := dk_29 (dk_at dksX4_shrunk_0 3 rfl rfl)
theorem dX4_shrunk_4 : decode cX4_shrunk 4 = .ok (.newarray .int, 2) := dk_188_10 (dk_at dksX4_shrunk_0 4 rfl rfl)
theorem dX4_shrunk_6 : decode cX4_shrunk 6 = .ok (.astore 4, 2) := dk_58 4 (dk_at dksX4_shrunk_0 6 rfl rfl)
theorem dX4_shrunk_8 : decode cX4_shrunk 8 = .ok (.iload_n 3, 1) := dk_29 (dk_at dksX4_shrunk_0 8 rfl rfl)
theorem dX4_shrunk_9 : decode cX4_shrunk 9 = .ok (.newarray .boolean, 2) := dk_188_4 (dk_at dksX4_shrunk_0 9 rfl rfl)
theorem dX4_shrunk_11 : decode cX4_shrunk 11 = .ok (.astore 5, 2) := dk_58 5 (dk_at dksX4_shrunk_0 11 rfl rfl)
theorem dX4_shrunk_13 : decode cX4_shrunk 13 = .ok (.iconst 0, 1) := dk_3 (dk_at dksX4_shrunk_0 13 rfl rfl)
theorem dX4_shrunk_14 : decode cX4_shrunk 14 = .ok (.istore 6, 2) := dk_54 6 (dk_at dksX4_shrunk_0 14 rfl rfl)
theorem dX4_shrunk_16 : decode cX4_shrunk 16 = .ok (.iload 6, 2) := dk_21 6 (dk_at dksX4_shrunk_0 16 rfl rfl)
theorem dX4_shrunk_18 : decode cX4_shrunk 18 = .ok (.iload_n 3, 1) := dk_29 (dk_at dksX4_shrunk_0 18 rfl rfl)
theorem dX4_shrunk_19 : decode cX4_shrunk 19 = .ok (.if_icmp .ge 36, 3) := dk_162 0 36 (dk_at dksX4_shrunk_0 19 rfl rfl)
theorem dX4_shrunk_22 : decode cX4_shrunk 22 = .ok (.aload 4, 2) := dk_25 4 (dk_at dksX4_shrunk_0 22 rfl rfl)
theorem dX4_shrunk_24 : decode cX4_shrunk 24 = .ok (.iload 6, 2) := dk_21 6 (dk_at dksX4_shrunk_1 0 rfl rfl)
theorem dX4_shrunk_26 : decode cX4_shrunk 26 = .ok (.aload_n 0, 1) := dk_42 (dk_at dksX4_shrunk_1 2 rfl rfl)
theorem dX4_shrunk_27 : decode cX4_shrunk 27 = .ok (.iload 6, 2) := dk_21 6 (dk_at dksX4_shrunk_1 3 rfl rfl)
theorem dX4_shrunk_29 : decode cX4_shrunk 29 = .ok (.invokeinterface 286 2, 5) := by decide +kernel
theorem dX4_shrunk_34 : decode cX4_shrunk 34 = .ok (.checkcast 30, 3) := dk_192 0 30 (dk_at dksX4_shrunk_1 10 rfl rfl)
theorem dX4_shrunk_37 : decode cX4_shrunk 37 = .ok (.iconst 1, 1) := dk_4 (dk_at dksX4_shrunk_1 13 rfl rfl)
theorem dX4_shrunk_38 : decode cX4_shrunk 38 = .ok (.invokestatic 172, 3) := dk_184 0 172 (dk_at dksX4_shrunk_1 14 rfl rfl)
theorem dX4_shrunk_41 : decode cX4_shrunk 41 = .ok (.aload_n 1, 1) := dk_43 (dk_at dksX4_shrunk_1 17 rfl rfl)
theorem dX4_shrunk_42 : decode cX4_shrunk 42 = .ok (.iload 6, 2) := dk_21 6 (dk_at dksX4_shrunk_1 18 rfl rfl)
theorem dX4_shrunk_44 : decode cX4_shrunk 44 = .ok (.iaload, 1) := dk_46 (dk_at dksX4_shrunk_1 20 rfl rfl)
theorem dX4_shrunk_45 : decode cX4_shrunk 45 = .ok (.invokestatic 188, 3) := dk_184 0 188 (dk_at dksX4_shrunk_1 21 rfl rfl)
theorem dX4_shrunk_48 : decode cX4_shrunk 48 = .ok (.iastore, 1) := dk_79 (dk_at dksX4_shrunk_2 0 rfl rfl)
theorem dX4_shrunk_49 : decode cX4_shrunk 49 = .ok (.iinc 6 1, 3) := dk_132 6 1 (dk_at dksX4_shrunk_2 1 rfl rfl)
theorem dX4_shrunk_52 : decode cX4_shrunk 52 = .ok (.goto (-36), 3) := dk_167 255 220 (dk_at dksX4_shrunk_2 4 rfl rfl)
theorem dX4_shrunk_55 : decode cX4_shrunk 55 = .ok (.iload_n 2, 1) := dk_28 (dk_at dksX4_shrunk_2 7 rfl rfl)
theorem dX4_shrunk_56 : decode cX4_shrunk 56 = .ok (.ineg, 1) := dk_116 (dk_at dksX4_shrunk_2 8 rfl rfl)
theorem dX4_shrunk_57 : decode cX4_shrunk 57 = .ok (.istore 6, 2) := dk_54 6 (dk_at dksX4_shrunk_2 9 rfl rfl)
theorem dX4_shrunk_59 : decode cX4_shrunk 59 = .ok (.iconst 0, 1) := dk_3 (dk_at dksX4_shrunk_2 11 rfl rfl)
theorem dX4_shrunk_60 : decode cX4_shrunk 60 = .ok (.istore 7, 2) := dk_54 7 (dk_at dksX4_shrunk_2 12 rfl rfl)
theorem dX4_shrunk_62 : decode cX4_shrunk 62 = .ok (.iload_n 3, 1) := dk_29 (dk_at dksX4_shrunk_2 14 rfl rfl)
theorem dX4_shrunk_63 : decode cX4_shrunk 63 = .ok (.newarray .int, 2) := dk_188_10 (dk_at dksX4_shrunk_2 15 rfl rfl)
theorem dX4_shrunk_65 : decode cX4_shrunk 65 = .ok (.astore 8, 2) := dk_58 8 (dk_at dksX4_shrunk_2 17 rfl rfl)
theorem dX4_shrunk_67 : decode cX4_shrunk 67 = .ok (.iconst 0, 1) := dk_3 (dk_at dksX4_shrunk_2 19 rfl rfl)
theorem dX4_shrunk_68 : decode cX4_shrunk 68 = .ok (.istore 9, 2) := dk_54 9 (dk_at dksX4_shrunk_2 20 rfl rfl)
theorem dX4_shrunk_70 : decode cX4_shrunk 70 = .ok (.iload 9, 2) := dk_21 9 (dk_at dksX4_shrunk_2 22 rfl rfl)
theorem dX4_shrunk_72 : decode cX4_shrunk 72 = .ok (.iload_n 3, 1) := dk_29 (dk_at dksX4_shrunk_3 0 rfl rfl)
theorem dX4_shrunk_73 : decode cX4_shrunk 73 = .ok (.if_icmp .ge 95, 3) := dk_162 0 95 (dk_at dksX4_shrunk_3 1 rfl rfl)
theorem dX4_shrunk_76 : decode cX4_shrunk 76 = .ok (.aload 8, 2) := dk_25 8 (dk_at dksX4_shrunk_3 4 rfl rfl)
theorem dX4_shrunk_78 : decode cX4_shrunk 78 = .ok (.iload 9, 2) := dk_21 9 (dk_at dksX4_shrunk_3 6 rfl rfl)
theorem dX4_shrunk_80 : decode cX4_shrunk 80 = .ok (.aload 5, 2) := dk_25 5 (dk_at dksX4_shrunk_3 8 rfl rfl)
theorem dX4_shrunk_82 : decode cX4_shrunk 82 = .ok (.iload 9, 2) := dk_21 9 (dk_at dksX4_shrunk_3 10 rfl rfl)
theorem dX4_shrunk_84 : decode cX4_shrunk 84 = .ok (.baload, 1) := dk_51 (dk_at dksX4_shrunk_3 12 rfl rfl)
theorem dX4_shrunk_85 : decode cX4_shrunk 85 = .ok (.ifCond .eq 11, 3) := dk_153 0 11 (dk_at dksX4_shrunk_3 13 rfl rfl)
theorem dX4_shrunk_88 : decode cX4_shrunk 88 = .ok (.aload 4, 2) := dk_25 4 (dk_at dksX4_shrunk_3 16 rfl rfl)
theorem dX4_shrunk_90 : decode cX4_shrunk 90 = .ok (.iload 9, 2) := dk_21 9 (dk_at dksX4_shrunk_3 18 rfl rfl)
theorem dX4_shrunk_92 : decode cX4_shrunk 92 = .ok (.iaload, 1) := dk_46 (dk_at dksX4_shrunk_3 20 rfl rfl)
theorem dX4_shrunk_93 : decode cX4_shrunk 93 = .ok (.goto 7, 3) := dk_167 0 7 (dk_at dksX4_shrunk_3 21 rfl rfl)
theorem dX4_shrunk_96 : decode cX4_shrunk 96 = .ok (.aload_n 1, 1) := dk_43 (dk_at dksX4_shrunk_4 0 rfl rfl)
theorem dX4_shrunk_97 : decode cX4_shrunk 97 = .ok (.iload 9, 2) := dk_21 9 (dk_at dksX4_shrunk_4 1 rfl rfl)
theorem dX4_shrunk_99 : decode cX4_shrunk 99 = .ok (.iaload, 1) := dk_46 (dk_at dksX4_shrunk_4 3 rfl rfl)
theorem dX4_shrunk_100 : decode cX4_shrunk 100 = .ok (.iastore, 1) := dk_79 (dk_at dksX4_shrunk_4 4 rfl rfl)
theorem dX4_shrunk_101 : decode cX4_shrunk 101 = .ok (.iload 6, 2) := dk_21 6 (dk_at dksX4_shrunk_4 5 rfl rfl)
theorem dX4_shrunk_103 : decode cX4_shrunk 103 = .ok (.aload 8, 2) := dk_25 8 (dk_at dksX4_shrunk_4 7 rfl rfl)
theorem dX4_shrunk_105 : decode cX4_shrunk 105 = .ok (.iload 9, 2) := dk_21 9 (dk_at dksX4_shrunk_4 9 rfl rfl)
theorem dX4_shrunk_107 : decode cX4_shrunk 107 = .ok (.iaload, 1) := dk_46 (dk_at dksX4_shrunk_4 11 rfl rfl)
theorem dX4_shrunk_108 : decode cX4_shrunk 108 = .ok (.aload_n 0, 1) := dk_42 (dk_at dksX4_shrunk_4 12 rfl rfl)
theorem dX4_shrunk_109 : decode cX4_shrunk 109 = .ok (.iload 9, 2) := dk_21 9 (dk_at dksX4_shrunk_4 13 rfl rfl)
theorem dX4_shrunk_111 : decode cX4_shrunk 111 = .ok (.invokeinterface 286 2, 5) := by decide +kernel
theorem dX4_shrunk_116 : decode cX4_shrunk 116 = .ok (.checkcast 30, 3) := dk_192 0 30 (dk_at dksX4_shrunk_4 20 rfl rfl)
theorem dX4_shrunk_119 : decode cX4_shrunk 119 = .ok (.invokevirtual 176, 3) := dk_182 0 176 (dk_at dksX4_shrunk_5 0 rfl rfl)
theorem dX4_shrunk_122 : decode cX4_shrunk 122 = .ok (.iadd, 1) := dk_96 (dk_at dksX4_shrunk_5 3 rfl rfl)
theorem dX4_shrunk_123 : decode cX4_shrunk 123 = .ok (.iadd, 1) := dk_96 (dk_at dksX4_shrunk_5 4 rfl rfl)
theorem dX4_shrunk_124 : decode cX4_shrunk 124 = .ok (.istore 6, 2) := dk_54 6 (dk_at dksX4_shrunk_5 5 rfl rfl)
theorem dX4_shrunk_126 : decode cX4_shrunk 126 = .ok (.iload 7, 2) := dk_21 7 (dk_at dksX4_shrunk_5 7 rfl rfl)
theorem dX4_shrunk_128 : decode cX4_shrunk 128 = .ok (.aload 5, 2) := dk_25 5 (dk_at dksX4_shrunk_5 9 rfl rfl)
theorem dX4_shrunk_130 : decode cX4_shrunk 130 = .ok (.iload 9, 2) := dk_21 9 (dk_at dksX4_shrunk_5 11 rfl rfl)
theorem dX4_shrunk_132 : decode cX4_shrunk 132 = .ok (.baload, 1) := dk_51 (dk_at dksX4_shrunk_5 13 rfl rfl)
theorem dX4_shrunk_133 : decode cX4_shrunk 133 = .ok (.ifCond .eq 7, 3) := dk_153 0 7 (dk_at dksX4_shrunk_5 14 rfl rfl)
theorem dX4_shrunk_136 : decode cX4_shrunk 136 = .ok (.iconst 0, 1) := dk_3 (dk_at dksX4_shrunk_5 17 rfl rfl)
theorem dX4_shrunk_137 : decode cX4_shrunk 137 = .ok (.goto 22, 3) := dk_167 0 22 (dk_at dksX4_shrunk_5 18 rfl rfl)
theorem dX4_shrunk_140 : decode cX4_shrunk 140 = .ok (.aload_n 0, 1) := dk_42 (dk_at dksX4_shrunk_5 21 rfl rfl)
theorem dX4_shrunk_141 : decode cX4_shrunk 141 = .ok (.iload 9, 2) := dk_21 9 (dk_at dksX4_shrunk_5 22 rfl rfl)
theorem dX4_shrunk_143 : decode cX4_shrunk 143 = .ok (.invokeinterface 286 2, 5) := by decide +kernel
theorem dX4_shrunk_148 : decode cX4_shrunk 148 = .ok (.checkcast 30, 3) := dk_192 0 30 (dk_at dksX4_shrunk_6 5 rfl rfl)
theorem dX4_shrunk_151 : decode cX4_shrunk 151 = .ok (.getfield 116, 3) := dk_180 0 116 (dk_at dksX4_shrunk_6 8 rfl rfl)
theorem dX4_shrunk_154 : decode cX4_shrunk 154 = .ok (.aload_n 1, 1) := dk_43 (dk_at dksX4_shrunk_6 11 rfl rfl)
theorem dX4_shrunk_155 : decode cX4_shrunk 155 = .ok (.iload 9, 2) := dk_21 9 (dk_at dksX4_shrunk_6 12 rfl rfl)
theorem dX4_shrunk_157 : decode cX4_shrunk 157 = .ok (.iaload, 1) := dk_46 (dk_at dksX4_shrunk_6 14 rfl rfl)
theorem dX4_shrunk_158 : decode cX4_shrunk 158 = .ok (.imul, 1) := dk_104 (dk_at dksX4_shrunk_6 15 rfl rfl)
theorem dX4_shrunk_159 : decode cX4_shrunk 159 = .ok (.iadd, 1) := dk_96 (dk_at dksX4_shrunk_6 16 rfl rfl)
theorem dX4_shrunk_160 : decode cX4_shrunk 160 = .ok (.istore 7, 2) := dk_54 7 (dk_at dksX4_shrunk_6 17 rfl rfl)
theorem dX4_shrunk_162 : decode cX4_shrunk 162 = .ok (.iinc 9 1, 3) := dk_132 9 1 (dk_at dksX4_shrunk_6 19 rfl rfl)
theorem dX4_shrunk_165 : decode cX4_shrunk 165 = .ok (.goto (-95), 3) := dk_167 255 161 (dk_at dksX4_shrunk_7 0 rfl rfl)
theorem dX4_shrunk_168 : decode cX4_shrunk 168 = .ok (.iload 7, 2) := dk_21 7 (dk_at dksX4_shrunk_7 3 rfl rfl)
theorem dX4_shrunk_170 : decode cX4_shrunk 170 = .ok (.ifCond .ne 6, 3) := dk_154 0 6 (dk_at dksX4_shrunk_7 5 rfl rfl)
theorem dX4_shrunk_173 : decode cX4_shrunk 173 = .ok (.aload 8, 2) := dk_25 8 (dk_at dksX4_shrunk_7 8 rfl rfl)
theorem dX4_shrunk_175 : decode cX4_shrunk 175 = .ok (.areturn, 1) := dk_176 (dk_at dksX4_shrunk_7 10 rfl rfl)
theorem dX4_shrunk_176 : decode cX4_shrunk 176 = .ok (.iconst 0, 1) := dk_3 (dk_at dksX4_shrunk_7 11 rfl rfl)
theorem dX4_shrunk_177 : decode cX4_shrunk 177 = .ok (.istore 9, 2) := dk_54 9 (dk_at dksX4_shrunk_7 12 rfl rfl)
theorem dX4_shrunk_179 : decode cX4_shrunk 179 = .ok (.iload 6, 2) := dk_21 6 (dk_at dksX4_shrunk_7 14 rfl rfl)
theorem dX4_shrunk_181 : decode cX4_shrunk 181 = .ok (.istore 10, 2) := dk_54 10 (dk_at dksX4_shrunk_7 16 rfl rfl)
theorem dX4_shrunk_183 : decode cX4_shrunk 183 = .ok (.iconst 0, 1) := dk_3 (dk_at dksX4_shrunk_7 18 rfl rfl)
theorem dX4_shrunk_184 : decode cX4_shrunk 184 = .ok (.istore 11, 2) := dk_54 11 (dk_at dksX4_shrunk_7 19 rfl rfl)
theorem dX4_shrunk_186 : decode cX4_shrunk 186 = .ok (.iload 11, 2) := dk_21 11 (dk_at dksX4_shrunk_7 21 rfl rfl)
theorem dX4_shrunk_188 : decode cX4_shrunk 188 = .ok (.iload_n 3, 1) := dk_29 (dk_at dksX4_shrunk_7 23 rfl rfl)
theorem dX4_shrunk_189 : decode cX4_shrunk 189 = .ok (.if_icmp .ge 89, 3) := dk_162 0 89 (dk_at dksX4_shrunk_8 0 rfl rfl)
theorem dX4_shrunk_192 : decode cX4_shrunk 192 = .ok (.aload 5, 2) := dk_25 5 (dk_at dksX4_shrunk_8 3 rfl rfl)
theorem dX4_shrunk_194 : decode cX4_shrunk 194 = .ok (.iload 11, 2) := dk_21 11 (dk_at dksX4_shrunk_8 5 rfl rfl)
theorem dX4_shrunk_196 : decode cX4_shrunk 196 = .ok (.baload, 1) := dk_51 (dk_at dksX4_shrunk_8 7 rfl rfl)
theorem dX4_shrunk_197 : decode cX4_shrunk 197 = .ok (.ifCond .eq 6, 3) := dk_153 0 6 (dk_at dksX4_shrunk_8 8 rfl rfl)
theorem dX4_shrunk_200 : decode cX4_shrunk 200 = .ok (.goto 72, 3) := dk_167 0 72 (dk_at dksX4_shrunk_8 11 rfl rfl)
theorem dX4_shrunk_203 : decode cX4_shrunk 203 = .ok (.iload 6, 2) := dk_21 6 (dk_at dksX4_shrunk_8 14 rfl rfl)
theorem dX4_shrunk_205 : decode cX4_shrunk 205 = .ok (.aload_n 0, 1) := dk_42 (dk_at dksX4_shrunk_8 16 rfl rfl)
theorem dX4_shrunk_206 : decode cX4_shrunk 206 = .ok (.iload 11, 2) := dk_21 11 (dk_at dksX4_shrunk_8 17 rfl rfl)
theorem dX4_shrunk_208 : decode cX4_shrunk 208 = .ok (.invokeinterface 286 2, 5) := by decide +kernel
theorem dX4_shrunk_213 : decode cX4_shrunk 213 = .ok (.checkcast 30, 3) := dk_192 0 30 (dk_at dksX4_shrunk_9 0 rfl rfl)
theorem dX4_shrunk_216 : decode cX4_shrunk 216 = .ok (.getfield 116, 3) := dk_180 0 116 (dk_at dksX4_shrunk_9 3 rfl rfl)
theorem dX4_shrunk_219 : decode cX4_shrunk 219 = .ok (.aload_n 1, 1) := dk_43 (dk_at dksX4_shrunk_9 6 rfl rfl)
theorem dX4_shrunk_220 : decode cX4_shrunk 220 = .ok (.iload 11, 2) := dk_21 11 (dk_at dksX4_shrunk_9 7 rfl rfl)
theorem dX4_shrunk_222 : decode cX4_shrunk 222 = .ok (.iaload, 1) := dk_46 (dk_at dksX4_shrunk_9 9 rfl rfl)
theorem dX4_shrunk_223 : decode cX4_shrunk 223 = .ok (.imul, 1) := dk_104 (dk_at dksX4_shrunk_9 10 rfl rfl)
theorem dX4_shrunk_224 : decode cX4_shrunk 224 = .ok (.imul, 1) := dk_104 (dk_at dksX4_shrunk_9 11 rfl rfl)
theorem dX4_shrunk_225 : decode cX4_shrunk 225 = .ok (.iload 7, 2) := dk_21 7 (dk_at dksX4_shrunk_9 12 rfl rfl)
theorem dX4_shrunk_227 : decode cX4_shrunk 227 = .ok (.idiv, 1) := dk_108 (dk_at dksX4_shrunk_9 14 rfl rfl)
theorem dX4_shrunk_228 : decode cX4_shrunk 228 = .ok (.istore 12, 2) := dk_54 12 (dk_at dksX4_shrunk_9 15 rfl rfl)
theorem dX4_shrunk_230 : decode cX4_shrunk 230 = .ok (.aload 8, 2) := dk_25 8 (dk_at dksX4_shrunk_9 17 rfl rfl)
theorem dX4_shrunk_232 : decode cX4_shrunk 232 = .ok (.iload 11, 2) := dk_21 11 (dk_at dksX4_shrunk_9 19 rfl rfl)
theorem dX4_shrunk_234 : decode cX4_shrunk 234 = .ok (.dup2, 1) := dk_92 (dk_at dksX4_shrunk_9 21 rfl rfl)
theorem dX4_shrunk_235 : decode cX4_shrunk 235 = .ok (.iaload, 1) := dk_46 (dk_at dksX4_shrunk_9 22 rfl rfl)
theorem dX4_shrunk_236 : decode cX4_shrunk 236 = .ok (.iload 12, 2) := dk_21 12 (dk_at dksX4_shrunk_10 0 rfl rfl)
theorem dX4_shrunk_238 : decode cX4_shrunk 238 = .ok (.isub, 1) := dk_100 (dk_at dksX4_shrunk_10 2 rfl rfl)
theorem dX4_shrunk_239 : decode cX4_shrunk 239 = .ok (.iastore, 1) := dk_79 (dk_at dksX4_shrunk_10 3 rfl rfl)
theorem dX4_shrunk_240 : decode cX4_shrunk 240 = .ok (.iload 10, 2) := dk_21 10 (dk_at dksX4_shrunk_10 4 rfl rfl)
theorem dX4_shrunk_242 : decode cX4_shrunk 242 = .ok (.iload 12, 2) := dk_21 12 (dk_at dksX4_shrunk_10 6 rfl rfl)
theorem dX4_shrunk_244 : decode cX4_shrunk 244 = .ok (.isub, 1) := dk_100 (dk_at dksX4_shrunk_10 8 rfl rfl)
theorem dX4_shrunk_245 : decode cX4_shrunk 245 = .ok (.istore 10, 2) := dk_54 10 (dk_at dksX4_shrunk_10 9 rfl rfl)
theorem dX4_shrunk_247 : decode cX4_shrunk 247 = .ok (.aload 8, 2) := dk_25 8 (dk_at dksX4_shrunk_10 11 rfl rfl)
theorem dX4_shrunk_249 : decode cX4_shrunk 249 = .ok (.iload 11, 2) := dk_21 11 (dk_at dksX4_shrunk_10 13 rfl rfl)
theorem dX4_shrunk_251 : decode cX4_shrunk 251 = .ok (.iaload, 1) := dk_46 (dk_at dksX4_shrunk_10 15 rfl rfl)
theorem dX4_shrunk_252 : decode cX4_shrunk 252 = .ok (.aload 4, 2) := dk_25 4 (dk_at dksX4_shrunk_10 16 rfl rfl)
theorem dX4_shrunk_254 : decode cX4_shrunk 254 = .ok (.iload 11, 2) := dk_21 11 (dk_at dksX4_shrunk_10 18 rfl rfl)
theorem dX4_shrunk_256 : decode cX4_shrunk 256 = .ok (.iaload, 1) := dk_46 (dk_at dksX4_shrunk_10 20 rfl rfl)
theorem dX4_shrunk_257 : decode cX4_shrunk 257 = .ok (.if_icmp .lt 6, 3) := dk_161 0 6 (dk_at dksX4_shrunk_10 21 rfl rfl)
theorem dX4_shrunk_260 : decode cX4_shrunk 260 = .ok (.goto 12, 3) := dk_167 0 12 (dk_at dksX4_shrunk_11 0 rfl rfl)
theorem dX4_shrunk_263 : decode cX4_shrunk 263 = .ok (.aload 5, 2) := dk_25 5 (dk_at dksX4_shrunk_11 3 rfl rfl)
theorem dX4_shrunk_265 : decode cX4_shrunk 265 = .ok (.iload 11, 2) := dk_21 11 (dk_at dksX4_shrunk_11 5 rfl rfl)
theorem dX4_shrunk_267 : decode cX4_shrunk 267 = .ok (.iconst 1, 1) := dk_4 (dk_at dksX4_shrunk_11 7 rfl rfl)
theorem dX4_shrunk_268 : decode cX4_shrunk 268 = .ok (.bastore, 1) := dk_84 (dk_at dksX4_shrunk_11 8 rfl rfl)
theorem dX4_shrunk_269 : decode cX4_shrunk 269 = .ok (.iconst 1, 1) := dk_4 (dk_at dksX4_shrunk_11 9 rfl rfl)
theorem dX4_shrunk_270 : decode cX4_shrunk 270 = .ok (.istore 9, 2) := dk_54 9 (dk_at dksX4_shrunk_11 10 rfl rfl)
theorem dX4_shrunk_272 : decode cX4_shrunk 272 = .ok (.iinc 11 1, 3) := dk_132 11 1 (dk_at dksX4_shrunk_11 12 rfl rfl)
theorem dX4_shrunk_275 : decode cX4_shrunk 275 = .ok (.goto (-89), 3) := dk_167 255 167 (dk_at dksX4_shrunk_11 15 rfl rfl)
theorem dX4_shrunk_278 : decode cX4_shrunk 278 = .ok (.iload 9, 2) := dk_21 9 (dk_at dksX4_shrunk_11 18 rfl rfl)
theorem dX4_shrunk_280 : decode cX4_shrunk 280 = .ok (.ifCond .eq 6, 3) := dk_153 0 6 (dk_at dksX4_shrunk_11 20 rfl rfl)
theorem dX4_shrunk_283 : decode cX4_shrunk 283 = .ok (.goto (-228), 3) := dk_167 255 28 (dk_at dksX4_shrunk_12 0 rfl rfl)
theorem dX4_shrunk_286 : decode cX4_shrunk 286 = .ok (.iconst 0, 1) := dk_3 (dk_at dksX4_shrunk_12 3 rfl rfl)
theorem dX4_shrunk_287 : decode cX4_shrunk 287 = .ok (.istore 11, 2) := dk_54 11 (dk_at dksX4_shrunk_12 4 rfl rfl)
theorem dX4_shrunk_289 : decode cX4_shrunk 289 = .ok (.iload 11, 2) := dk_21 11 (dk_at dksX4_shrunk_12 6 rfl rfl)
theorem dX4_shrunk_291 : decode cX4_shrunk 291 = .ok (.iload_n 3, 1) := dk_29 (dk_at dksX4_shrunk_12 8 rfl rfl)
theorem dX4_shrunk_292 : decode cX4_shrunk 292 = .ok (.if_icmp .ge 72, 3) := dk_162 0 72 (dk_at dksX4_shrunk_12 9 rfl rfl)
theorem dX4_shrunk_295 : decode cX4_shrunk 295 = .ok (.iload 10, 2) := dk_21 10 (dk_at dksX4_shrunk_12 12 rfl rfl)
theorem dX4_shrunk_297 : decode cX4_shrunk 297 = .ok (.ifCond .le 67, 3) := dk_158 0 67 (dk_at dksX4_shrunk_12 14 rfl rfl)
theorem dX4_shrunk_300 : decode cX4_shrunk 300 = .ok (.aload 5, 2) := dk_25 5 (dk_at dksX4_shrunk_12 17 rfl rfl)
theorem dX4_shrunk_302 : decode cX4_shrunk 302 = .ok (.iload 11, 2) := dk_21 11 (dk_at dksX4_shrunk_12 19 rfl rfl)
theorem dX4_shrunk_304 : decode cX4_shrunk 304 = .ok (.baload, 1) := dk_51 (dk_at dksX4_shrunk_12 21 rfl rfl)
theorem dX4_shrunk_305 : decode cX4_shrunk 305 = .ok (.ifCond .ne 53, 3) := dk_154 0 53 (dk_at dksX4_shrunk_13 0 rfl rfl)
theorem dX4_shrunk_308 : decode cX4_shrunk 308 = .ok (.aload_n 0, 1) := dk_42 (dk_at dksX4_shrunk_13 3 rfl rfl)
theorem dX4_shrunk_309 : decode cX4_shrunk 309 = .ok (.iload 11, 2) := dk_21 11 (dk_at dksX4_shrunk_13 4 rfl rfl)
theorem dX4_shrunk_311 : decode cX4_shrunk 311 = .ok (.invokeinterface 286 2, 5) := by decide +kernel
theorem dX4_shrunk_316 : decode cX4_shrunk 316 = .ok (.checkcast 30, 3) := dk_192 0 30 (dk_at dksX4_shrunk_13 11 rfl rfl)
theorem dX4_shrunk_319 : decode cX4_shrunk 319 = .ok (.getfield 116, 3) := dk_180 0 116 (dk_at dksX4_shrunk_13 14 rfl rfl)
theorem dX4_shrunk_322 : decode cX4_shrunk 322 = .ok (.aload_n 1, 1) := dk_43 (dk_at dksX4_shrunk_13 17 rfl rfl)
theorem dX4_shrunk_323 : decode cX4_shrunk 323 = .ok (.iload 11, 2) := dk_21 11 (dk_at dksX4_shrunk_13 18 rfl rfl)
theorem dX4_shrunk_325 : decode cX4_shrunk 325 = .ok (.iaload, 1) := dk_46 (dk_at dksX4_shrunk_13 20 rfl rfl)
theorem dX4_shrunk_326 : decode cX4_shrunk 326 = .ok (.imul, 1) := dk_104 (dk_at dksX4_shrunk_13 21 rfl rfl)
theorem dX4_shrunk_327 : decode cX4_shrunk 327 = .ok (.ifCond .eq 31, 3) := dk_153 0 31 (dk_at dksX4_shrunk_14 0 rfl rfl)
theorem dX4_shrunk_330 : decode cX4_shrunk 330 = .ok (.aload 8, 2) := dk_25 8 (dk_at dksX4_shrunk_14 3 rfl rfl)
theorem dX4_shrunk_332 : decode cX4_shrunk 332 = .ok (.iload 11, 2) := dk_21 11 (dk_at dksX4_shrunk_14 5 rfl rfl)
theorem dX4_shrunk_334 : decode cX4_shrunk 334 = .ok (.iaload, 1) := dk_46 (dk_at dksX4_shrunk_14 7 rfl rfl)
theorem dX4_shrunk_335 : decode cX4_shrunk 335 = .ok (.aload 4, 2) := dk_25 4 (dk_at dksX4_shrunk_14 8 rfl rfl)
theorem dX4_shrunk_337 : decode cX4_shrunk 337 = .ok (.iload 11, 2) := dk_21 11 (dk_at dksX4_shrunk_14 10 rfl rfl)
theorem dX4_shrunk_339 : decode cX4_shrunk 339 = .ok (.iaload, 1) := dk_46 (dk_at dksX4_shrunk_14 12 rfl rfl)
theorem dX4_shrunk_340 : decode cX4_shrunk 340 = .ok (.if_icmp .gt 6, 3) := dk_163 0 6 (dk_at dksX4_shrunk_14 13 rfl rfl)
theorem dX4_shrunk_343 : decode cX4_shrunk 343 = .ok (.goto 15, 3) := dk_167 0 15 (dk_at dksX4_shrunk_14 16 rfl rfl)
theorem dX4_shrunk_346 : decode cX4_shrunk 346 = .ok (.aload 8, 2) := dk_25 8 (dk_at dksX4_shrunk_14 19 rfl rfl)
theorem dX4_shrunk_348 : decode cX4_shrunk 348 = .ok (.iload 11, 2) := dk_21 11 (dk_at dksX4_shrunk_14 21 rfl rfl)
theorem dX4_shrunk_350 : decode cX4_shrunk 350 = .ok (.dup2, 1) := dk_92 (dk_at dksX4_shrunk_14 23 rfl rfl)
theorem dX4_shrunk_351 : decode cX4_shrunk 351 = .ok (.iaload, 1) := dk_46 (dk_at dksX4_shrunk_15 0 rfl rfl)
theorem dX4_shrunk_352 : decode cX4_shrunk 352 = .ok (.iconst 1, 1) := dk_4 (dk_at dksX4_shrunk_15 1 rfl rfl)
theorem dX4_shrunk_353 : decode cX4_shrunk 353 = .ok (.isub, 1) := dk_100 (dk_at dksX4_shrunk_15 2 rfl rfl)
theorem dX4_shrunk_354 : decode cX4_shrunk 354 = .ok (.iastore, 1) := dk_79 (dk_at dksX4_shrunk_15 3 rfl rfl)
theorem dX4_shrunk_355 : decode cX4_shrunk 355 = .ok (.iinc 10 (-1), 3) := dk_132 10 255 (dk_at dksX4_shrunk_15 4 rfl rfl)
theorem dX4_shrunk_358 : decode cX4_shrunk 358 = .ok (.iinc 11 1, 3) := dk_132 11 1 (dk_at dksX4_shrunk_15 7 rfl rfl)
theorem dX4_shrunk_361 : decode cX4_shrunk 361 = .ok (.goto (-72), 3) := dk_167 255 184 (dk_at dksX4_shrunk_15 10 rfl rfl)
theorem dX4_shrunk_364 : decode cX4_shrunk 364 = .ok (.aload 8, 2) := dk_25 8 (dk_at dksX4_shrunk_15 13 rfl rfl)
theorem dX4_shrunk_366 : decode cX4_shrunk 366 = .ok (.areturn, 1) := dk_176 (dk_at dksX4_shrunk_15 15 rfl rfl)
abbrev cX4_inRow : ByteArray := prog_14_method_40_code
def yX4_inRow : MethodName := ⟨RX4, "inRow", "(Ljava/util/List;[IIIZ)I"⟩
def dkwX4_inRow_5 : List UInt8 := [182, 1, 26, 100, 184, 0, 163, 181, 0, 216, 132, 7, 1, 167, 255, 198, 21, 6, 172]
abbrev dktX4_inRow_5 : List UInt8 := dkwX4_inRow_5 ++ []
def dkwX4_inRow_4 : List UInt8 := [180, 0, 95, 156, 0, 30, 25, 8, 25, 8, 180, 0, 216, 21, 6, 25, 8, 182, 1, 23, 100, 25, 8]
abbrev dktX4_inRow_4 : List UInt8 := dkwX4_inRow_4 ++ dktX4_inRow_5
def dkwX4_inRow_3 : List UInt8 := [21, 7, 21, 4, 162, 0, 57, 43, 21, 7, 185, 1, 30, 2, 0, 192, 0, 30, 58, 8, 25, 8]
abbrev dktX4_inRow_3 : List UInt8 := dkwX4_inRow_3 ++ dktX4_inRow_4
def dkwX4_inRow_2 : List UInt8 := [180, 0, 216, 96, 25, 8, 182, 1, 26, 96, 184, 0, 163, 54, 6, 132, 7, 1, 167, 255, 197, 29, 54, 7]
abbrev dktX4_inRow_2 : List UInt8 := dkwX4_inRow_2 ++ dktX4_inRow_3
def dkwX4_inRow_1 : List UInt8 := [58, 8, 42, 25, 8, 44, 21, 7, 46, 21, 5, 182, 1, 0, 21, 6, 25, 8, 182, 1, 23, 25, 8]
abbrev dktX4_inRow_1 : List UInt8 := dkwX4_inRow_1 ++ dktX4_inRow_2
def dkwX4_inRow_0 : List UInt8 := [3, 54, 6, 29, 54, 7, 21, 7, 21, 4, 162, 0, 58, 43, 21, 7, 185, 1, 30, 2, 0, 192, 0, 30]
abbrev dktX4_inRow_0 : List UInt8 := dkwX4_inRow_0 ++ dktX4_inRow_1
theorem dksX4_inRow_0 : cX4_inRow.data.toList.drop 0 = dktX4_inRow_0 := by decide +kernel
theorem dksX4_inRow_1 : cX4_inRow.data.toList.drop 24 = dktX4_inRow_1 := dk_seg dksX4_inRow_0 24 rfl rfl
theorem dksX4_inRow_2 : cX4_inRow.data.toList.drop 47 = dktX4_inRow_2 := dk_seg dksX4_inRow_1 23 rfl rfl
theorem dksX4_inRow_3 : cX4_inRow.data.toList.drop 71 = dktX4_inRow_3 := dk_seg dksX4_inRow_2 24 rfl rfl
theorem dksX4_inRow_4 : cX4_inRow.data.toList.drop 93 = dktX4_inRow_4 := dk_seg dksX4_inRow_3 22 rfl rfl
theorem dksX4_inRow_5 : cX4_inRow.data.toList.drop 116 = dktX4_inRow_5 := dk_seg dksX4_inRow_4 23 rfl rfl
theorem dX4_inRow_0 : decode cX4_inRow 0 = .ok (.iconst 0, 1) := dk_3 (dk_at dksX4_inRow_0 0 rfl rfl)
theorem dX4_inRow_1 : decode cX4_inRow 1 = .ok (.istore 6, 2) := dk_54 6 (dk_at dksX4_inRow_0 1 rfl rfl)
theorem dX4_inRow_3 : decode cX4_inRow 3 = .ok (.iload_n 3, 1) := dk_29 (dk_at dksX4_inRow_0 3 rfl rfl)
theorem dX4_inRow_4 : decode cX4_inRow 4 = .ok (.istore 7, 2) := dk_54 7 (dk_at dksX4_inRow_0 4 rfl rfl)
theorem dX4_inRow_6 : decode cX4_inRow 6 = .ok (.iload 7, 2) := dk_21 7 (dk_at dksX4_inRow_0 6 rfl rfl)
theorem dX4_inRow_8 : decode cX4_inRow 8 = .ok (.iload 4, 2) := dk_21 4 (dk_at dksX4_inRow_0 8 rfl rfl)
theorem dX4_inRow_10 : decode cX4_inRow 10 = .ok (.if_icmp .ge 58, 3) := dk_162 0 58 (dk_at dksX4_inRow_0 10 rfl rfl)
theorem dX4_inRow_13 : decode cX4_inRow 13 = .ok (.aload_n 1, 1) := dk_43 (dk_at dksX4_inRow_0 13 rfl rfl)
theorem dX4_inRow_14 : decode cX4_inRow 14 = .ok (.iload 7, 2) := dk_21 7 (dk_at dksX4_inRow_0 14 rfl rfl)
theorem dX4_inRow_16 : decode cX4_inRow 16 = .ok (.invokeinterface 286 2, 5) := by decide +kernel
theorem dX4_inRow_21 : decode cX4_inRow 21 = .ok (.checkcast 30, 3) := dk_192 0 30 (dk_at dksX4_inRow_0 21 rfl rfl)
theorem dX4_inRow_24 : decode cX4_inRow 24 = .ok (.astore 8, 2) := dk_58 8 (dk_at dksX4_inRow_1 0 rfl rfl)
theorem dX4_inRow_26 : decode cX4_inRow 26 = .ok (.aload_n 0, 1) := dk_42 (dk_at dksX4_inRow_1 2 rfl rfl)
theorem dX4_inRow_27 : decode cX4_inRow 27 = .ok (.aload 8, 2) := dk_25 8 (dk_at dksX4_inRow_1 3 rfl rfl)
theorem dX4_inRow_29 : decode cX4_inRow 29 = .ok (.aload_n 2, 1) := dk_44 (dk_at dksX4_inRow_1 5 rfl rfl)
theorem dX4_inRow_30 : decode cX4_inRow 30 = .ok (.iload 7, 2) := dk_21 7 (dk_at dksX4_inRow_1 6 rfl rfl)
theorem dX4_inRow_32 : decode cX4_inRow 32 = .ok (.iaload, 1) := dk_46 (dk_at dksX4_inRow_1 8 rfl rfl)
theorem dX4_inRow_33 : decode cX4_inRow 33 = .ok (.iload 5, 2) := dk_21 5 (dk_at dksX4_inRow_1 9 rfl rfl)
theorem dX4_inRow_35 : decode cX4_inRow 35 = .ok (.invokevirtual 256, 3) := dk_182 1 0 (dk_at dksX4_inRow_1 11 rfl rfl)
theorem dX4_inRow_38 : decode cX4_inRow 38 = .ok (.iload 6, 2) := dk_21 6 (dk_at dksX4_inRow_1 14 rfl rfl)
theorem dX4_inRow_40 : decode cX4_inRow 40 = .ok (.aload 8, 2) := dk_25 8 (dk_at dksX4_inRow_1 16 rfl rfl)
theorem dX4_inRow_42 : decode cX4_inRow 42 = .ok (.invokevirtual 279, 3) := dk_182 1 23 (dk_at dksX4_inRow_1 18 rfl rfl)
theorem dX4_inRow_45 : decode cX4_inRow 45 = .ok (.aload 8, 2) := dk_25 8 (dk_at dksX4_inRow_1 21 rfl rfl)
theorem dX4_inRow_47 : decode cX4_inRow 47 = .ok (.getfield 216, 3) := dk_180 0 216 (dk_at dksX4_inRow_2 0 rfl rfl)
theorem dX4_inRow_50 : decode cX4_inRow 50 = .ok (.iadd, 1) := dk_96 (dk_at dksX4_inRow_2 3 rfl rfl)
theorem dX4_inRow_51 : decode cX4_inRow 51 = .ok (.aload 8, 2) := dk_25 8 (dk_at dksX4_inRow_2 4 rfl rfl)
theorem dX4_inRow_53 : decode cX4_inRow 53 = .ok (.invokevirtual 282, 3) := dk_182 1 26 (dk_at dksX4_inRow_2 6 rfl rfl)
theorem dX4_inRow_56 : decode cX4_inRow 56 = .ok (.iadd, 1) := dk_96 (dk_at dksX4_inRow_2 9 rfl rfl)
theorem dX4_inRow_57 : decode cX4_inRow 57 = .ok (.invokestatic 163, 3) := dk_184 0 163 (dk_at dksX4_inRow_2 10 rfl rfl)
theorem dX4_inRow_60 : decode cX4_inRow 60 = .ok (.istore 6, 2) := dk_54 6 (dk_at dksX4_inRow_2 13 rfl rfl)
theorem dX4_inRow_62 : decode cX4_inRow 62 = .ok (.iinc 7 1, 3) := dk_132 7 1 (dk_at dksX4_inRow_2 15 rfl rfl)
theorem dX4_inRow_65 : decode cX4_inRow 65 = .ok (.goto (-59), 3) := dk_167 255 197 (dk_at dksX4_inRow_2 18 rfl rfl)
theorem dX4_inRow_68 : decode cX4_inRow 68 = .ok (.iload_n 3, 1) := dk_29 (dk_at dksX4_inRow_2 21 rfl rfl)
theorem dX4_inRow_69 : decode cX4_inRow 69 = .ok (.istore 7, 2) := dk_54 7 (dk_at dksX4_inRow_2 22 rfl rfl)
theorem dX4_inRow_71 : decode cX4_inRow 71 = .ok (.iload 7, 2) := dk_21 7 (dk_at dksX4_inRow_3 0 rfl rfl)
theorem dX4_inRow_73 : decode cX4_inRow 73 = .ok (.iload 4, 2) := dk_21 4 (dk_at dksX4_inRow_3 2 rfl rfl)
theorem dX4_inRow_75 : decode cX4_inRow 75 = .ok (.if_icmp .ge 57, 3) := dk_162 0 57 (dk_at dksX4_inRow_3 4 rfl rfl)
theorem dX4_inRow_78 : decode cX4_inRow 78 = .ok (.aload_n 1, 1) := dk_43 (dk_at dksX4_inRow_3 7 rfl rfl)
theorem dX4_inRow_79 : decode cX4_inRow 79 = .ok (.iload 7, 2) := dk_21 7 (dk_at dksX4_inRow_3 8 rfl rfl)
theorem dX4_inRow_81 : decode cX4_inRow 81 = .ok (.invokeinterface 286 2, 5) := by decide +kernel
theorem dX4_inRow_86 : decode cX4_inRow 86 = .ok (.checkcast 30, 3) := dk_192 0 30 (dk_at dksX4_inRow_3 15 rfl rfl)
theorem dX4_inRow_89 : decode cX4_inRow 89 = .ok (.astore 8, 2) := dk_58 8 (dk_at dksX4_inRow_3 18 rfl rfl)
theorem dX4_inRow_91 : decode cX4_inRow 91 = .ok (.aload 8, 2) := dk_25 8 (dk_at dksX4_inRow_3 20 rfl rfl)
theorem dX4_inRow_93 : decode cX4_inRow 93 = .ok (.getfield 95, 3) := dk_180 0 95 (dk_at dksX4_inRow_4 0 rfl rfl)
theorem dX4_inRow_96 : decode cX4_inRow 96 = .ok (.ifCond .ge 30, 3) := dk_156 0 30 (dk_at dksX4_inRow_4 3 rfl rfl)
theorem dX4_inRow_99 : decode cX4_inRow 99 = .ok (.aload 8, 2) := dk_25 8 (dk_at dksX4_inRow_4 6 rfl rfl)
theorem dX4_inRow_101 : decode cX4_inRow 101 = .ok (.aload 8, 2) := dk_25 8 (dk_at dksX4_inRow_4 8 rfl rfl)
theorem dX4_inRow_103 : decode cX4_inRow 103 = .ok (.getfield 216, 3) := dk_180 0 216 (dk_at dksX4_inRow_4 10 rfl rfl)
theorem dX4_inRow_106 : decode cX4_inRow 106 = .ok (.iload 6, 2) := dk_21 6 (dk_at dksX4_inRow_4 13 rfl rfl)
theorem dX4_inRow_108 : decode cX4_inRow 108 = .ok (.aload 8, 2) := dk_25 8 (dk_at dksX4_inRow_4 15 rfl rfl)
theorem dX4_inRow_110 : decode cX4_inRow 110 = .ok (.invokevirtual 279, 3) := dk_182 1 23 (dk_at dksX4_inRow_4 17 rfl rfl)
theorem dX4_inRow_113 : decode cX4_inRow 113 = .ok (.isub, 1) := dk_100 (dk_at dksX4_inRow_4 20 rfl rfl)
theorem dX4_inRow_114 : decode cX4_inRow 114 = .ok (.aload 8, 2) := dk_25 8 (dk_at dksX4_inRow_4 21 rfl rfl)
theorem dX4_inRow_116 : decode cX4_inRow 116 = .ok (.invokevirtual 282, 3) := dk_182 1 26 (dk_at dksX4_inRow_5 0 rfl rfl)
theorem dX4_inRow_119 : decode cX4_inRow 119 = .ok (.isub, 1) := dk_100 (dk_at dksX4_inRow_5 3 rfl rfl)
theorem dX4_inRow_120 : decode cX4_inRow 120 = .ok (.invokestatic 163, 3) := dk_184 0 163 (dk_at dksX4_inRow_5 4 rfl rfl)
theorem dX4_inRow_123 : decode cX4_inRow 123 = .ok (.putfield 216, 3) := dk_181 0 216 (dk_at dksX4_inRow_5 7 rfl rfl)
theorem dX4_inRow_126 : decode cX4_inRow 126 = .ok (.iinc 7 1, 3) := dk_132 7 1 (dk_at dksX4_inRow_5 10 rfl rfl)
theorem dX4_inRow_129 : decode cX4_inRow 129 = .ok (.goto (-58), 3) := dk_167 255 198 (dk_at dksX4_inRow_5 13 rfl rfl)
theorem dX4_inRow_132 : decode cX4_inRow 132 = .ok (.iload 6, 2) := dk_21 6 (dk_at dksX4_inRow_5 16 rfl rfl)
theorem dX4_inRow_134 : decode cX4_inRow 134 = .ok (.ireturn, 1) := dk_172 (dk_at dksX4_inRow_5 18 rfl rfl)
abbrev cX4_grid : ByteArray := prog_14_method_42_code
def yX4_grid : MethodName := ⟨RX4, "grid", "(LColumnarPressModel$Box;Z)I"⟩
def dkwX4_grid_18 : List UInt8 := [54, 7, 21, 8, 43, 180, 0, 119, 96, 54, 8, 167, 255, 113, 21, 7, 43, 180, 0, 110, 96, 172]
abbrev dktX4_grid_18 : List UInt8 := dkwX4_grid_18 ++ []
def dkwX4_grid_17 : List UInt8 := [21, 11, 25, 4, 21, 12, 21, 8, 100, 46, 96, 54, 11, 132, 12, 1, 167, 255, 179, 21, 7, 21, 10, 96]
abbrev dktX4_grid_17 : List UInt8 := dkwX4_grid_17 ++ dktX4_grid_18
def dkwX4_grid_16 : List UInt8 := [182, 0, 58, 192, 0, 30, 21, 7, 45, 21, 12, 182, 0, 58, 192, 0, 30, 182, 1, 23, 96, 181, 0, 250]
abbrev dktX4_grid_16 : List UInt8 := dkwX4_grid_16 ++ dktX4_grid_17
def dkwX4_grid_15 : List UInt8 := [192, 0, 30, 21, 11, 45, 21, 12, 182, 0, 58, 192, 0, 30, 180, 0, 104, 96, 181, 0, 247, 45, 21, 12]
abbrev dktX4_grid_15 : List UInt8 := dkwX4_grid_15 ++ dktX4_grid_16
def dkwX4_grid_14 : List UInt8 := [180, 0, 110, 54, 11, 21, 8, 54, 12, 21, 12, 21, 9, 162, 0, 76, 45, 21, 12, 182, 0, 58]
abbrev dktX4_grid_14 : List UInt8 := dkwX4_grid_14 ++ dktX4_grid_15
def dkwX4_grid_13 : List UInt8 := [180, 0, 119, 96, 184, 0, 188, 54, 9, 42, 45, 25, 6, 21, 8, 21, 9, 28, 182, 1, 75, 54, 10, 43]
abbrev dktX4_grid_13 : List UInt8 := dkwX4_grid_13 ++ dktX4_grid_14
def dkwX4_grid_12 : List UInt8 := [180, 0, 110, 54, 7, 3, 54, 8, 21, 8, 25, 6, 190, 162, 0, 141, 25, 6, 190, 21, 8, 43]
abbrev dktX4_grid_12 : List UInt8 := dkwX4_grid_12 ++ dktX4_grid_13
def dkwX4_grid_11 : List UInt8 := [45, 21, 7, 182, 0, 58, 192, 0, 30, 180, 0, 110, 104, 184, 0, 163, 79, 132, 7, 1, 167, 255, 170, 43]
abbrev dktX4_grid_11 : List UInt8 := dkwX4_grid_11 ++ dktX4_grid_12
def dkwX4_grid_10 : List UInt8 := [25, 4, 21, 7, 43, 180, 0, 119, 112, 46, 45, 21, 7, 182, 0, 58, 192, 0, 30, 182, 0, 176, 100, 5]
abbrev dktX4_grid_10 : List UInt8 := dkwX4_grid_10 ++ dktX4_grid_11
def dkwX4_grid_9 : List UInt8 := [192, 0, 30, 180, 0, 92, 155, 0, 18, 45, 21, 7, 182, 0, 58, 192, 0, 30, 180, 0, 92, 167, 0, 43]
abbrev dktX4_grid_9 : List UInt8 := dkwX4_grid_9 ++ dktX4_grid_10
def dkwX4_grid_8 : List UInt8 := [58, 6, 3, 54, 7, 21, 7, 25, 6, 190, 162, 0, 84, 25, 6, 21, 7, 45, 21, 7, 182, 0, 58]
abbrev dktX4_grid_8 : List UInt8 := dkwX4_grid_8 ++ dktX4_grid_9
def dkwX4_grid_7 : List UInt8 := [112, 162, 0, 7, 4, 167, 0, 4, 3, 96, 96, 79, 132, 6, 1, 167, 255, 206, 45, 182, 0, 39, 188, 10]
abbrev dktX4_grid_7 : List UInt8 := dkwX4_grid_7 ++ dktX4_grid_8
def dkwX4_grid_6 : List UInt8 := [158, 0, 42, 25, 4, 21, 6, 92, 46, 21, 5, 43, 180, 0, 119, 108, 21, 6, 21, 5, 43, 180, 0, 119]
abbrev dktX4_grid_6 : List UInt8 := dkwX4_grid_6 ++ dktX4_grid_7
def dkwX4_grid_5 : List UInt8 := [54, 5, 132, 8, 1, 167, 255, 232, 3, 54, 6, 21, 6, 43, 180, 0, 119, 162, 0, 47, 21, 5]
abbrev dktX4_grid_5 : List UInt8 := dkwX4_grid_5 ++ dktX4_grid_6
def dkwX4_grid_4 : List UInt8 := [54, 7, 3, 54, 8, 21, 8, 21, 7, 162, 0, 23, 25, 6, 21, 8, 46, 54, 9, 21, 5, 21, 9, 100]
abbrev dktX4_grid_4 : List UInt8 := dkwX4_grid_4 ++ dktX4_grid_5
def dkwX4_grid_3 : List UInt8 := [96, 184, 0, 163, 79, 132, 5, 1, 167, 255, 195, 43, 184, 0, 232, 54, 5, 25, 4, 58, 6, 25, 6, 190]
abbrev dktX4_grid_3 : List UInt8 := dkwX4_grid_3 ++ dktX4_grid_4
def dkwX4_grid_2 : List UInt8 := [21, 5, 182, 0, 58, 192, 0, 30, 4, 184, 0, 172, 45, 21, 5, 182, 0, 58, 192, 0, 30, 182, 0, 176]
abbrev dktX4_grid_2 : List UInt8 := dkwX4_grid_2 ++ dktX4_grid_3
def dkwX4_grid_1 : List UInt8 := [162, 0, 58, 25, 4, 21, 5, 43, 180, 0, 119, 112, 25, 4, 21, 5, 43, 180, 0, 119, 112, 46, 45]
abbrev dktX4_grid_1 : List UInt8 := dkwX4_grid_1 ++ dktX4_grid_2
def dkwX4_grid_0 : List UInt8 := [43, 184, 1, 64, 78, 43, 180, 0, 119, 188, 10, 58, 4, 3, 54, 5, 21, 5, 45, 182, 0, 39]
abbrev dktX4_grid_0 : List UInt8 := dkwX4_grid_0 ++ dktX4_grid_1
theorem dksX4_grid_0 : cX4_grid.data.toList.drop 0 = dktX4_grid_0 := by decide +kernel
theorem dksX4_grid_1 : cX4_grid.data.toList.drop 22 = dktX4_grid_1 := dk_seg dksX4_grid_0 22 rfl rfl
theorem dksX4_grid_2 : cX4_grid.data.toList.drop 45 = dktX4_grid_2 := dk_seg dksX4_grid_1 23 rfl rfl
theorem dksX4_grid_3 : cX4_grid.data.toList.drop 69 = dktX4_grid_3 := dk_seg dksX4_grid_2 24 rfl rfl
theorem dksX4_grid_4 : cX4_grid.data.toList.drop 93 = dktX4_grid_4 := dk_seg dksX4_grid_3 24 rfl rfl
theorem dksX4_grid_5 : cX4_grid.data.toList.drop 117 = dktX4_grid_5 := dk_seg dksX4_grid_4 24 rfl rfl
theorem dksX4_grid_6 : cX4_grid.data.toList.drop 139 = dktX4_grid_6 := dk_seg dksX4_grid_5 22 rfl rfl
theorem dksX4_grid_7 : cX4_grid.data.toList.drop 163 = dktX4_grid_7 := dk_seg dksX4_grid_6 24 rfl rfl
theorem dksX4_grid_8 : cX4_grid.data.toList.drop 187 = dktX4_grid_8 := dk_seg dksX4_grid_7 24 rfl rfl
theorem dksX4_grid_9 : cX4_grid.data.toList.drop 210 = dktX4_grid_9 := dk_seg dksX4_grid_8 23 rfl rfl
theorem dksX4_grid_10 : cX4_grid.data.toList.drop 234 = dktX4_grid_10 := dk_seg dksX4_grid_9 24 rfl rfl
theorem dksX4_grid_11 : cX4_grid.data.toList.drop 258 = dktX4_grid_11 := dk_seg dksX4_grid_10 24 rfl rfl
theorem dksX4_grid_12 : cX4_grid.data.toList.drop 282 = dktX4_grid_12 := dk_seg dksX4_grid_11 24 rfl rfl
theorem dksX4_grid_13 : cX4_grid.data.toList.drop 304 = dktX4_grid_13 := dk_seg dksX4_grid_12 22 rfl rfl
theorem dksX4_grid_14 : cX4_grid.data.toList.drop 328 = dktX4_grid_14 := dk_seg dksX4_grid_13 24 rfl rfl
theorem dksX4_grid_15 : cX4_grid.data.toList.drop 350 = dktX4_grid_15 := dk_seg dksX4_grid_14 22 rfl rfl
theorem dksX4_grid_16 : cX4_grid.data.toList.drop 374 = dktX4_grid_16 := dk_seg dksX4_grid_15 24 rfl rfl
theorem dksX4_grid_17 : cX4_grid.data.toList.drop 398 = dktX4_grid_17 := dk_seg dksX4_grid_16 24 rfl rfl
theorem dksX4_grid_18 : cX4_grid.data.toList.drop 422 = dktX4_grid_18 := dk_seg dksX4_grid_17 24 rfl rfl
theorem dX4_grid_0 : decode cX4_grid 0 = .ok (.aload_n 1, 1) := dk_43 (dk_at dksX4_grid_0 0 rfl rfl)
theorem dX4_grid_1 : decode cX4_grid 1 = .ok (.invokestatic 320, 3) := dk_184 1 64 (dk_at dksX4_grid_0 1 rfl rfl)
theorem dX4_grid_4 : decode cX4_grid 4 = .ok (.astore_n 3, 1) := dk_78 (dk_at dksX4_grid_0 4 rfl rfl)
theorem dX4_grid_5 : decode cX4_grid 5 = .ok (.aload_n 1, 1) := dk_43 (dk_at dksX4_grid_0 5 rfl rfl)
theorem dX4_grid_6 : decode cX4_grid 6 = .ok (.getfield 119, 3) := dk_180 0 119 (dk_at dksX4_grid_0 6 rfl rfl)
theorem dX4_grid_9 : decode cX4_grid 9 = .ok (.newarray .int, 2) := dk_188_10 (dk_at dksX4_grid_0 9 rfl rfl)
theorem dX4_grid_11 : decode cX4_grid 11 = .ok (.astore 4, 2) := dk_58 4 (dk_at dksX4_grid_0 11 rfl rfl)
theorem dX4_grid_13 : decode cX4_grid 13 = .ok (.iconst 0, 1) := dk_3 (dk_at dksX4_grid_0 13 rfl rfl)
theorem dX4_grid_14 : decode cX4_grid 14 = .ok (.istore 5, 2) := dk_54 5 (dk_at dksX4_grid_0 14 rfl rfl)
theorem dX4_grid_16 : decode cX4_grid 16 = .ok (.iload 5, 2) := dk_21 5 (dk_at dksX4_grid_0 16 rfl rfl)
theorem dX4_grid_18 : decode cX4_grid 18 = .ok (.aload_n 3, 1) := dk_45 (dk_at dksX4_grid_0 18 rfl rfl)
theorem dX4_grid_19 : decode cX4_grid 19 = .ok (.invokevirtual 39, 3) := dk_182 0 39 (dk_at dksX4_grid_0 19 rfl rfl)
theorem dX4_grid_22 : decode cX4_grid 22 = .ok (.if_icmp .ge 58, 3) := dk_162 0 58 (dk_at dksX4_grid_1 0 rfl rfl)
theorem dX4_grid_25 : decode cX4_grid 25 = .ok (.aload 4, 2) := dk_25 4 (dk_at dksX4_grid_1 3 rfl rfl)
theorem dX4_grid_27 : decode cX4_grid 27 = .ok (.iload 5, 2) := dk_21 5 (dk_at dksX4_grid_1 5 rfl rfl)
theorem dX4_grid_29 : decode cX4_grid 29 = .ok (.aload_n 1, 1) := dk_43 (dk_at dksX4_grid_1 7 rfl rfl)
theorem dX4_grid_30 : decode cX4_grid 30 = .ok (.getfield 119, 3) := dk_180 0 119 (dk_at dksX4_grid_1 8 rfl rfl)
theorem dX4_grid_33 : decode cX4_grid 33 = .ok (.irem, 1) := dk_112 (dk_at dksX4_grid_1 11 rfl rfl)
theorem dX4_grid_34 : decode cX4_grid 34 = .ok (.aload 4, 2) := dk_25 4 (dk_at dksX4_grid_1 12 rfl rfl)
theorem dX4_grid_36 : decode cX4_grid 36 = .ok (.iload 5, 2) := dk_21 5 (dk_at dksX4_grid_1 14 rfl rfl)
theorem dX4_grid_38 : decode cX4_grid 38 = .ok (.aload_n 1, 1) := dk_43 (dk_at dksX4_grid_1 16 rfl rfl)
theorem dX4_grid_39 : decode cX4_grid 39 = .ok (.getfield 119, 3) := dk_180 0 119 (dk_at dksX4_grid_1 17 rfl rfl)
theorem dX4_grid_42 : decode cX4_grid 42 = .ok (.irem, 1) := dk_112 (dk_at dksX4_grid_1 20 rfl rfl)
theorem dX4_grid_43 : decode cX4_grid 43 = .ok (.iaload, 1) := dk_46 (dk_at dksX4_grid_1 21 rfl rfl)
theorem dX4_grid_44 : decode cX4_grid 44 = .ok (.aload_n 3, 1) := dk_45 (dk_at dksX4_grid_1 22 rfl rfl)
theorem dX4_grid_45 : decode cX4_grid 45 = .ok (.iload 5, 2) := dk_21 5 (dk_at dksX4_grid_2 0 rfl rfl)
theorem dX4_grid_47 : decode cX4_grid 47 = .ok (.invokevirtual 58, 3) := dk_182 0 58 (dk_at dksX4_grid_2 2 rfl rfl)
theorem dX4_grid_50 : decode cX4_grid 50 = .ok (.checkcast 30, 3) := dk_192 0 30 (dk_at dksX4_grid_2 5 rfl rfl)
theorem dX4_grid_53 : decode cX4_grid 53 = .ok (.iconst 1, 1) := dk_4 (dk_at dksX4_grid_2 8 rfl rfl)
theorem dX4_grid_54 : decode cX4_grid 54 = .ok (.invokestatic 172, 3) := dk_184 0 172 (dk_at dksX4_grid_2 9 rfl rfl)
theorem dX4_grid_57 : decode cX4_grid 57 = .ok (.aload_n 3, 1) := dk_45 (dk_at dksX4_grid_2 12 rfl rfl)
theorem dX4_grid_58 : decode cX4_grid 58 = .ok (.iload 5, 2) := dk_21 5 (dk_at dksX4_grid_2 13 rfl rfl)
theorem dX4_grid_60 : decode cX4_grid 60 = .ok (.invokevirtual 58, 3) := dk_182 0 58 (dk_at dksX4_grid_2 15 rfl rfl)
theorem dX4_grid_63 : decode cX4_grid 63 = .ok (.checkcast 30, 3) := dk_192 0 30 (dk_at dksX4_grid_2 18 rfl rfl)
theorem dX4_grid_66 : decode cX4_grid 66 = .ok (.invokevirtual 176, 3) := dk_182 0 176 (dk_at dksX4_grid_2 21 rfl rfl)
theorem dX4_grid_69 : decode cX4_grid 69 = .ok (.iadd, 1) := dk_96 (dk_at dksX4_grid_3 0 rfl rfl)
theorem dX4_grid_70 : decode cX4_grid 70 = .ok (.invokestatic 163, 3) := dk_184 0 163 (dk_at dksX4_grid_3 1 rfl rfl)
theorem dX4_grid_73 : decode cX4_grid 73 = .ok (.iastore, 1) := dk_79 (dk_at dksX4_grid_3 4 rfl rfl)
theorem dX4_grid_74 : decode cX4_grid 74 = .ok (.iinc 5 1, 3) := dk_132 5 1 (dk_at dksX4_grid_3 5 rfl rfl)
theorem dX4_grid_77 : decode cX4_grid 77 = .ok (.goto (-61), 3) := dk_167 255 195 (dk_at dksX4_grid_3 8 rfl rfl)
theorem dX4_grid_80 : decode cX4_grid 80 = .ok (.aload_n 1, 1) := dk_43 (dk_at dksX4_grid_3 11 rfl rfl)
theorem dX4_grid_81 : decode cX4_grid 81 = .ok (.invokestatic 232, 3) := dk_184 0 232 (dk_at dksX4_grid_3 12 rfl rfl)
theorem dX4_grid_84 : decode cX4_grid 84 = .ok (.istore 5, 2) := dk_54 5 (dk_at dksX4_grid_3 15 rfl rfl)
theorem dX4_grid_86 : decode cX4_grid 86 = .ok (.aload 4, 2) := dk_25 4 (dk_at dksX4_grid_3 17 rfl rfl)
theorem dX4_grid_88 : decode cX4_grid 88 = .ok (.astore 6, 2) := dk_58 6 (dk_at dksX4_grid_3 19 rfl rfl)
theorem dX4_grid_90 : decode cX4_grid 90 = .ok (.aload 6, 2) := dk_25 6 (dk_at dksX4_grid_3 21 rfl rfl)
theorem dX4_grid_92 : decode cX4_grid 92 = .ok (.arraylength, 1) := dk_190 (dk_at dksX4_grid_3 23 rfl rfl)
theorem dX4_grid_93 : decode cX4_grid 93 = .ok (.istore 7, 2) := dk_54 7 (dk_at dksX4_grid_4 0 rfl rfl)
theorem dX4_grid_95 : decode cX4_grid 95 = .ok (.iconst 0, 1) := dk_3 (dk_at dksX4_grid_4 2 rfl rfl)
theorem dX4_grid_96 : decode cX4_grid 96 = .ok (.istore 8, 2) := dk_54 8 (dk_at dksX4_grid_4 3 rfl rfl)
theorem dX4_grid_98 : decode cX4_grid 98 = .ok (.iload 8, 2) := dk_21 8 (dk_at dksX4_grid_4 5 rfl rfl)
theorem dX4_grid_100 : decode cX4_grid 100 = .ok (.iload 7, 2) := dk_21 7 (dk_at dksX4_grid_4 7 rfl rfl)
theorem dX4_grid_102 : decode cX4_grid 102 = .ok (.if_icmp .ge 23, 3) := dk_162 0 23 (dk_at dksX4_grid_4 9 rfl rfl)
theorem dX4_grid_105 : decode cX4_grid 105 = .ok (.aload 6, 2) := dk_25 6 (dk_at dksX4_grid_4 12 rfl rfl)
theorem dX4_grid_107 : decode cX4_grid 107 = .ok (.iload 8, 2) := dk_21 8 (dk_at dksX4_grid_4 14 rfl rfl)
theorem dX4_grid_109 : decode cX4_grid 109 = .ok (.iaload, 1) := dk_46 (dk_at dksX4_grid_4 16 rfl rfl)
theorem dX4_grid_110 : decode cX4_grid 110 = .ok (.istore 9, 2) := dk_54 9 (dk_at dksX4_grid_4 17 rfl rfl)
theorem dX4_grid_112 : decode cX4_grid 112 = .ok (.iload 5, 2) := dk_21 5 (dk_at dksX4_grid_4 19 rfl rfl)
theorem dX4_grid_114 : decode cX4_grid 114 = .ok (.iload 9, 2) := dk_21 9 (dk_at dksX4_grid_4 21 rfl rfl)
theorem dX4_grid_116 : decode cX4_grid 116 = .ok (.isub, 1) := dk_100 (dk_at dksX4_grid_4 23 rfl rfl)
theorem dX4_grid_117 : decode cX4_grid 117 = .ok (.istore 5, 2) := dk_54 5 (dk_at dksX4_grid_5 0 rfl rfl)
theorem dX4_grid_119 : decode cX4_grid 119 = .ok (.iinc 8 1, 3) := dk_132 8 1 (dk_at dksX4_grid_5 2 rfl rfl)
theorem dX4_grid_122 : decode cX4_grid 122 = .ok (.goto (-24), 3) := dk_167 255 232 (dk_at dksX4_grid_5 5 rfl rfl)
theorem dX4_grid_125 : decode cX4_grid 125 = .ok (.iconst 0, 1) := dk_3 (dk_at dksX4_grid_5 8 rfl rfl)
theorem dX4_grid_126 : decode cX4_grid 126 = .ok (.istore 6, 2) := dk_54 6 (dk_at dksX4_grid_5 9 rfl rfl)
theorem dX4_grid_128 : decode cX4_grid 128 = .ok (.iload 6, 2) := dk_21 6 (dk_at dksX4_grid_5 11 rfl rfl)
theorem dX4_grid_130 : decode cX4_grid 130 = .ok (.aload_n 1, 1) := dk_43 (dk_at dksX4_grid_5 13 rfl rfl)
theorem dX4_grid_131 : decode cX4_grid 131 = .ok (.getfield 119, 3) := dk_180 0 119 (dk_at dksX4_grid_5 14 rfl rfl)
theorem dX4_grid_134 : decode cX4_grid 134 = .ok (.if_icmp .ge 47, 3) := dk_162 0 47 (dk_at dksX4_grid_5 17 rfl rfl)
theorem dX4_grid_137 : decode cX4_grid 137 = .ok (.iload 5, 2) := dk_21 5 (dk_at dksX4_grid_5 20 rfl rfl)
theorem dX4_grid_139 : decode cX4_grid 139 = .ok (.ifCond .le 42, 3) := dk_158 0 42 (dk_at dksX4_grid_6 0 rfl rfl)
theorem dX4_grid_142 : decode cX4_grid 142 = .ok (.aload 4, 2) := dk_25 4 (dk_at dksX4_grid_6 3 rfl rfl)
theorem dX4_grid_144 : decode cX4_grid 144 = .ok (.iload 6, 2) := dk_21 6 (dk_at dksX4_grid_6 5 rfl rfl)
theorem dX4_grid_146 : decode cX4_grid 146 = .ok (.dup2, 1) := dk_92 (dk_at dksX4_grid_6 7 rfl rfl)
theorem dX4_grid_147 : decode cX4_grid 147 = .ok (.iaload, 1) := dk_46 (dk_at dksX4_grid_6 8 rfl rfl)
theorem dX4_grid_148 : decode cX4_grid 148 = .ok (.iload 5, 2) := dk_21 5 (dk_at dksX4_grid_6 9 rfl rfl)
theorem dX4_grid_150 : decode cX4_grid 150 = .ok (.aload_n 1, 1) := dk_43 (dk_at dksX4_grid_6 11 rfl rfl)
theorem dX4_grid_151 : decode cX4_grid 151 = .ok (.getfield 119, 3) := dk_180 0 119 (dk_at dksX4_grid_6 12 rfl rfl)
theorem dX4_grid_154 : decode cX4_grid 154 = .ok (.idiv, 1) := dk_108 (dk_at dksX4_grid_6 15 rfl rfl)
theorem dX4_grid_155 : decode cX4_grid 155 = .ok (.iload 6, 2) := dk_21 6 (dk_at dksX4_grid_6 16 rfl rfl)
theorem dX4_grid_157 : decode cX4_grid 157 = .ok (.iload 5, 2) := dk_21 5 (dk_at dksX4_grid_6 18 rfl rfl)
theorem dX4_grid_159 : decode cX4_grid 159 = .ok (.aload_n 1, 1) := dk_43 (dk_at dksX4_grid_6 20 rfl rfl)
theorem dX4_grid_160 : decode cX4_grid 160 = .ok (.getfield 119, 3) := dk_180 0 119 (dk_at dksX4_grid_6 21 rfl rfl)
theorem dX4_grid_163 : decode cX4_grid 163 = .ok (.irem, 1) := dk_112 (dk_at dksX4_grid_7 0 rfl rfl)
theorem dX4_grid_164 : decode cX4_grid 164 = .ok (.if_icmp .ge 7, 3) := dk_162 0 7 (dk_at dksX4_grid_7 1 rfl rfl)
theorem dX4_grid_167 : decode cX4_grid 167 = .ok (.iconst 1, 1) := dk_4 (dk_at dksX4_grid_7 4 rfl rfl)
theorem dX4_grid_168 : decode cX4_grid 168 = .ok (.goto 4, 3) := dk_167 0 4 (dk_at dksX4_grid_7 5 rfl rfl)
theorem dX4_grid_171 : decode cX4_grid 171 = .ok (.iconst 0, 1) := dk_3 (dk_at dksX4_grid_7 8 rfl rfl)
theorem dX4_grid_172 : decode cX4_grid 172 = .ok (.iadd, 1) := dk_96 (dk_at dksX4_grid_7 9 rfl rfl)
theorem dX4_grid_173 : decode cX4_grid 173 = .ok (.iadd, 1) := dk_96 (dk_at dksX4_grid_7 10 rfl rfl)
theorem dX4_grid_174 : decode cX4_grid 174 = .ok (.iastore, 1) := dk_79 (dk_at dksX4_grid_7 11 rfl rfl)
theorem dX4_grid_175 : decode cX4_grid 175 = .ok (.iinc 6 1, 3) := dk_132 6 1 (dk_at dksX4_grid_7 12 rfl rfl)
theorem dX4_grid_178 : decode cX4_grid 178 = .ok (.goto (-50), 3) := dk_167 255 206 (dk_at dksX4_grid_7 15 rfl rfl)
theorem dX4_grid_181 : decode cX4_grid 181 = .ok (.aload_n 3, 1) := dk_45 (dk_at dksX4_grid_7 18 rfl rfl)
theorem dX4_grid_182 : decode cX4_grid 182 = .ok (.invokevirtual 39, 3) := dk_182 0 39 (dk_at dksX4_grid_7 19 rfl rfl)
theorem dX4_grid_185 : decode cX4_grid 185 = .ok (.newarray .int, 2) := dk_188_10 (dk_at dksX4_grid_7 22 rfl rfl)
theorem dX4_grid_187 : decode cX4_grid 187 = .ok (.astore 6, 2) := dk_58 6 (dk_at dksX4_grid_8 0 rfl rfl)
theorem dX4_grid_189 : decode cX4_grid 189 = .ok (.iconst 0, 1) := dk_3 (dk_at dksX4_grid_8 2 rfl rfl)
theorem dX4_grid_190 : decode cX4_grid 190 = .ok (.istore 7, 2) := dk_54 7 (dk_at dksX4_grid_8 3 rfl rfl)
theorem dX4_grid_192 : decode cX4_grid 192 = .ok (.iload 7, 2) := dk_21 7 (dk_at dksX4_grid_8 5 rfl rfl)
theorem dX4_grid_194 : decode cX4_grid 194 = .ok (.aload 6, 2) := dk_25 6 (dk_at dksX4_grid_8 7 rfl rfl)
theorem dX4_grid_196 : decode cX4_grid 196 = .ok (.arraylength, 1) := dk_190 (dk_at dksX4_grid_8 9 rfl rfl)
theorem dX4_grid_197 : decode cX4_grid 197 = .ok (.if_icmp .ge 84, 3) := dk_162 0 84 (dk_at dksX4_grid_8 10 rfl rfl)
theorem dX4_grid_200 : decode cX4_grid 200 = .ok (.aload 6, 2) := dk_25 6 (dk_at dksX4_grid_8 13 rfl rfl)
theorem dX4_grid_202 : decode cX4_grid 202 = .ok (.iload 7, 2) := dk_21 7 (dk_at dksX4_grid_8 15 rfl rfl)
theorem dX4_grid_204 : decode cX4_grid 204 = .ok (.aload_n 3, 1) := dk_45 (dk_at dksX4_grid_8 17 rfl rfl)
theorem dX4_grid_205 : decode cX4_grid 205 = .ok (.iload 7, 2) := dk_21 7 (dk_at dksX4_grid_8 18 rfl rfl)
theorem dX4_grid_207 : decode cX4_grid 207 = .ok (.invokevirtual 58, 3) := dk_182 0 58 (dk_at dksX4_grid_8 20 rfl rfl)
theorem dX4_grid_210 : decode cX4_grid 210 = .ok (.checkcast 30, 3) := dk_192 0 30 (dk_at dksX4_grid_9 0 rfl rfl)
theorem dX4_grid_213 : decode cX4_grid 213 = .ok (.getfield 92, 3) := dk_180 0 92 (dk_at dksX4_grid_9 3 rfl rfl)
theorem dX4_grid_216 : decode cX4_grid 216 = .ok (.ifCond .lt 18, 3) := dk_155 0 18 (dk_at dksX4_grid_9 6 rfl rfl)
theorem dX4_grid_219 : decode cX4_grid 219 = .ok (.aload_n 3, 1) := dk_45 (dk_at dksX4_grid_9 9 rfl rfl)
theorem dX4_grid_220 : decode cX4_grid 220 = .ok (.iload 7, 2) := dk_21 7 (dk_at dksX4_grid_9 10 rfl rfl)
theorem dX4_grid_222 : decode cX4_grid 222 = .ok (.invokevirtual 58, 3) := dk_182 0 58 (dk_at dksX4_grid_9 12 rfl rfl)
theorem dX4_grid_225 : decode cX4_grid 225 = .ok (.checkcast 30, 3) := dk_192 0 30 (dk_at dksX4_grid_9 15 rfl rfl)
theorem dX4_grid_228 : decode cX4_grid 228 = .ok (.getfield 92, 3) := dk_180 0 92 (dk_at dksX4_grid_9 18 rfl rfl)
theorem dX4_grid_231 : decode cX4_grid 231 = .ok (.goto 43, 3) := dk_167 0 43 (dk_at dksX4_grid_9 21 rfl rfl)
theorem dX4_grid_234 : decode cX4_grid 234 = .ok (.aload 4, 2) := dk_25 4 (dk_at dksX4_grid_10 0 rfl rfl)
theorem dX4_grid_236 : decode cX4_grid 236 = .ok (.iload 7, 2) := dk_21 7 (dk_at dksX4_grid_10 2 rfl rfl)
theorem dX4_grid_238 : decode cX4_grid 238 = .ok (.aload_n 1, 1) := dk_43 (dk_at dksX4_grid_10 4 rfl rfl)
theorem dX4_grid_239 : decode cX4_grid 239 = .ok (.getfield 119, 3) := dk_180 0 119 (dk_at dksX4_grid_10 5 rfl rfl)
theorem dX4_grid_242 : decode cX4_grid 242 = .ok (.irem, 1) := dk_112 (dk_at dksX4_grid_10 8 rfl rfl)
theorem dX4_grid_243 : decode cX4_grid 243 = .ok (.iaload, 1) := dk_46 (dk_at dksX4_grid_10 9 rfl rfl)
theorem dX4_grid_244 : decode cX4_grid 244 = .ok (.aload_n 3, 1) := dk_45 (dk_at dksX4_grid_10 10 rfl rfl)
theorem dX4_grid_245 : decode cX4_grid 245 = .ok (.iload 7, 2) := dk_21 7 (dk_at dksX4_grid_10 11 rfl rfl)
theorem dX4_grid_247 : decode cX4_grid 247 = .ok (.invokevirtual 58, 3) := dk_182 0 58 (dk_at dksX4_grid_10 13 rfl rfl)
theorem dX4_grid_250 : decode cX4_grid 250 = .ok (.checkcast 30, 3) := dk_192 0 30 (dk_at dksX4_grid_10 16 rfl rfl)
theorem dX4_grid_253 : decode cX4_grid 253 = .ok (.invokevirtual 176, 3) := dk_182 0 176 (dk_at dksX4_grid_10 19 rfl rfl)
theorem dX4_grid_256 : decode cX4_grid 256 = .ok (.isub, 1) := dk_100 (dk_at dksX4_grid_10 22 rfl rfl)
theorem dX4_grid_257 : decode cX4_grid 257 = .ok (.iconst 2, 1) := dk_5 (dk_at dksX4_grid_10 23 rfl rfl)
theorem dX4_grid_258 : decode cX4_grid 258 = .ok (.aload_n 3, 1) := dk_45 (dk_at dksX4_grid_11 0 rfl rfl)
theorem dX4_grid_259 : decode cX4_grid 259 = .ok (.iload 7, 2) := dk_21 7 (dk_at dksX4_grid_11 1 rfl rfl)
theorem dX4_grid_261 : decode cX4_grid 261 = .ok (.invokevirtual 58, 3) := dk_182 0 58 (dk_at dksX4_grid_11 3 rfl rfl)
theorem dX4_grid_264 : decode cX4_grid 264 = .ok (.checkcast 30, 3) := dk_192 0 30 (dk_at dksX4_grid_11 6 rfl rfl)
theorem dX4_grid_267 : decode cX4_grid 267 = .ok (.getfield 110, 3) := dk_180 0 110 (dk_at dksX4_grid_11 9 rfl rfl)
theorem dX4_grid_270 : decode cX4_grid 270 = .ok (.imul, 1) := dk_104 (dk_at dksX4_grid_11 12 rfl rfl)
theorem dX4_grid_271 : decode cX4_grid 271 = .ok (.invokestatic 163, 3) := dk_184 0 163 (dk_at dksX4_grid_11 13 rfl rfl)
theorem dX4_grid_274 : decode cX4_grid 274 = .ok (.iastore, 1) := dk_79 (dk_at dksX4_grid_11 16 rfl rfl)
theorem dX4_grid_275 : decode cX4_grid 275 = .ok (.iinc 7 1, 3) := dk_132 7 1 (dk_at dksX4_grid_11 17 rfl rfl)
theorem dX4_grid_278 : decode cX4_grid 278 = .ok (.goto (-86), 3) := dk_167 255 170 (dk_at dksX4_grid_11 20 rfl rfl)
theorem dX4_grid_281 : decode cX4_grid 281 = .ok (.aload_n 1, 1) := dk_43 (dk_at dksX4_grid_11 23 rfl rfl)
theorem dX4_grid_282 : decode cX4_grid 282 = .ok (.getfield 110, 3) := dk_180 0 110 (dk_at dksX4_grid_12 0 rfl rfl)
theorem dX4_grid_285 : decode cX4_grid 285 = .ok (.istore 7, 2) := dk_54 7 (dk_at dksX4_grid_12 3 rfl rfl)
theorem dX4_grid_287 : decode cX4_grid 287 = .ok (.iconst 0, 1) := dk_3 (dk_at dksX4_grid_12 5 rfl rfl)
theorem dX4_grid_288 : decode cX4_grid 288 = .ok (.istore 8, 2) := dk_54 8 (dk_at dksX4_grid_12 6 rfl rfl)
theorem dX4_grid_290 : decode cX4_grid 290 = .ok (.iload 8, 2) := dk_21 8 (dk_at dksX4_grid_12 8 rfl rfl)
theorem dX4_grid_292 : decode cX4_grid 292 = .ok (.aload 6, 2) := dk_25 6 (dk_at dksX4_grid_12 10 rfl rfl)
theorem dX4_grid_294 : decode cX4_grid 294 = .ok (.arraylength, 1) := dk_190 (dk_at dksX4_grid_12 12 rfl rfl)
theorem dX4_grid_295 : decode cX4_grid 295 = .ok (.if_icmp .ge 141, 3) := dk_162 0 141 (dk_at dksX4_grid_12 13 rfl rfl)
theorem dX4_grid_298 : decode cX4_grid 298 = .ok (.aload 6, 2) := dk_25 6 (dk_at dksX4_grid_12 16 rfl rfl)
theorem dX4_grid_300 : decode cX4_grid 300 = .ok (.arraylength, 1) := dk_190 (dk_at dksX4_grid_12 18 rfl rfl)
theorem dX4_grid_301 : decode cX4_grid 301 = .ok (.iload 8, 2) := dk_21 8 (dk_at dksX4_grid_12 19 rfl rfl)
theorem dX4_grid_303 : decode cX4_grid 303 = .ok (.aload_n 1, 1) := dk_43 (dk_at dksX4_grid_12 21 rfl rfl)
theorem dX4_grid_304 : decode cX4_grid 304 = .ok (.getfield 119, 3) := dk_180 0 119 (dk_at dksX4_grid_13 0 rfl rfl)
theorem dX4_grid_307 : decode cX4_grid 307 = .ok (.iadd, 1) := dk_96 (dk_at dksX4_grid_13 3 rfl rfl)
theorem dX4_grid_308 : decode cX4_grid 308 = .ok (.invokestatic 188, 3) := dk_184 0 188 (dk_at dksX4_grid_13 4 rfl rfl)
theorem dX4_grid_311 : decode cX4_grid 311 = .ok (.istore 9, 2) := dk_54 9 (dk_at dksX4_grid_13 7 rfl rfl)
theorem dX4_grid_313 : decode cX4_grid 313 = .ok (.aload_n 0, 1) := dk_42 (dk_at dksX4_grid_13 9 rfl rfl)
theorem dX4_grid_314 : decode cX4_grid 314 = .ok (.aload_n 3, 1) := dk_45 (dk_at dksX4_grid_13 10 rfl rfl)
theorem dX4_grid_315 : decode cX4_grid 315 = .ok (.aload 6, 2) := dk_25 6 (dk_at dksX4_grid_13 11 rfl rfl)
theorem dX4_grid_317 : decode cX4_grid 317 = .ok (.iload 8, 2) := dk_21 8 (dk_at dksX4_grid_13 13 rfl rfl)
theorem dX4_grid_319 : decode cX4_grid 319 = .ok (.iload 9, 2) := dk_21 9 (dk_at dksX4_grid_13 15 rfl rfl)
theorem dX4_grid_321 : decode cX4_grid 321 = .ok (.iload_n 2, 1) := dk_28 (dk_at dksX4_grid_13 17 rfl rfl)
theorem dX4_grid_322 : decode cX4_grid 322 = .ok (.invokevirtual 331, 3) := dk_182 1 75 (dk_at dksX4_grid_13 18 rfl rfl)
theorem dX4_grid_325 : decode cX4_grid 325 = .ok (.istore 10, 2) := dk_54 10 (dk_at dksX4_grid_13 21 rfl rfl)
theorem dX4_grid_327 : decode cX4_grid 327 = .ok (.aload_n 1, 1) := dk_43 (dk_at dksX4_grid_13 23 rfl rfl)
theorem dX4_grid_328 : decode cX4_grid 328 = .ok (.getfield 110, 3) := dk_180 0 110 (dk_at dksX4_grid_14 0 rfl rfl)
theorem dX4_grid_331 : decode cX4_grid 331 = .ok (.istore 11, 2) := dk_54 11 (dk_at dksX4_grid_14 3 rfl rfl)
theorem dX4_grid_333 : decode cX4_grid 333 = .ok (.iload 8, 2) := dk_21 8 (dk_at dksX4_grid_14 5 rfl rfl)
theorem dX4_grid_335 : decode cX4_grid 335 = .ok (.istore 12, 2) := dk_54 12 (dk_at dksX4_grid_14 7 rfl rfl)
theorem dX4_grid_337 : decode cX4_grid 337 = .ok (.iload 12, 2) := dk_21 12 (dk_at dksX4_grid_14 9 rfl rfl)
theorem dX4_grid_339 : decode cX4_grid 339 = .ok (.iload 9, 2) := dk_21 9 (dk_at dksX4_grid_14 11 rfl rfl)
theorem dX4_grid_341 : decode cX4_grid 341 = .ok (.if_icmp .ge 76, 3) := dk_162 0 76 (dk_at dksX4_grid_14 13 rfl rfl)
theorem dX4_grid_344 : decode cX4_grid 344 = .ok (.aload_n 3, 1) := dk_45 (dk_at dksX4_grid_14 16 rfl rfl)
theorem dX4_grid_345 : decode cX4_grid 345 = .ok (.iload 12, 2) := dk_21 12 (dk_at dksX4_grid_14 17 rfl rfl)
theorem dX4_grid_347 : decode cX4_grid 347 = .ok (.invokevirtual 58, 3) := dk_182 0 58 (dk_at dksX4_grid_14 19 rfl rfl)
theorem dX4_grid_350 : decode cX4_grid 350 = .ok (.checkcast 30, 3) := dk_192 0 30 (dk_at dksX4_grid_15 0 rfl rfl)
theorem dX4_grid_353 : decode cX4_grid 353 = .ok (.iload 11, 2) := dk_21 11 (dk_at dksX4_grid_15 3 rfl rfl)
theorem dX4_grid_355 : decode cX4_grid 355 = .ok (.aload_n 3, 1) := dk_45 (dk_at dksX4_grid_15 5 rfl rfl)
theorem dX4_grid_356 : decode cX4_grid 356 = .ok (.iload 12, 2) := dk_21 12 (dk_at dksX4_grid_15 6 rfl rfl)
theorem dX4_grid_358 : decode cX4_grid 358 = .ok (.invokevirtual 58, 3) := dk_182 0 58 (dk_at dksX4_grid_15 8 rfl rfl)
theorem dX4_grid_361 : decode cX4_grid 361 = .ok (.checkcast 30, 3) := dk_192 0 30 (dk_at dksX4_grid_15 11 rfl rfl)
theorem dX4_grid_364 : decode cX4_grid 364 = .ok (.getfield 104, 3) := dk_180 0 104 (dk_at dksX4_grid_15 14 rfl rfl)
theorem dX4_grid_367 : decode cX4_grid 367 = .ok (.iadd, 1) := dk_96 (dk_at dksX4_grid_15 17 rfl rfl)
theorem dX4_grid_368 : decode cX4_grid 368 = .ok (.putfield 247, 3) := dk_181 0 247 (dk_at dksX4_grid_15 18 rfl rfl)
theorem dX4_grid_371 : decode cX4_grid 371 = .ok (.aload_n 3, 1) := dk_45 (dk_at dksX4_grid_15 21 rfl rfl)
theorem dX4_grid_372 : decode cX4_grid 372 = .ok (.iload 12, 2) := dk_21 12 (dk_at dksX4_grid_15 22 rfl rfl)
theorem dX4_grid_374 : decode cX4_grid 374 = .ok (.invokevirtual 58, 3) := dk_182 0 58 (dk_at dksX4_grid_16 0 rfl rfl)
theorem dX4_grid_377 : decode cX4_grid 377 = .ok (.checkcast 30, 3) := dk_192 0 30 (dk_at dksX4_grid_16 3 rfl rfl)
theorem dX4_grid_380 : decode cX4_grid 380 = .ok (.iload 7, 2) := dk_21 7 (dk_at dksX4_grid_16 6 rfl rfl)
theorem dX4_grid_382 : decode cX4_grid 382 = .ok (.aload_n 3, 1) := dk_45 (dk_at dksX4_grid_16 8 rfl rfl)
theorem dX4_grid_383 : decode cX4_grid 383 = .ok (.iload 12, 2) := dk_21 12 (dk_at dksX4_grid_16 9 rfl rfl)
theorem dX4_grid_385 : decode cX4_grid 385 = .ok (.invokevirtual 58, 3) := dk_182 0 58 (dk_at dksX4_grid_16 11 rfl rfl)
theorem dX4_grid_388 : decode cX4_grid 388 = .ok (.checkcast 30, 3) := dk_192 0 30 (dk_at dksX4_grid_16 14 rfl rfl)
theorem dX4_grid_391 : decode cX4_grid 391 = .ok (.invokevirtual 279, 3) := dk_182 1 23 (dk_at dksX4_grid_16 17 rfl rfl)
theorem dX4_grid_394 : decode cX4_grid 394 = .ok (.iadd, 1) := dk_96 (dk_at dksX4_grid_16 20 rfl rfl)
theorem dX4_grid_395 : decode cX4_grid 395 = .ok (.putfield 250, 3) := dk_181 0 250 (dk_at dksX4_grid_16 21 rfl rfl)
theorem dX4_grid_398 : decode cX4_grid 398 = .ok (.iload 11, 2) := dk_21 11 (dk_at dksX4_grid_17 0 rfl rfl)
theorem dX4_grid_400 : decode cX4_grid 400 = .ok (.aload 4, 2) := dk_25 4 (dk_at dksX4_grid_17 2 rfl rfl)
theorem dX4_grid_402 : decode cX4_grid 402 = .ok (.iload 12, 2) := dk_21 12 (dk_at dksX4_grid_17 4 rfl rfl)
theorem dX4_grid_404 : decode cX4_grid 404 = .ok (.iload 8, 2) := dk_21 8 (dk_at dksX4_grid_17 6 rfl rfl)
theorem dX4_grid_406 : decode cX4_grid 406 = .ok (.isub, 1) := dk_100 (dk_at dksX4_grid_17 8 rfl rfl)
theorem dX4_grid_407 : decode cX4_grid 407 = .ok (.iaload, 1) := dk_46 (dk_at dksX4_grid_17 9 rfl rfl)
theorem dX4_grid_408 : decode cX4_grid 408 = .ok (.iadd, 1) := dk_96 (dk_at dksX4_grid_17 10 rfl rfl)
theorem dX4_grid_409 : decode cX4_grid 409 = .ok (.istore 11, 2) := dk_54 11 (dk_at dksX4_grid_17 11 rfl rfl)
theorem dX4_grid_411 : decode cX4_grid 411 = .ok (.iinc 12 1, 3) := dk_132 12 1 (dk_at dksX4_grid_17 13 rfl rfl)
theorem dX4_grid_414 : decode cX4_grid 414 = .ok (.goto (-77), 3) := dk_167 255 179 (dk_at dksX4_grid_17 16 rfl rfl)
theorem dX4_grid_417 : decode cX4_grid 417 = .ok (.iload 7, 2) := dk_21 7 (dk_at dksX4_grid_17 19 rfl rfl)
theorem dX4_grid_419 : decode cX4_grid 419 = .ok (.iload 10, 2) := dk_21 10 (dk_at dksX4_grid_17 21 rfl rfl)
theorem dX4_grid_421 : decode cX4_grid 421 = .ok (.iadd, 1) := dk_96 (dk_at dksX4_grid_17 23 rfl rfl)
theorem dX4_grid_422 : decode cX4_grid 422 = .ok (.istore 7, 2) := dk_54 7 (dk_at dksX4_grid_18 0 rfl rfl)
theorem dX4_grid_424 : decode cX4_grid 424 = .ok (.iload 8, 2) := dk_21 8 (dk_at dksX4_grid_18 2 rfl rfl)
theorem dX4_grid_426 : decode cX4_grid 426 = .ok (.aload_n 1, 1) := dk_43 (dk_at dksX4_grid_18 4 rfl rfl)
theorem dX4_grid_427 : decode cX4_grid 427 = .ok (.getfield 119, 3) := dk_180 0 119 (dk_at dksX4_grid_18 5 rfl rfl)
theorem dX4_grid_430 : decode cX4_grid 430 = .ok (.iadd, 1) := dk_96 (dk_at dksX4_grid_18 8 rfl rfl)
theorem dX4_grid_431 : decode cX4_grid 431 = .ok (.istore 8, 2) := dk_54 8 (dk_at dksX4_grid_18 9 rfl rfl)
theorem dX4_grid_433 : decode cX4_grid 433 = .ok (.goto (-143), 3) := dk_167 255 113 (dk_at dksX4_grid_18 11 rfl rfl)
theorem dX4_grid_436 : decode cX4_grid 436 = .ok (.iload 7, 2) := dk_21 7 (dk_at dksX4_grid_18 14 rfl rfl)
theorem dX4_grid_438 : decode cX4_grid 438 = .ok (.aload_n 1, 1) := dk_43 (dk_at dksX4_grid_18 16 rfl rfl)
theorem dX4_grid_439 : decode cX4_grid 439 = .ok (.getfield 110, 3) := dk_180 0 110 (dk_at dksX4_grid_18 17 rfl rfl)
theorem dX4_grid_442 : decode cX4_grid 442 = .ok (.iadd, 1) := dk_96 (dk_at dksX4_grid_18 20 rfl rfl)
theorem dX4_grid_443 : decode cX4_grid 443 = .ok (.ireturn, 1) := dk_172 (dk_at dksX4_grid_18 21 rfl rfl)
abbrev cX4_around : ByteArray := prog_14_method_43_code
def yX4_around : MethodName := ⟨RX4, "around", "(LColumnarPressModel$Box;)LColumnarPressModel$Box;"⟩
def dkwX4_around_1 : List UInt8 := [180, 0, 54, 76, 167, 255, 235, 43, 176]
abbrev dktX4_around_1 : List UInt8 := dkwX4_around_1 ++ []
def dkwX4_around_0 : List UInt8 := [42, 180, 0, 54, 76, 43, 180, 0, 54, 198, 0, 20, 43, 180, 0, 125, 16, 115, 160, 0, 11, 43]
abbrev dktX4_around_0 : List UInt8 := dkwX4_around_0 ++ dktX4_around_1
theorem dksX4_around_0 : cX4_around.data.toList.drop 0 = dktX4_around_0 := by decide +kernel
theorem dksX4_around_1 : cX4_around.data.toList.drop 22 = dktX4_around_1 := dk_seg dksX4_around_0 22 rfl rfl
theorem dX4_around_0 : decode cX4_around 0 = .ok (.aload_n 0, 1) := dk_42 (dk_at dksX4_around_0 0 rfl rfl)
theorem dX4_around_1 : decode cX4_around 1 = .ok (.getfield 54, 3) := dk_180 0 54 (dk_at dksX4_around_0 1 rfl rfl)
theorem dX4_around_4 : decode cX4_around 4 = .ok (.astore_n 1, 1) := dk_76 (dk_at dksX4_around_0 4 rfl rfl)
theorem dX4_around_5 : decode cX4_around 5 = .ok (.aload_n 1, 1) := dk_43 (dk_at dksX4_around_0 5 rfl rfl)
theorem dX4_around_6 : decode cX4_around 6 = .ok (.getfield 54, 3) := dk_180 0 54 (dk_at dksX4_around_0 6 rfl rfl)
theorem dX4_around_9 : decode cX4_around 9 = .ok (.ifnull 20, 3) := dk_198 0 20 (dk_at dksX4_around_0 9 rfl rfl)
theorem dX4_around_12 : decode cX4_around 12 = .ok (.aload_n 1, 1) := dk_43 (dk_at dksX4_around_0 12 rfl rfl)
theorem dX4_around_13 : decode cX4_around 13 = .ok (.getfield 125, 3) := dk_180 0 125 (dk_at dksX4_around_0 13 rfl rfl)
theorem dX4_around_16 : decode cX4_around 16 = .ok (.bipush 115, 2) := dk_16 115 (dk_at dksX4_around_0 16 rfl rfl)
theorem dX4_around_18 : decode cX4_around 18 = .ok (.if_icmp .ne 11, 3) := dk_160 0 11 (dk_at dksX4_around_0 18 rfl rfl)
theorem dX4_around_21 : decode cX4_around 21 = .ok (.aload_n 1, 1) := dk_43 (dk_at dksX4_around_0 21 rfl rfl)
theorem dX4_around_22 : decode cX4_around 22 = .ok (.getfield 54, 3) := dk_180 0 54 (dk_at dksX4_around_1 0 rfl rfl)
theorem dX4_around_25 : decode cX4_around 25 = .ok (.astore_n 1, 1) := dk_76 (dk_at dksX4_around_1 3 rfl rfl)
theorem dX4_around_26 : decode cX4_around 26 = .ok (.goto (-21), 3) := dk_167 255 235 (dk_at dksX4_around_1 4 rfl rfl)
theorem dX4_around_29 : decode cX4_around 29 = .ok (.aload_n 1, 1) := dk_43 (dk_at dksX4_around_1 7 rfl rfl)
theorem dX4_around_30 : decode cX4_around 30 = .ok (.areturn, 1) := dk_176 (dk_at dksX4_around_1 8 rfl rfl)
abbrev cX4_xOf : ByteArray := prog_14_method_47_code
def yX4_xOf : MethodName := ⟨RX4, "xOf", "(I)I"⟩
def dkwX4_xOf_1 : List UInt8 := [184, 1, 88, 182, 1, 92, 172]
abbrev dktX4_xOf_1 : List UInt8 := dkwX4_xOf_1 ++ []
def dkwX4_xOf_0 : List UInt8 := [42, 27, 182, 1, 96, 158, 0, 7, 3, 167, 0, 20, 42, 180, 0, 10, 27, 182, 0, 58, 192, 0, 30]
abbrev dktX4_xOf_0 : List UInt8 := dkwX4_xOf_0 ++ dktX4_xOf_1
theorem dksX4_xOf_0 : cX4_xOf.data.toList.drop 0 = dktX4_xOf_0 := by decide +kernel
theorem dksX4_xOf_1 : cX4_xOf.data.toList.drop 23 = dktX4_xOf_1 := dk_seg dksX4_xOf_0 23 rfl rfl
theorem dX4_xOf_0 : decode cX4_xOf 0 = .ok (.aload_n 0, 1) := dk_42 (dk_at dksX4_xOf_0 0 rfl rfl)
theorem dX4_xOf_1 : decode cX4_xOf 1 = .ok (.iload_n 1, 1) := dk_27 (dk_at dksX4_xOf_0 1 rfl rfl)
theorem dX4_xOf_2 : decode cX4_xOf 2 = .ok (.invokevirtual 352, 3) := dk_182 1 96 (dk_at dksX4_xOf_0 2 rfl rfl)
theorem dX4_xOf_5 : decode cX4_xOf 5 = .ok (.ifCond .le 7, 3) := dk_158 0 7 (dk_at dksX4_xOf_0 5 rfl rfl)
theorem dX4_xOf_8 : decode cX4_xOf 8 = .ok (.iconst 0, 1) := dk_3 (dk_at dksX4_xOf_0 8 rfl rfl)
theorem dX4_xOf_9 : decode cX4_xOf 9 = .ok (.goto 20, 3) := dk_167 0 20 (dk_at dksX4_xOf_0 9 rfl rfl)
theorem dX4_xOf_12 : decode cX4_xOf 12 = .ok (.aload_n 0, 1) := dk_42 (dk_at dksX4_xOf_0 12 rfl rfl)
theorem dX4_xOf_13 : decode cX4_xOf 13 = .ok (.getfield 10, 3) := dk_180 0 10 (dk_at dksX4_xOf_0 13 rfl rfl)
theorem dX4_xOf_16 : decode cX4_xOf 16 = .ok (.iload_n 1, 1) := dk_27 (dk_at dksX4_xOf_0 16 rfl rfl)
theorem dX4_xOf_17 : decode cX4_xOf 17 = .ok (.invokevirtual 58, 3) := dk_182 0 58 (dk_at dksX4_xOf_0 17 rfl rfl)
theorem dX4_xOf_20 : decode cX4_xOf 20 = .ok (.checkcast 30, 3) := dk_192 0 30 (dk_at dksX4_xOf_0 20 rfl rfl)
theorem dX4_xOf_23 : decode cX4_xOf 23 = .ok (.invokestatic 344, 3) := dk_184 1 88 (dk_at dksX4_xOf_1 0 rfl rfl)
theorem dX4_xOf_26 : decode cX4_xOf 26 = .ok (.invokevirtual 348, 3) := dk_182 1 92 (dk_at dksX4_xOf_1 3 rfl rfl)
theorem dX4_xOf_29 : decode cX4_xOf 29 = .ok (.ireturn, 1) := dk_172 (dk_at dksX4_xOf_1 6 rfl rfl)
abbrev cX4_wrongNow : ByteArray := prog_14_method_46_code
def yX4_wrongNow : MethodName := ⟨RX4, "wrongNow", "(I)I"⟩
def dkwX4_wrongNow_1 : List UInt8 := [3, 181, 0, 16, 42, 180, 0, 16, 172]
abbrev dktX4_wrongNow_1 : List UInt8 := dkwX4_wrongNow_1 ++ []
def dkwX4_wrongNow_0 : List UInt8 := [42, 42, 27, 182, 0, 47, 154, 0, 7, 4, 167, 0, 15, 42, 180, 0, 26, 154, 0, 7, 5, 167, 0, 4]
abbrev dktX4_wrongNow_0 : List UInt8 := dkwX4_wrongNow_0 ++ dktX4_wrongNow_1
theorem dksX4_wrongNow_0 : cX4_wrongNow.data.toList.drop 0 = dktX4_wrongNow_0 := by decide +kernel
theorem dksX4_wrongNow_1 : cX4_wrongNow.data.toList.drop 24 = dktX4_wrongNow_1 := dk_seg dksX4_wrongNow_0 24 rfl rfl
theorem dX4_wrongNow_0 : decode cX4_wrongNow 0 = .ok (.aload_n 0, 1) := dk_42 (dk_at dksX4_wrongNow_0 0 rfl rfl)
theorem dX4_wrongNow_1 : decode cX4_wrongNow 1 = .ok (.aload_n 0, 1) := dk_42 (dk_at dksX4_wrongNow_0 1 rfl rfl)
theorem dX4_wrongNow_2 : decode cX4_wrongNow 2 = .ok (.iload_n 1, 1) := dk_27 (dk_at dksX4_wrongNow_0 2 rfl rfl)
theorem dX4_wrongNow_3 : decode cX4_wrongNow 3 = .ok (.invokevirtual 47, 3) := dk_182 0 47 (dk_at dksX4_wrongNow_0 3 rfl rfl)
theorem dX4_wrongNow_6 : decode cX4_wrongNow 6 = .ok (.ifCond .ne 7, 3) := dk_154 0 7 (dk_at dksX4_wrongNow_0 6 rfl rfl)
theorem dX4_wrongNow_9 : decode cX4_wrongNow 9 = .ok (.iconst 1, 1) := dk_4 (dk_at dksX4_wrongNow_0 9 rfl rfl)
theorem dX4_wrongNow_10 : decode cX4_wrongNow 10 = .ok (.goto 15, 3) := dk_167 0 15 (dk_at dksX4_wrongNow_0 10 rfl rfl)
theorem dX4_wrongNow_13 : decode cX4_wrongNow 13 = .ok (.aload_n 0, 1) := dk_42 (dk_at dksX4_wrongNow_0 13 rfl rfl)
theorem dX4_wrongNow_14 : decode cX4_wrongNow 14 = .ok (.getfield 26, 3) := dk_180 0 26 (dk_at dksX4_wrongNow_0 14 rfl rfl)
theorem dX4_wrongNow_17 : decode cX4_wrongNow 17 = .ok (.ifCond .ne 7, 3) := dk_154 0 7 (dk_at dksX4_wrongNow_0 17 rfl rfl)
theorem dX4_wrongNow_20 : decode cX4_wrongNow 20 = .ok (.iconst 2, 1) := dk_5 (dk_at dksX4_wrongNow_0 20 rfl rfl)
theorem dX4_wrongNow_21 : decode cX4_wrongNow 21 = .ok (.goto 4, 3) := dk_167 0 4 (dk_at dksX4_wrongNow_0 21 rfl rfl)
theorem dX4_wrongNow_24 : decode cX4_wrongNow 24 = .ok (.iconst 0, 1) := dk_3 (dk_at dksX4_wrongNow_1 0 rfl rfl)
theorem dX4_wrongNow_25 : decode cX4_wrongNow 25 = .ok (.putfield 16, 3) := dk_181 0 16 (dk_at dksX4_wrongNow_1 1 rfl rfl)
theorem dX4_wrongNow_28 : decode cX4_wrongNow 28 = .ok (.aload_n 0, 1) := dk_42 (dk_at dksX4_wrongNow_1 4 rfl rfl)
theorem dX4_wrongNow_29 : decode cX4_wrongNow 29 = .ok (.getfield 16, 3) := dk_180 0 16 (dk_at dksX4_wrongNow_1 5 rfl rfl)
theorem dX4_wrongNow_32 : decode cX4_wrongNow 32 = .ok (.ireturn, 1) := dk_172 (dk_at dksX4_wrongNow_1 8 rfl rfl)
abbrev cX4_point : ByteArray := prog_14_method_45_code
def yX4_point : MethodName := ⟨RX4, "point", "(LColumnarPressModel$Box;)LColumnarPressModel$Point;"⟩
def dkwX4_point_7 : List UInt8 := [182, 1, 92, 21, 4, 96, 43, 182, 1, 94, 21, 5, 96, 183, 1, 85, 176]
abbrev dktX4_point_7 : List UInt8 := dkwX4_point_7 ++ []
def dkwX4_point_6 : List UInt8 := [180, 0, 250, 100, 29, 153, 0, 10, 42, 180, 0, 131, 167, 0, 4, 3, 96, 54, 5, 187, 1, 83, 89, 43]
abbrev dktX4_point_6 : List UInt8 := dkwX4_point_6 ++ dktX4_point_7
def dkwX4_point_5 : List UInt8 := [167, 0, 4, 3, 96, 54, 4, 42, 180, 0, 250, 28, 153, 0, 7, 3, 167, 0, 10, 42, 180, 0, 54]
abbrev dktX4_point_5 : List UInt8 := dkwX4_point_5 ++ dktX4_point_6
def dkwX4_point_4 : List UInt8 := [153, 0, 7, 3, 167, 0, 10, 42, 180, 0, 54, 180, 0, 247, 100, 29, 153, 0, 10, 42, 180, 0, 128]
abbrev dktX4_point_4 : List UInt8 := dkwX4_point_4 ++ dktX4_point_5
def dkwX4_point_3 : List UInt8 := [182, 0, 253, 61, 42, 180, 0, 125, 16, 114, 160, 0, 7, 4, 167, 0, 4, 3, 62, 42, 180, 0, 247, 28]
abbrev dktX4_point_3 : List UInt8 := dkwX4_point_3 ++ dktX4_point_4
def dkwX4_point_2 : List UInt8 := [182, 1, 94, 42, 180, 0, 131, 96, 183, 1, 85, 176, 42, 180, 0, 54, 184, 1, 88, 76, 42, 180, 0, 54]
abbrev dktX4_point_2 : List UInt8 := dkwX4_point_2 ++ dktX4_point_3
def dkwX4_point_1 : List UInt8 := [42, 184, 1, 79, 184, 1, 88, 76, 187, 1, 83, 89, 43, 182, 1, 92, 42, 180, 0, 128, 96, 43]
abbrev dktX4_point_1 : List UInt8 := dkwX4_point_1 ++ dktX4_point_2
def dkwX4_point_0 : List UInt8 := [42, 180, 0, 54, 199, 0, 13, 187, 1, 83, 89, 3, 3, 183, 1, 85, 176, 42, 182, 0, 169, 153, 0, 37]
abbrev dktX4_point_0 : List UInt8 := dkwX4_point_0 ++ dktX4_point_1
theorem dksX4_point_0 : cX4_point.data.toList.drop 0 = dktX4_point_0 := by decide +kernel
theorem dksX4_point_1 : cX4_point.data.toList.drop 24 = dktX4_point_1 := dk_seg dksX4_point_0 24 rfl rfl
theorem dksX4_point_2 : cX4_point.data.toList.drop 46 = dktX4_point_2 := dk_seg dksX4_point_1 22 rfl rfl
theorem dksX4_point_3 : cX4_point.data.toList.drop 70 = dktX4_point_3 := dk_seg dksX4_point_2 24 rfl rfl
theorem dksX4_point_4 : cX4_point.data.toList.drop 94 = dktX4_point_4 := dk_seg dksX4_point_3 24 rfl rfl
theorem dksX4_point_5 : cX4_point.data.toList.drop 117 = dktX4_point_5 := dk_seg dksX4_point_4 23 rfl rfl
theorem dksX4_point_6 : cX4_point.data.toList.drop 140 = dktX4_point_6 := dk_seg dksX4_point_5 23 rfl rfl
theorem dksX4_point_7 : cX4_point.data.toList.drop 164 = dktX4_point_7 := dk_seg dksX4_point_6 24 rfl rfl
theorem dX4_point_0 : decode cX4_point 0 = .ok (.aload_n 0, 1) := dk_42 (dk_at dksX4_point_0 0 rfl rfl)
theorem dX4_point_1 : decode cX4_point 1 = .ok (.getfield 54, 3) := dk_180 0 54 (dk_at dksX4_point_0 1 rfl rfl)
theorem dX4_point_4 : decode cX4_point 4 = .ok (.ifnonnull 13, 3) := dk_199 0 13 (dk_at dksX4_point_0 4 rfl rfl)
theorem dX4_point_7 : decode cX4_point 7 = .ok (.new 339, 3) := dk_187 1 83 (dk_at dksX4_point_0 7 rfl rfl)
theorem dX4_point_10 : decode cX4_point 10 = .ok (.dup, 1) := dk_89 (dk_at dksX4_point_0 10 rfl rfl)
theorem dX4_point_11 : decode cX4_point 11 = .ok (.iconst 0, 1) := dk_3 (dk_at dksX4_point_0 11 rfl rfl)
theorem dX4_point_12 : decode cX4_point 12 = .ok (.iconst 0, 1) := dk_3 (dk_at dksX4_point_0 12 rfl rfl)
theorem dX4_point_13 : decode cX4_point 13 = .ok (.invokespecial 341, 3) := dk_183 1 85 (dk_at dksX4_point_0 13 rfl rfl)
theorem dX4_point_16 : decode cX4_point 16 = .ok (.areturn, 1) := dk_176 (dk_at dksX4_point_0 16 rfl rfl)
theorem dX4_point_17 : decode cX4_point 17 = .ok (.aload_n 0, 1) := dk_42 (dk_at dksX4_point_0 17 rfl rfl)
theorem dX4_point_18 : decode cX4_point 18 = .ok (.invokevirtual 169, 3) := dk_182 0 169 (dk_at dksX4_point_0 18 rfl rfl)
theorem dX4_point_21 : decode cX4_point 21 = .ok (.ifCond .eq 37, 3) := dk_153 0 37 (dk_at dksX4_point_0 21 rfl rfl)
theorem dX4_point_24 : decode cX4_point 24 = .ok (.aload_n 0, 1) := dk_42 (dk_at dksX4_point_1 0 rfl rfl)
theorem dX4_point_25 : decode cX4_point 25 = .ok (.invokestatic 335, 3) := dk_184 1 79 (dk_at dksX4_point_1 1 rfl rfl)
theorem dX4_point_28 : decode cX4_point 28 = .ok (.invokestatic 344, 3) := dk_184 1 88 (dk_at dksX4_point_1 4 rfl rfl)
theorem dX4_point_31 : decode cX4_point 31 = .ok (.astore_n 1, 1) := dk_76 (dk_at dksX4_point_1 7 rfl rfl)
theorem dX4_point_32 : decode cX4_point 32 = .ok (.new 339, 3) := dk_187 1 83 (dk_at dksX4_point_1 8 rfl rfl)
theorem dX4_point_35 : decode cX4_point 35 = .ok (.dup, 1) := dk_89 (dk_at dksX4_point_1 11 rfl rfl)
theorem dX4_point_36 : decode cX4_point 36 = .ok (.aload_n 1, 1) := dk_43 (dk_at dksX4_point_1 12 rfl rfl)
theorem dX4_point_37 : decode cX4_point 37 = .ok (.invokevirtual 348, 3) := dk_182 1 92 (dk_at dksX4_point_1 13 rfl rfl)
theorem dX4_point_40 : decode cX4_point 40 = .ok (.aload_n 0, 1) := dk_42 (dk_at dksX4_point_1 16 rfl rfl)
theorem dX4_point_41 : decode cX4_point 41 = .ok (.getfield 128, 3) := dk_180 0 128 (dk_at dksX4_point_1 17 rfl rfl)
theorem dX4_point_44 : decode cX4_point 44 = .ok (.iadd, 1) := dk_96 (dk_at dksX4_point_1 20 rfl rfl)
theorem dX4_point_45 : decode cX4_point 45 = .ok (.aload_n 1, 1) := dk_43 (dk_at dksX4_point_1 21 rfl rfl)
theorem dX4_point_46 : decode cX4_point 46 = .ok (.invokevirtual 350, 3) := dk_182 1 94 (dk_at dksX4_point_2 0 rfl rfl)
theorem dX4_point_49 : decode cX4_point 49 = .ok (.aload_n 0, 1) := dk_42 (dk_at dksX4_point_2 3 rfl rfl)
theorem dX4_point_50 : decode cX4_point 50 = .ok (.getfield 131, 3) := dk_180 0 131 (dk_at dksX4_point_2 4 rfl rfl)
theorem dX4_point_53 : decode cX4_point 53 = .ok (.iadd, 1) := dk_96 (dk_at dksX4_point_2 7 rfl rfl)
theorem dX4_point_54 : decode cX4_point 54 = .ok (.invokespecial 341, 3) := dk_183 1 85 (dk_at dksX4_point_2 8 rfl rfl)
theorem dX4_point_57 : decode cX4_point 57 = .ok (.areturn, 1) := dk_176 (dk_at dksX4_point_2 11 rfl rfl)
theorem dX4_point_58 : decode cX4_point 58 = .ok (.aload_n 0, 1) := dk_42 (dk_at dksX4_point_2 12 rfl rfl)
theorem dX4_point_59 : decode cX4_point 59 = .ok (.getfield 54, 3) := dk_180 0 54 (dk_at dksX4_point_2 13 rfl rfl)
theorem dX4_point_62 : decode cX4_point 62 = .ok (.invokestatic 344, 3) := dk_184 1 88 (dk_at dksX4_point_2 16 rfl rfl)
theorem dX4_point_65 : decode cX4_point 65 = .ok (.astore_n 1, 1) := dk_76 (dk_at dksX4_point_2 19 rfl rfl)
theorem dX4_point_66 : decode cX4_point 66 = .ok (.aload_n 0, 1) := dk_42 (dk_at dksX4_point_2 20 rfl rfl)
theorem dX4_point_67 : decode cX4_point 67 = .ok (.getfield 54, 3) := dk_180 0 54 (dk_at dksX4_point_2 21 rfl rfl)
theorem dX4_point_70 : decode cX4_point 70 = .ok (.invokevirtual 253, 3) := dk_182 0 253 (dk_at dksX4_point_3 0 rfl rfl)
theorem dX4_point_73 : decode cX4_point 73 = .ok (.istore_n 2, 1) := dk_61 (dk_at dksX4_point_3 3 rfl rfl)
theorem dX4_point_74 : decode cX4_point 74 = .ok (.aload_n 0, 1) := dk_42 (dk_at dksX4_point_3 4 rfl rfl)
theorem dX4_point_75 : decode cX4_point 75 = .ok (.getfield 125, 3) := dk_180 0 125 (dk_at dksX4_point_3 5 rfl rfl)
theorem dX4_point_78 : decode cX4_point 78 = .ok (.bipush 114, 2) := dk_16 114 (dk_at dksX4_point_3 8 rfl rfl)
theorem dX4_point_80 : decode cX4_point 80 = .ok (.if_icmp .ne 7, 3) := dk_160 0 7 (dk_at dksX4_point_3 10 rfl rfl)
theorem dX4_point_83 : decode cX4_point 83 = .ok (.iconst 1, 1) := dk_4 (dk_at dksX4_point_3 13 rfl rfl)
theorem dX4_point_84 : decode cX4_point 84 = .ok (.goto 4, 3) := dk_167 0 4 (dk_at dksX4_point_3 14 rfl rfl)
theorem dX4_point_87 : decode cX4_point 87 = .ok (.iconst 0, 1) := dk_3 (dk_at dksX4_point_3 17 rfl rfl)
theorem dX4_point_88 : decode cX4_point 88 = .ok (.istore_n 3, 1) := dk_62 (dk_at dksX4_point_3 18 rfl rfl)
theorem dX4_point_89 : decode cX4_point 89 = .ok (.aload_n 0, 1) := dk_42 (dk_at dksX4_point_3 19 rfl rfl)
theorem dX4_point_90 : decode cX4_point 90 = .ok (.getfield 247, 3) := dk_180 0 247 (dk_at dksX4_point_3 20 rfl rfl)
theorem dX4_point_93 : decode cX4_point 93 = .ok (.iload_n 2, 1) := dk_28 (dk_at dksX4_point_3 23 rfl rfl)
theorem dX4_point_94 : decode cX4_point 94 = .ok (.ifCond .eq 7, 3) := dk_153 0 7 (dk_at dksX4_point_4 0 rfl rfl)
theorem dX4_point_97 : decode cX4_point 97 = .ok (.iconst 0, 1) := dk_3 (dk_at dksX4_point_4 3 rfl rfl)
theorem dX4_point_98 : decode cX4_point 98 = .ok (.goto 10, 3) := dk_167 0 10 (dk_at dksX4_point_4 4 rfl rfl)
theorem dX4_point_101 : decode cX4_point 101 = .ok (.aload_n 0, 1) := dk_42 (dk_at dksX4_point_4 7 rfl rfl)
theorem dX4_point_102 : decode cX4_point 102 = .ok (.getfield 54, 3) := dk_180 0 54 (dk_at dksX4_point_4 8 rfl rfl)
theorem dX4_point_105 : decode cX4_point 105 = .ok (.getfield 247, 3) := dk_180 0 247 (dk_at dksX4_point_4 11 rfl rfl)
theorem dX4_point_108 : decode cX4_point 108 = .ok (.isub, 1) := dk_100 (dk_at dksX4_point_4 14 rfl rfl)
theorem dX4_point_109 : decode cX4_point 109 = .ok (.iload_n 3, 1) := dk_29 (dk_at dksX4_point_4 15 rfl rfl)
theorem dX4_point_110 : decode cX4_point 110 = .ok (.ifCond .eq 10, 3) := dk_153 0 10 (dk_at dksX4_point_4 16 rfl rfl)
theorem dX4_point_113 : decode cX4_point 113 = .ok (.aload_n 0, 1) := dk_42 (dk_at dksX4_point_4 19 rfl rfl)
theorem dX4_point_114 : decode cX4_point 114 = .ok (.getfield 128, 3) := dk_180 0 128 (dk_at dksX4_point_4 20 rfl rfl)
theorem dX4_point_117 : decode cX4_point 117 = .ok (.goto 4, 3) := dk_167 0 4 (dk_at dksX4_point_5 0 rfl rfl)
theorem dX4_point_120 : decode cX4_point 120 = .ok (.iconst 0, 1) := dk_3 (dk_at dksX4_point_5 3 rfl rfl)
theorem dX4_point_121 : decode cX4_point 121 = .ok (.iadd, 1) := dk_96 (dk_at dksX4_point_5 4 rfl rfl)
theorem dX4_point_122 : decode cX4_point 122 = .ok (.istore 4, 2) := dk_54 4 (dk_at dksX4_point_5 5 rfl rfl)
theorem dX4_point_124 : decode cX4_point 124 = .ok (.aload_n 0, 1) := dk_42 (dk_at dksX4_point_5 7 rfl rfl)
theorem dX4_point_125 : decode cX4_point 125 = .ok (.getfield 250, 3) := dk_180 0 250 (dk_at dksX4_point_5 8 rfl rfl)
theorem dX4_point_128 : decode cX4_point 128 = .ok (.iload_n 2, 1) := dk_28 (dk_at dksX4_point_5 11 rfl rfl)
theorem dX4_point_129 : decode cX4_point 129 = .ok (.ifCond .eq 7, 3) := dk_153 0 7 (dk_at dksX4_point_5 12 rfl rfl)
theorem dX4_point_132 : decode cX4_point 132 = .ok (.iconst 0, 1) := dk_3 (dk_at dksX4_point_5 15 rfl rfl)
theorem dX4_point_133 : decode cX4_point 133 = .ok (.goto 10, 3) := dk_167 0 10 (dk_at dksX4_point_5 16 rfl rfl)
theorem dX4_point_136 : decode cX4_point 136 = .ok (.aload_n 0, 1) := dk_42 (dk_at dksX4_point_5 19 rfl rfl)
theorem dX4_point_137 : decode cX4_point 137 = .ok (.getfield 54, 3) := dk_180 0 54 (dk_at dksX4_point_5 20 rfl rfl)
theorem dX4_point_140 : decode cX4_point 140 = .ok (.getfield 250, 3) := dk_180 0 250 (dk_at dksX4_point_6 0 rfl rfl)
theorem dX4_point_143 : decode cX4_point 143 = .ok (.isub, 1) := dk_100 (dk_at dksX4_point_6 3 rfl rfl)
theorem dX4_point_144 : decode cX4_point 144 = .ok (.iload_n 3, 1) := dk_29 (dk_at dksX4_point_6 4 rfl rfl)
theorem dX4_point_145 : decode cX4_point 145 = .ok (.ifCond .eq 10, 3) := dk_153 0 10 (dk_at dksX4_point_6 5 rfl rfl)
theorem dX4_point_148 : decode cX4_point 148 = .ok (.aload_n 0, 1) := dk_42 (dk_at dksX4_point_6 8 rfl rfl)
theorem dX4_point_149 : decode cX4_point 149 = .ok (.getfield 131, 3) := dk_180 0 131 (dk_at dksX4_point_6 9 rfl rfl)
theorem dX4_point_152 : decode cX4_point 152 = .ok (.goto 4, 3) := dk_167 0 4 (dk_at dksX4_point_6 12 rfl rfl)
theorem dX4_point_155 : decode cX4_point 155 = .ok (.iconst 0, 1) := dk_3 (dk_at dksX4_point_6 15 rfl rfl)
theorem dX4_point_156 : decode cX4_point 156 = .ok (.iadd, 1) := dk_96 (dk_at dksX4_point_6 16 rfl rfl)
theorem dX4_point_157 : decode cX4_point 157 = .ok (.istore 5, 2) := dk_54 5 (dk_at dksX4_point_6 17 rfl rfl)
theorem dX4_point_159 : decode cX4_point 159 = .ok (.new 339, 3) := dk_187 1 83 (dk_at dksX4_point_6 19 rfl rfl)
theorem dX4_point_162 : decode cX4_point 162 = .ok (.dup, 1) := dk_89 (dk_at dksX4_point_6 22 rfl rfl)
theorem dX4_point_163 : decode cX4_point 163 = .ok (.aload_n 1, 1) := dk_43 (dk_at dksX4_point_6 23 rfl rfl)
theorem dX4_point_164 : decode cX4_point 164 = .ok (.invokevirtual 348, 3) := dk_182 1 92 (dk_at dksX4_point_7 0 rfl rfl)
theorem dX4_point_167 : decode cX4_point 167 = .ok (.iload 4, 2) := dk_21 4 (dk_at dksX4_point_7 3 rfl rfl)
theorem dX4_point_169 : decode cX4_point 169 = .ok (.iadd, 1) := dk_96 (dk_at dksX4_point_7 5 rfl rfl)
theorem dX4_point_170 : decode cX4_point 170 = .ok (.aload_n 1, 1) := dk_43 (dk_at dksX4_point_7 6 rfl rfl)
theorem dX4_point_171 : decode cX4_point 171 = .ok (.invokevirtual 350, 3) := dk_182 1 94 (dk_at dksX4_point_7 7 rfl rfl)
theorem dX4_point_174 : decode cX4_point 174 = .ok (.iload 5, 2) := dk_21 5 (dk_at dksX4_point_7 10 rfl rfl)
theorem dX4_point_176 : decode cX4_point 176 = .ok (.iadd, 1) := dk_96 (dk_at dksX4_point_7 12 rfl rfl)
theorem dX4_point_177 : decode cX4_point 177 = .ok (.invokespecial 341, 3) := dk_183 1 85 (dk_at dksX4_point_7 13 rfl rfl)
theorem dX4_point_180 : decode cX4_point 180 = .ok (.areturn, 1) := dk_176 (dk_at dksX4_point_7 16 rfl rfl)
abbrev cX4_yOf : ByteArray := prog_14_method_48_code
def yX4_yOf : MethodName := ⟨RX4, "yOf", "(I)I"⟩
def dkwX4_yOf_1 : List UInt8 := [184, 1, 88, 182, 1, 94, 172]
abbrev dktX4_yOf_1 : List UInt8 := dkwX4_yOf_1 ++ []
def dkwX4_yOf_0 : List UInt8 := [42, 27, 182, 1, 96, 158, 0, 7, 3, 167, 0, 20, 42, 180, 0, 10, 27, 182, 0, 58, 192, 0, 30]
abbrev dktX4_yOf_0 : List UInt8 := dkwX4_yOf_0 ++ dktX4_yOf_1
theorem dksX4_yOf_0 : cX4_yOf.data.toList.drop 0 = dktX4_yOf_0 := by decide +kernel
theorem dksX4_yOf_1 : cX4_yOf.data.toList.drop 23 = dktX4_yOf_1 := dk_seg dksX4_yOf_0 23 rfl rfl
theorem dX4_yOf_0 : decode cX4_yOf 0 = .ok (.aload_n 0, 1) := dk_42 (dk_at dksX4_yOf_0 0 rfl rfl)
theorem dX4_yOf_1 : decode cX4_yOf 1 = .ok (.iload_n 1, 1) := dk_27 (dk_at dksX4_yOf_0 1 rfl rfl)
theorem dX4_yOf_2 : decode cX4_yOf 2 = .ok (.invokevirtual 352, 3) := dk_182 1 96 (dk_at dksX4_yOf_0 2 rfl rfl)
theorem dX4_yOf_5 : decode cX4_yOf 5 = .ok (.ifCond .le 7, 3) := dk_158 0 7 (dk_at dksX4_yOf_0 5 rfl rfl)
theorem dX4_yOf_8 : decode cX4_yOf 8 = .ok (.iconst 0, 1) := dk_3 (dk_at dksX4_yOf_0 8 rfl rfl)
theorem dX4_yOf_9 : decode cX4_yOf 9 = .ok (.goto 20, 3) := dk_167 0 20 (dk_at dksX4_yOf_0 9 rfl rfl)
theorem dX4_yOf_12 : decode cX4_yOf 12 = .ok (.aload_n 0, 1) := dk_42 (dk_at dksX4_yOf_0 12 rfl rfl)
theorem dX4_yOf_13 : decode cX4_yOf 13 = .ok (.getfield 10, 3) := dk_180 0 10 (dk_at dksX4_yOf_0 13 rfl rfl)
theorem dX4_yOf_16 : decode cX4_yOf 16 = .ok (.iload_n 1, 1) := dk_27 (dk_at dksX4_yOf_0 16 rfl rfl)
theorem dX4_yOf_17 : decode cX4_yOf 17 = .ok (.invokevirtual 58, 3) := dk_182 0 58 (dk_at dksX4_yOf_0 17 rfl rfl)
theorem dX4_yOf_20 : decode cX4_yOf 20 = .ok (.checkcast 30, 3) := dk_192 0 30 (dk_at dksX4_yOf_0 20 rfl rfl)
theorem dX4_yOf_23 : decode cX4_yOf 23 = .ok (.invokestatic 344, 3) := dk_184 1 88 (dk_at dksX4_yOf_1 0 rfl rfl)
theorem dX4_yOf_26 : decode cX4_yOf 26 = .ok (.invokevirtual 350, 3) := dk_182 1 94 (dk_at dksX4_yOf_1 3 rfl rfl)
theorem dX4_yOf_29 : decode cX4_yOf 29 = .ok (.ireturn, 1) := dk_172 (dk_at dksX4_yOf_1 6 rfl rfl)
abbrev cX4_widthOf : ByteArray := prog_14_method_49_code
def yX4_widthOf : MethodName := ⟨RX4, "widthOf", "(I)I"⟩
def dkwX4_widthOf_1 : List UInt8 := [180, 0, 202, 172]
abbrev dktX4_widthOf_1 : List UInt8 := dkwX4_widthOf_1 ++ []
def dkwX4_widthOf_0 : List UInt8 := [42, 27, 182, 1, 96, 158, 0, 7, 3, 167, 0, 17, 42, 180, 0, 10, 27, 182, 0, 58, 192, 0, 30]
abbrev dktX4_widthOf_0 : List UInt8 := dkwX4_widthOf_0 ++ dktX4_widthOf_1
theorem dksX4_widthOf_0 : cX4_widthOf.data.toList.drop 0 = dktX4_widthOf_0 := by decide +kernel
theorem dksX4_widthOf_1 : cX4_widthOf.data.toList.drop 23 = dktX4_widthOf_1 := dk_seg dksX4_widthOf_0 23 rfl rfl
theorem dX4_widthOf_0 : decode cX4_widthOf 0 = .ok (.aload_n 0, 1) := dk_42 (dk_at dksX4_widthOf_0 0 rfl rfl)
theorem dX4_widthOf_1 : decode cX4_widthOf 1 = .ok (.iload_n 1, 1) := dk_27 (dk_at dksX4_widthOf_0 1 rfl rfl)
theorem dX4_widthOf_2 : decode cX4_widthOf 2 = .ok (.invokevirtual 352, 3) := dk_182 1 96 (dk_at dksX4_widthOf_0 2 rfl rfl)
theorem dX4_widthOf_5 : decode cX4_widthOf 5 = .ok (.ifCond .le 7, 3) := dk_158 0 7 (dk_at dksX4_widthOf_0 5 rfl rfl)
theorem dX4_widthOf_8 : decode cX4_widthOf 8 = .ok (.iconst 0, 1) := dk_3 (dk_at dksX4_widthOf_0 8 rfl rfl)
theorem dX4_widthOf_9 : decode cX4_widthOf 9 = .ok (.goto 17, 3) := dk_167 0 17 (dk_at dksX4_widthOf_0 9 rfl rfl)
theorem dX4_widthOf_12 : decode cX4_widthOf 12 = .ok (.aload_n 0, 1) := dk_42 (dk_at dksX4_widthOf_0 12 rfl rfl)
theorem dX4_widthOf_13 : decode cX4_widthOf 13 = .ok (.getfield 10, 3) := dk_180 0 10 (dk_at dksX4_widthOf_0 13 rfl rfl)
theorem dX4_widthOf_16 : decode cX4_widthOf 16 = .ok (.iload_n 1, 1) := dk_27 (dk_at dksX4_widthOf_0 16 rfl rfl)
theorem dX4_widthOf_17 : decode cX4_widthOf 17 = .ok (.invokevirtual 58, 3) := dk_182 0 58 (dk_at dksX4_widthOf_0 17 rfl rfl)
theorem dX4_widthOf_20 : decode cX4_widthOf 20 = .ok (.checkcast 30, 3) := dk_192 0 30 (dk_at dksX4_widthOf_0 20 rfl rfl)
theorem dX4_widthOf_23 : decode cX4_widthOf 23 = .ok (.getfield 202, 3) := dk_180 0 202 (dk_at dksX4_widthOf_1 0 rfl rfl)
theorem dX4_widthOf_26 : decode cX4_widthOf 26 = .ok (.ireturn, 1) := dk_172 (dk_at dksX4_widthOf_1 3 rfl rfl)
abbrev cX4_heightOf : ByteArray := prog_14_method_50_code
def yX4_heightOf : MethodName := ⟨RX4, "heightOf", "(I)I"⟩
def dkwX4_heightOf_1 : List UInt8 := [180, 0, 216, 172]
abbrev dktX4_heightOf_1 : List UInt8 := dkwX4_heightOf_1 ++ []
def dkwX4_heightOf_0 : List UInt8 := [42, 27, 182, 1, 96, 158, 0, 7, 3, 167, 0, 17, 42, 180, 0, 10, 27, 182, 0, 58, 192, 0, 30]
abbrev dktX4_heightOf_0 : List UInt8 := dkwX4_heightOf_0 ++ dktX4_heightOf_1
theorem dksX4_heightOf_0 : cX4_heightOf.data.toList.drop 0 = dktX4_heightOf_0 := by decide +kernel
theorem dksX4_heightOf_1 : cX4_heightOf.data.toList.drop 23 = dktX4_heightOf_1 := dk_seg dksX4_heightOf_0 23 rfl rfl
theorem dX4_heightOf_0 : decode cX4_heightOf 0 = .ok (.aload_n 0, 1) := dk_42 (dk_at dksX4_heightOf_0 0 rfl rfl)
theorem dX4_heightOf_1 : decode cX4_heightOf 1 = .ok (.iload_n 1, 1) := dk_27 (dk_at dksX4_heightOf_0 1 rfl rfl)
theorem dX4_heightOf_2 : decode cX4_heightOf 2 = .ok (.invokevirtual 352, 3) := dk_182 1 96 (dk_at dksX4_heightOf_0 2 rfl rfl)
theorem dX4_heightOf_5 : decode cX4_heightOf 5 = .ok (.ifCond .le 7, 3) := dk_158 0 7 (dk_at dksX4_heightOf_0 5 rfl rfl)
theorem dX4_heightOf_8 : decode cX4_heightOf 8 = .ok (.iconst 0, 1) := dk_3 (dk_at dksX4_heightOf_0 8 rfl rfl)
theorem dX4_heightOf_9 : decode cX4_heightOf 9 = .ok (.goto 17, 3) := dk_167 0 17 (dk_at dksX4_heightOf_0 9 rfl rfl)
theorem dX4_heightOf_12 : decode cX4_heightOf 12 = .ok (.aload_n 0, 1) := dk_42 (dk_at dksX4_heightOf_0 12 rfl rfl)
theorem dX4_heightOf_13 : decode cX4_heightOf 13 = .ok (.getfield 10, 3) := dk_180 0 10 (dk_at dksX4_heightOf_0 13 rfl rfl)
theorem dX4_heightOf_16 : decode cX4_heightOf 16 = .ok (.iload_n 1, 1) := dk_27 (dk_at dksX4_heightOf_0 16 rfl rfl)
theorem dX4_heightOf_17 : decode cX4_heightOf 17 = .ok (.invokevirtual 58, 3) := dk_182 0 58 (dk_at dksX4_heightOf_0 17 rfl rfl)
theorem dX4_heightOf_20 : decode cX4_heightOf 20 = .ok (.checkcast 30, 3) := dk_192 0 30 (dk_at dksX4_heightOf_0 20 rfl rfl)
theorem dX4_heightOf_23 : decode cX4_heightOf 23 = .ok (.getfield 216, 3) := dk_180 0 216 (dk_at dksX4_heightOf_1 0 rfl rfl)
theorem dX4_heightOf_26 : decode cX4_heightOf 26 = .ok (.ireturn, 1) := dk_172 (dk_at dksX4_heightOf_1 3 rfl rfl)
abbrev cX4_lines : ByteArray := prog_14_method_52_code
def yX4_lines : MethodName := ⟨RX4, "lines", "(I)I"⟩
def dkwX4_lines_1 : List UInt8 := [180, 1, 48, 182, 0, 39, 172]
abbrev dktX4_lines_1 : List UInt8 := dkwX4_lines_1 ++ []
def dkwX4_lines_0 : List UInt8 := [42, 27, 182, 1, 100, 158, 0, 7, 3, 167, 0, 20, 42, 180, 0, 10, 27, 182, 0, 58, 192, 0, 30]
abbrev dktX4_lines_0 : List UInt8 := dkwX4_lines_0 ++ dktX4_lines_1
theorem dksX4_lines_0 : cX4_lines.data.toList.drop 0 = dktX4_lines_0 := by decide +kernel
theorem dksX4_lines_1 : cX4_lines.data.toList.drop 23 = dktX4_lines_1 := dk_seg dksX4_lines_0 23 rfl rfl
theorem dX4_lines_0 : decode cX4_lines 0 = .ok (.aload_n 0, 1) := dk_42 (dk_at dksX4_lines_0 0 rfl rfl)
theorem dX4_lines_1 : decode cX4_lines 1 = .ok (.iload_n 1, 1) := dk_27 (dk_at dksX4_lines_0 1 rfl rfl)
theorem dX4_lines_2 : decode cX4_lines 2 = .ok (.invokevirtual 356, 3) := dk_182 1 100 (dk_at dksX4_lines_0 2 rfl rfl)
theorem dX4_lines_5 : decode cX4_lines 5 = .ok (.ifCond .le 7, 3) := dk_158 0 7 (dk_at dksX4_lines_0 5 rfl rfl)
theorem dX4_lines_8 : decode cX4_lines 8 = .ok (.iconst 0, 1) := dk_3 (dk_at dksX4_lines_0 8 rfl rfl)
theorem dX4_lines_9 : decode cX4_lines 9 = .ok (.goto 20, 3) := dk_167 0 20 (dk_at dksX4_lines_0 9 rfl rfl)
theorem dX4_lines_12 : decode cX4_lines 12 = .ok (.aload_n 0, 1) := dk_42 (dk_at dksX4_lines_0 12 rfl rfl)
theorem dX4_lines_13 : decode cX4_lines 13 = .ok (.getfield 10, 3) := dk_180 0 10 (dk_at dksX4_lines_0 13 rfl rfl)
theorem dX4_lines_16 : decode cX4_lines 16 = .ok (.iload_n 1, 1) := dk_27 (dk_at dksX4_lines_0 16 rfl rfl)
theorem dX4_lines_17 : decode cX4_lines 17 = .ok (.invokevirtual 58, 3) := dk_182 0 58 (dk_at dksX4_lines_0 17 rfl rfl)
theorem dX4_lines_20 : decode cX4_lines 20 = .ok (.checkcast 30, 3) := dk_192 0 30 (dk_at dksX4_lines_0 20 rfl rfl)
theorem dX4_lines_23 : decode cX4_lines 23 = .ok (.getfield 304, 3) := dk_180 1 48 (dk_at dksX4_lines_1 0 rfl rfl)
theorem dX4_lines_26 : decode cX4_lines 26 = .ok (.invokevirtual 39, 3) := dk_182 0 39 (dk_at dksX4_lines_1 3 rfl rfl)
theorem dX4_lines_29 : decode cX4_lines 29 = .ok (.ireturn, 1) := dk_172 (dk_at dksX4_lines_1 6 rfl rfl)
abbrev cX4_wrongText : ByteArray := prog_14_method_51_code
def yX4_wrongText : MethodName := ⟨RX4, "wrongText", "(I)I"⟩
def dkwX4_wrongText_1 : List UInt8 := [159, 0, 8, 42, 6, 181, 0, 16, 42, 180, 0, 16, 172]
abbrev dktX4_wrongText_1 : List UInt8 := dkwX4_wrongText_1 ++ []
def dkwX4_wrongText_0 : List UInt8 := [42, 27, 182, 1, 96, 154, 0, 27, 42, 180, 0, 10, 27, 182, 0, 58, 192, 0, 30, 180, 0, 62, 16, 116]
abbrev dktX4_wrongText_0 : List UInt8 := dkwX4_wrongText_0 ++ dktX4_wrongText_1
theorem dksX4_wrongText_0 : cX4_wrongText.data.toList.drop 0 = dktX4_wrongText_0 := by decide +kernel
theorem dksX4_wrongText_1 : cX4_wrongText.data.toList.drop 24 = dktX4_wrongText_1 := dk_seg dksX4_wrongText_0 24 rfl rfl
theorem dX4_wrongText_0 : decode cX4_wrongText 0 = .ok (.aload_n 0, 1) := dk_42 (dk_at dksX4_wrongText_0 0 rfl rfl)
theorem dX4_wrongText_1 : decode cX4_wrongText 1 = .ok (.iload_n 1, 1) := dk_27 (dk_at dksX4_wrongText_0 1 rfl rfl)
theorem dX4_wrongText_2 : decode cX4_wrongText 2 = .ok (.invokevirtual 352, 3) := dk_182 1 96 (dk_at dksX4_wrongText_0 2 rfl rfl)
theorem dX4_wrongText_5 : decode cX4_wrongText 5 = .ok (.ifCond .ne 27, 3) := dk_154 0 27 (dk_at dksX4_wrongText_0 5 rfl rfl)
theorem dX4_wrongText_8 : decode cX4_wrongText 8 = .ok (.aload_n 0, 1) := dk_42 (dk_at dksX4_wrongText_0 8 rfl rfl)
theorem dX4_wrongText_9 : decode cX4_wrongText 9 = .ok (.getfield 10, 3) := dk_180 0 10 (dk_at dksX4_wrongText_0 9 rfl rfl)
theorem dX4_wrongText_12 : decode cX4_wrongText 12 = .ok (.iload_n 1, 1) := dk_27 (dk_at dksX4_wrongText_0 12 rfl rfl)
theorem dX4_wrongText_13 : decode cX4_wrongText 13 = .ok (.invokevirtual 58, 3) := dk_182 0 58 (dk_at dksX4_wrongText_0 13 rfl rfl)
theorem dX4_wrongText_16 : decode cX4_wrongText 16 = .ok (.checkcast 30, 3) := dk_192 0 30 (dk_at dksX4_wrongText_0 16 rfl rfl)
theorem dX4_wrongText_19 : decode cX4_wrongText 19 = .ok (.getfield 62, 3) := dk_180 0 62 (dk_at dksX4_wrongText_0 19 rfl rfl)
theorem dX4_wrongText_22 : decode cX4_wrongText 22 = .ok (.bipush 116, 2) := dk_16 116 (dk_at dksX4_wrongText_0 22 rfl rfl)
theorem dX4_wrongText_24 : decode cX4_wrongText 24 = .ok (.if_icmp .eq 8, 3) := dk_159 0 8 (dk_at dksX4_wrongText_1 0 rfl rfl)
theorem dX4_wrongText_27 : decode cX4_wrongText 27 = .ok (.aload_n 0, 1) := dk_42 (dk_at dksX4_wrongText_1 3 rfl rfl)
theorem dX4_wrongText_28 : decode cX4_wrongText 28 = .ok (.iconst 3, 1) := dk_6 (dk_at dksX4_wrongText_1 4 rfl rfl)
theorem dX4_wrongText_29 : decode cX4_wrongText 29 = .ok (.putfield 16, 3) := dk_181 0 16 (dk_at dksX4_wrongText_1 5 rfl rfl)
theorem dX4_wrongText_32 : decode cX4_wrongText 32 = .ok (.aload_n 0, 1) := dk_42 (dk_at dksX4_wrongText_1 8 rfl rfl)
theorem dX4_wrongText_33 : decode cX4_wrongText 33 = .ok (.getfield 16, 3) := dk_180 0 16 (dk_at dksX4_wrongText_1 9 rfl rfl)
theorem dX4_wrongText_36 : decode cX4_wrongText 36 = .ok (.ireturn, 1) := dk_172 (dk_at dksX4_wrongText_1 12 rfl rfl)
abbrev cX4_wordsIn : ByteArray := prog_14_method_54_code
def yX4_wordsIn : MethodName := ⟨RX4, "wordsIn", "(II)I"⟩
def dkwX4_wordsIn_1 : List UInt8 := [180, 1, 48, 28, 182, 0, 58, 192, 1, 54, 182, 1, 106, 172]
abbrev dktX4_wordsIn_1 : List UInt8 := dkwX4_wordsIn_1 ++ []
def dkwX4_wordsIn_0 : List UInt8 := [42, 27, 28, 182, 1, 103, 158, 0, 7, 3, 167, 0, 27, 42, 180, 0, 10, 27, 182, 0, 58, 192, 0, 30]
abbrev dktX4_wordsIn_0 : List UInt8 := dkwX4_wordsIn_0 ++ dktX4_wordsIn_1
theorem dksX4_wordsIn_0 : cX4_wordsIn.data.toList.drop 0 = dktX4_wordsIn_0 := by decide +kernel
theorem dksX4_wordsIn_1 : cX4_wordsIn.data.toList.drop 24 = dktX4_wordsIn_1 := dk_seg dksX4_wordsIn_0 24 rfl rfl
theorem dX4_wordsIn_0 : decode cX4_wordsIn 0 = .ok (.aload_n 0, 1) := dk_42 (dk_at dksX4_wordsIn_0 0 rfl rfl)
theorem dX4_wordsIn_1 : decode cX4_wordsIn 1 = .ok (.iload_n 1, 1) := dk_27 (dk_at dksX4_wordsIn_0 1 rfl rfl)
theorem dX4_wordsIn_2 : decode cX4_wordsIn 2 = .ok (.iload_n 2, 1) := dk_28 (dk_at dksX4_wordsIn_0 2 rfl rfl)
theorem dX4_wordsIn_3 : decode cX4_wordsIn 3 = .ok (.invokevirtual 359, 3) := dk_182 1 103 (dk_at dksX4_wordsIn_0 3 rfl rfl)
theorem dX4_wordsIn_6 : decode cX4_wordsIn 6 = .ok (.ifCond .le 7, 3) := dk_158 0 7 (dk_at dksX4_wordsIn_0 6 rfl rfl)
theorem dX4_wordsIn_9 : decode cX4_wordsIn 9 = .ok (.iconst 0, 1) := dk_3 (dk_at dksX4_wordsIn_0 9 rfl rfl)
theorem dX4_wordsIn_10 : decode cX4_wordsIn 10 = .ok (.goto 27, 3) := dk_167 0 27 (dk_at dksX4_wordsIn_0 10 rfl rfl)
theorem dX4_wordsIn_13 : decode cX4_wordsIn 13 = .ok (.aload_n 0, 1) := dk_42 (dk_at dksX4_wordsIn_0 13 rfl rfl)
theorem dX4_wordsIn_14 : decode cX4_wordsIn 14 = .ok (.getfield 10, 3) := dk_180 0 10 (dk_at dksX4_wordsIn_0 14 rfl rfl)
theorem dX4_wordsIn_17 : decode cX4_wordsIn 17 = .ok (.iload_n 1, 1) := dk_27 (dk_at dksX4_wordsIn_0 17 rfl rfl)
theorem dX4_wordsIn_18 : decode cX4_wordsIn 18 = .ok (.invokevirtual 58, 3) := dk_182 0 58 (dk_at dksX4_wordsIn_0 18 rfl rfl)
theorem dX4_wordsIn_21 : decode cX4_wordsIn 21 = .ok (.checkcast 30, 3) := dk_192 0 30 (dk_at dksX4_wordsIn_0 21 rfl rfl)
theorem dX4_wordsIn_24 : decode cX4_wordsIn 24 = .ok (.getfield 304, 3) := dk_180 1 48 (dk_at dksX4_wordsIn_1 0 rfl rfl)
theorem dX4_wordsIn_27 : decode cX4_wordsIn 27 = .ok (.iload_n 2, 1) := dk_28 (dk_at dksX4_wordsIn_1 3 rfl rfl)
theorem dX4_wordsIn_28 : decode cX4_wordsIn 28 = .ok (.invokevirtual 58, 3) := dk_182 0 58 (dk_at dksX4_wordsIn_1 4 rfl rfl)
theorem dX4_wordsIn_31 : decode cX4_wordsIn 31 = .ok (.checkcast 310, 3) := dk_192 1 54 (dk_at dksX4_wordsIn_1 7 rfl rfl)
theorem dX4_wordsIn_34 : decode cX4_wordsIn 34 = .ok (.invokevirtual 362, 3) := dk_182 1 106 (dk_at dksX4_wordsIn_1 10 rfl rfl)
theorem dX4_wordsIn_37 : decode cX4_wordsIn 37 = .ok (.ireturn, 1) := dk_172 (dk_at dksX4_wordsIn_1 13 rfl rfl)
abbrev cX4_wrongLine : ByteArray := prog_14_method_53_code
def yX4_wrongLine : MethodName := ⟨RX4, "wrongLine", "(II)I"⟩
def dkwX4_wrongLine_1 : List UInt8 := [182, 0, 39, 4, 100, 184, 0, 43, 154, 0, 8, 42, 7, 181, 0, 16, 42, 180, 0, 16, 172]
abbrev dktX4_wrongLine_1 : List UInt8 := dkwX4_wrongLine_1 ++ []
def dkwX4_wrongLine_0 : List UInt8 := [42, 27, 182, 1, 100, 154, 0, 35, 28, 3, 42, 180, 0, 10, 27, 182, 0, 58, 192, 0, 30, 180, 1, 48]
abbrev dktX4_wrongLine_0 : List UInt8 := dkwX4_wrongLine_0 ++ dktX4_wrongLine_1
theorem dksX4_wrongLine_0 : cX4_wrongLine.data.toList.drop 0 = dktX4_wrongLine_0 := by decide +kernel
theorem dksX4_wrongLine_1 : cX4_wrongLine.data.toList.drop 24 = dktX4_wrongLine_1 := dk_seg dksX4_wrongLine_0 24 rfl rfl
theorem dX4_wrongLine_0 : decode cX4_wrongLine 0 = .ok (.aload_n 0, 1) := dk_42 (dk_at dksX4_wrongLine_0 0 rfl rfl)
theorem dX4_wrongLine_1 : decode cX4_wrongLine 1 = .ok (.iload_n 1, 1) := dk_27 (dk_at dksX4_wrongLine_0 1 rfl rfl)
theorem dX4_wrongLine_2 : decode cX4_wrongLine 2 = .ok (.invokevirtual 356, 3) := dk_182 1 100 (dk_at dksX4_wrongLine_0 2 rfl rfl)
theorem dX4_wrongLine_5 : decode cX4_wrongLine 5 = .ok (.ifCond .ne 35, 3) := dk_154 0 35 (dk_at dksX4_wrongLine_0 5 rfl rfl)
theorem dX4_wrongLine_8 : decode cX4_wrongLine 8 = .ok (.iload_n 2, 1) := dk_28 (dk_at dksX4_wrongLine_0 8 rfl rfl)
theorem dX4_wrongLine_9 : decode cX4_wrongLine 9 = .ok (.iconst 0, 1) := dk_3 (dk_at dksX4_wrongLine_0 9 rfl rfl)
theorem dX4_wrongLine_10 : decode cX4_wrongLine 10 = .ok (.aload_n 0, 1) := dk_42 (dk_at dksX4_wrongLine_0 10 rfl rfl)
theorem dX4_wrongLine_11 : decode cX4_wrongLine 11 = .ok (.getfield 10, 3) := dk_180 0 10 (dk_at dksX4_wrongLine_0 11 rfl rfl)
theorem dX4_wrongLine_14 : decode cX4_wrongLine 14 = .ok (.iload_n 1, 1) := dk_27 (dk_at dksX4_wrongLine_0 14 rfl rfl)
theorem dX4_wrongLine_15 : decode cX4_wrongLine 15 = .ok (.invokevirtual 58, 3) := dk_182 0 58 (dk_at dksX4_wrongLine_0 15 rfl rfl)
theorem dX4_wrongLine_18 : decode cX4_wrongLine 18 = .ok (.checkcast 30, 3) := dk_192 0 30 (dk_at dksX4_wrongLine_0 18 rfl rfl)
theorem dX4_wrongLine_21 : decode cX4_wrongLine 21 = .ok (.getfield 304, 3) := dk_180 1 48 (dk_at dksX4_wrongLine_0 21 rfl rfl)
theorem dX4_wrongLine_24 : decode cX4_wrongLine 24 = .ok (.invokevirtual 39, 3) := dk_182 0 39 (dk_at dksX4_wrongLine_1 0 rfl rfl)
theorem dX4_wrongLine_27 : decode cX4_wrongLine 27 = .ok (.iconst 1, 1) := dk_4 (dk_at dksX4_wrongLine_1 3 rfl rfl)
theorem dX4_wrongLine_28 : decode cX4_wrongLine 28 = .ok (.isub, 1) := dk_100 (dk_at dksX4_wrongLine_1 4 rfl rfl)
theorem dX4_wrongLine_29 : decode cX4_wrongLine 29 = .ok (.invokestatic 43, 3) := dk_184 0 43 (dk_at dksX4_wrongLine_1 5 rfl rfl)
theorem dX4_wrongLine_32 : decode cX4_wrongLine 32 = .ok (.ifCond .ne 8, 3) := dk_154 0 8 (dk_at dksX4_wrongLine_1 8 rfl rfl)
theorem dX4_wrongLine_35 : decode cX4_wrongLine 35 = .ok (.aload_n 0, 1) := dk_42 (dk_at dksX4_wrongLine_1 11 rfl rfl)
theorem dX4_wrongLine_36 : decode cX4_wrongLine 36 = .ok (.iconst 4, 1) := dk_7 (dk_at dksX4_wrongLine_1 12 rfl rfl)
theorem dX4_wrongLine_37 : decode cX4_wrongLine 37 = .ok (.putfield 16, 3) := dk_181 0 16 (dk_at dksX4_wrongLine_1 13 rfl rfl)
theorem dX4_wrongLine_40 : decode cX4_wrongLine 40 = .ok (.aload_n 0, 1) := dk_42 (dk_at dksX4_wrongLine_1 16 rfl rfl)
theorem dX4_wrongLine_41 : decode cX4_wrongLine 41 = .ok (.getfield 16, 3) := dk_180 0 16 (dk_at dksX4_wrongLine_1 17 rfl rfl)
theorem dX4_wrongLine_44 : decode cX4_wrongLine 44 = .ok (.ireturn, 1) := dk_172 (dk_at dksX4_wrongLine_1 20 rfl rfl)
abbrev cX4_lineX : ByteArray := prog_14_method_55_code
def yX4_lineX : MethodName := ⟨RX4, "lineX", "(II)I"⟩
def dkwX4_lineX_1 : List UInt8 := [180, 1, 48, 28, 182, 0, 58, 192, 1, 54, 182, 1, 108, 172]
abbrev dktX4_lineX_1 : List UInt8 := dkwX4_lineX_1 ++ []
def dkwX4_lineX_0 : List UInt8 := [42, 27, 28, 182, 1, 103, 158, 0, 7, 3, 167, 0, 27, 42, 180, 0, 10, 27, 182, 0, 58, 192, 0, 30]
abbrev dktX4_lineX_0 : List UInt8 := dkwX4_lineX_0 ++ dktX4_lineX_1
theorem dksX4_lineX_0 : cX4_lineX.data.toList.drop 0 = dktX4_lineX_0 := by decide +kernel
theorem dksX4_lineX_1 : cX4_lineX.data.toList.drop 24 = dktX4_lineX_1 := dk_seg dksX4_lineX_0 24 rfl rfl
theorem dX4_lineX_0 : decode cX4_lineX 0 = .ok (.aload_n 0, 1) := dk_42 (dk_at dksX4_lineX_0 0 rfl rfl)
theorem dX4_lineX_1 : decode cX4_lineX 1 = .ok (.iload_n 1, 1) := dk_27 (dk_at dksX4_lineX_0 1 rfl rfl)
theorem dX4_lineX_2 : decode cX4_lineX 2 = .ok (.iload_n 2, 1) := dk_28 (dk_at dksX4_lineX_0 2 rfl rfl)
theorem dX4_lineX_3 : decode cX4_lineX 3 = .ok (.invokevirtual 359, 3) := dk_182 1 103 (dk_at dksX4_lineX_0 3 rfl rfl)
theorem dX4_lineX_6 : decode cX4_lineX 6 = .ok (.ifCond .le 7, 3) := dk_158 0 7 (dk_at dksX4_lineX_0 6 rfl rfl)
theorem dX4_lineX_9 : decode cX4_lineX 9 = .ok (.iconst 0, 1) := dk_3 (dk_at dksX4_lineX_0 9 rfl rfl)
theorem dX4_lineX_10 : decode cX4_lineX 10 = .ok (.goto 27, 3) := dk_167 0 27 (dk_at dksX4_lineX_0 10 rfl rfl)
theorem dX4_lineX_13 : decode cX4_lineX 13 = .ok (.aload_n 0, 1) := dk_42 (dk_at dksX4_lineX_0 13 rfl rfl)
theorem dX4_lineX_14 : decode cX4_lineX 14 = .ok (.getfield 10, 3) := dk_180 0 10 (dk_at dksX4_lineX_0 14 rfl rfl)
theorem dX4_lineX_17 : decode cX4_lineX 17 = .ok (.iload_n 1, 1) := dk_27 (dk_at dksX4_lineX_0 17 rfl rfl)
theorem dX4_lineX_18 : decode cX4_lineX 18 = .ok (.invokevirtual 58, 3) := dk_182 0 58 (dk_at dksX4_lineX_0 18 rfl rfl)
theorem dX4_lineX_21 : decode cX4_lineX 21 = .ok (.checkcast 30, 3) := dk_192 0 30 (dk_at dksX4_lineX_0 21 rfl rfl)
theorem dX4_lineX_24 : decode cX4_lineX 24 = .ok (.getfield 304, 3) := dk_180 1 48 (dk_at dksX4_lineX_1 0 rfl rfl)
theorem dX4_lineX_27 : decode cX4_lineX 27 = .ok (.iload_n 2, 1) := dk_28 (dk_at dksX4_lineX_1 3 rfl rfl)
theorem dX4_lineX_28 : decode cX4_lineX 28 = .ok (.invokevirtual 58, 3) := dk_182 0 58 (dk_at dksX4_lineX_1 4 rfl rfl)
theorem dX4_lineX_31 : decode cX4_lineX 31 = .ok (.checkcast 310, 3) := dk_192 1 54 (dk_at dksX4_lineX_1 7 rfl rfl)
theorem dX4_lineX_34 : decode cX4_lineX 34 = .ok (.invokevirtual 364, 3) := dk_182 1 108 (dk_at dksX4_lineX_1 10 rfl rfl)
theorem dX4_lineX_37 : decode cX4_lineX 37 = .ok (.ireturn, 1) := dk_172 (dk_at dksX4_lineX_1 13 rfl rfl)
abbrev cX4_lineY : ByteArray := prog_14_method_56_code
def yX4_lineY : MethodName := ⟨RX4, "lineY", "(II)I"⟩
def dkwX4_lineY_1 : List UInt8 := [180, 1, 48, 28, 182, 0, 58, 192, 1, 54, 182, 1, 109, 172]
abbrev dktX4_lineY_1 : List UInt8 := dkwX4_lineY_1 ++ []
def dkwX4_lineY_0 : List UInt8 := [42, 27, 28, 182, 1, 103, 158, 0, 7, 3, 167, 0, 27, 42, 180, 0, 10, 27, 182, 0, 58, 192, 0, 30]
abbrev dktX4_lineY_0 : List UInt8 := dkwX4_lineY_0 ++ dktX4_lineY_1
theorem dksX4_lineY_0 : cX4_lineY.data.toList.drop 0 = dktX4_lineY_0 := by decide +kernel
theorem dksX4_lineY_1 : cX4_lineY.data.toList.drop 24 = dktX4_lineY_1 := dk_seg dksX4_lineY_0 24 rfl rfl
theorem dX4_lineY_0 : decode cX4_lineY 0 = .ok (.aload_n 0, 1) := dk_42 (dk_at dksX4_lineY_0 0 rfl rfl)
theorem dX4_lineY_1 : decode cX4_lineY 1 = .ok (.iload_n 1, 1) := dk_27 (dk_at dksX4_lineY_0 1 rfl rfl)
theorem dX4_lineY_2 : decode cX4_lineY 2 = .ok (.iload_n 2, 1) := dk_28 (dk_at dksX4_lineY_0 2 rfl rfl)
theorem dX4_lineY_3 : decode cX4_lineY 3 = .ok (.invokevirtual 359, 3) := dk_182 1 103 (dk_at dksX4_lineY_0 3 rfl rfl)
theorem dX4_lineY_6 : decode cX4_lineY 6 = .ok (.ifCond .le 7, 3) := dk_158 0 7 (dk_at dksX4_lineY_0 6 rfl rfl)
theorem dX4_lineY_9 : decode cX4_lineY 9 = .ok (.iconst 0, 1) := dk_3 (dk_at dksX4_lineY_0 9 rfl rfl)
theorem dX4_lineY_10 : decode cX4_lineY 10 = .ok (.goto 27, 3) := dk_167 0 27 (dk_at dksX4_lineY_0 10 rfl rfl)
theorem dX4_lineY_13 : decode cX4_lineY 13 = .ok (.aload_n 0, 1) := dk_42 (dk_at dksX4_lineY_0 13 rfl rfl)
theorem dX4_lineY_14 : decode cX4_lineY 14 = .ok (.getfield 10, 3) := dk_180 0 10 (dk_at dksX4_lineY_0 14 rfl rfl)
theorem dX4_lineY_17 : decode cX4_lineY 17 = .ok (.iload_n 1, 1) := dk_27 (dk_at dksX4_lineY_0 17 rfl rfl)
theorem dX4_lineY_18 : decode cX4_lineY 18 = .ok (.invokevirtual 58, 3) := dk_182 0 58 (dk_at dksX4_lineY_0 18 rfl rfl)
theorem dX4_lineY_21 : decode cX4_lineY 21 = .ok (.checkcast 30, 3) := dk_192 0 30 (dk_at dksX4_lineY_0 21 rfl rfl)
theorem dX4_lineY_24 : decode cX4_lineY 24 = .ok (.getfield 304, 3) := dk_180 1 48 (dk_at dksX4_lineY_1 0 rfl rfl)
theorem dX4_lineY_27 : decode cX4_lineY 27 = .ok (.iload_n 2, 1) := dk_28 (dk_at dksX4_lineY_1 3 rfl rfl)
theorem dX4_lineY_28 : decode cX4_lineY 28 = .ok (.invokevirtual 58, 3) := dk_182 0 58 (dk_at dksX4_lineY_1 4 rfl rfl)
theorem dX4_lineY_31 : decode cX4_lineY 31 = .ok (.checkcast 310, 3) := dk_192 1 54 (dk_at dksX4_lineY_1 7 rfl rfl)
theorem dX4_lineY_34 : decode cX4_lineY 34 = .ok (.invokevirtual 365, 3) := dk_182 1 109 (dk_at dksX4_lineY_1 10 rfl rfl)
theorem dX4_lineY_37 : decode cX4_lineY 37 = .ok (.ireturn, 1) := dk_172 (dk_at dksX4_lineY_1 13 rfl rfl)
abbrev cX4_hit : ByteArray := prog_14_method_57_code
def yX4_hit : MethodName := ⟨RX4, "hit", "(II)I"⟩
def dkwX4_hit_7 : List UInt8 := [167, 0, 4, 3, 181, 0, 16, 42, 180, 0, 16, 158, 0, 7, 3, 167, 0, 4, 29, 172]
abbrev dktX4_hit_7 : List UInt8 := dkwX4_hit_7 ++ []
def dkwX4_hit_6 : List UInt8 := [192, 0, 30, 180, 0, 134, 161, 0, 9, 25, 5, 180, 0, 76, 62, 167, 255, 135, 42, 29, 156, 0, 7, 5]
abbrev dktX4_hit_6 : List UInt8 := dkwX4_hit_6 ++ dktX4_hit_7
def dkwX4_hit_5 : List UInt8 := [54, 7, 21, 7, 153, 0, 35, 29, 155, 0, 25, 25, 5, 180, 0, 134, 42, 180, 0, 10, 29, 182, 0, 58]
abbrev dktX4_hit_5 : List UInt8 := dkwX4_hit_5 ++ dktX4_hit_6
def dkwX4_hit_4 : List UInt8 := [161, 0, 22, 28, 25, 6, 182, 1, 94, 25, 5, 180, 0, 216, 96, 162, 0, 7, 4, 167, 0, 4, 3]
abbrev dktX4_hit_4 : List UInt8 := dkwX4_hit_4 ++ dktX4_hit_5
def dkwX4_hit_3 : List UInt8 := [161, 0, 46, 27, 25, 6, 182, 1, 92, 25, 5, 180, 0, 202, 96, 162, 0, 31, 28, 25, 6, 182, 1, 94]
abbrev dktX4_hit_3 : List UInt8 := dkwX4_hit_3 ++ dktX4_hit_4
def dkwX4_hit_2 : List UInt8 := [185, 0, 156, 1, 0, 192, 0, 30, 58, 5, 25, 5, 184, 1, 88, 58, 6, 27, 25, 6, 182, 1, 92]
abbrev dktX4_hit_2 : List UInt8 := dkwX4_hit_2 ++ dktX4_hit_3
def dkwX4_hit_1 : List UInt8 := [172, 2, 62, 42, 180, 0, 10, 182, 0, 146, 58, 4, 25, 4, 185, 0, 150, 1, 0, 153, 0, 117, 25, 4]
abbrev dktX4_hit_1 : List UInt8 := dkwX4_hit_1 ++ dktX4_hit_2
def dkwX4_hit_0 : List UInt8 := [42, 42, 180, 0, 26, 153, 0, 7, 3, 167, 0, 4, 4, 181, 0, 16, 42, 180, 0, 16, 158, 0, 5, 3]
abbrev dktX4_hit_0 : List UInt8 := dkwX4_hit_0 ++ dktX4_hit_1
theorem dksX4_hit_0 : cX4_hit.data.toList.drop 0 = dktX4_hit_0 := by decide +kernel
theorem dksX4_hit_1 : cX4_hit.data.toList.drop 24 = dktX4_hit_1 := dk_seg dksX4_hit_0 24 rfl rfl
theorem dksX4_hit_2 : cX4_hit.data.toList.drop 48 = dktX4_hit_2 := dk_seg dksX4_hit_1 24 rfl rfl
theorem dksX4_hit_3 : cX4_hit.data.toList.drop 71 = dktX4_hit_3 := dk_seg dksX4_hit_2 23 rfl rfl
theorem dksX4_hit_4 : cX4_hit.data.toList.drop 95 = dktX4_hit_4 := dk_seg dksX4_hit_3 24 rfl rfl
theorem dksX4_hit_5 : cX4_hit.data.toList.drop 118 = dktX4_hit_5 := dk_seg dksX4_hit_4 23 rfl rfl
theorem dksX4_hit_6 : cX4_hit.data.toList.drop 142 = dktX4_hit_6 := dk_seg dksX4_hit_5 24 rfl rfl
theorem dksX4_hit_7 : cX4_hit.data.toList.drop 166 = dktX4_hit_7 := dk_seg dksX4_hit_6 24 rfl rfl
theorem dX4_hit_0 : decode cX4_hit 0 = .ok (.aload_n 0, 1) := dk_42 (dk_at dksX4_hit_0 0 rfl rfl)
theorem dX4_hit_1 : decode cX4_hit 1 = .ok (.aload_n 0, 1) := dk_42 (dk_at dksX4_hit_0 1 rfl rfl)
theorem dX4_hit_2 : decode cX4_hit 2 = .ok (.getfield 26, 3) := dk_180 0 26 (dk_at dksX4_hit_0 2 rfl rfl)
theorem dX4_hit_5 : decode cX4_hit 5 = .ok (.ifCond .eq 7, 3) := dk_153 0 7 (dk_at dksX4_hit_0 5 rfl rfl)
theorem dX4_hit_8 : decode cX4_hit 8 = .ok (.iconst 0, 1) := dk_3 (dk_at dksX4_hit_0 8 rfl rfl)
theorem dX4_hit_9 : decode cX4_hit 9 = .ok (.goto 4, 3) := dk_167 0 4 (dk_at dksX4_hit_0 9 rfl rfl)
theorem dX4_hit_12 : decode cX4_hit 12 = .ok (.iconst 1, 1) := dk_4 (dk_at dksX4_hit_0 12 rfl rfl)
theorem dX4_hit_13 : decode cX4_hit 13 = .ok (.putfield 16, 3) := dk_181 0 16 (dk_at dksX4_hit_0 13 rfl rfl)
theorem dX4_hit_16 : decode cX4_hit 16 = .ok (.aload_n 0, 1) := dk_42 (dk_at dksX4_hit_0 16 rfl rfl)
theorem dX4_hit_17 : decode cX4_hit 17 = .ok (.getfield 16, 3) := dk_180 0 16 (dk_at dksX4_hit_0 17 rfl rfl)
theorem dX4_hit_20 : decode cX4_hit 20 = .ok (.ifCond .le 5, 3) := dk_158 0 5 (dk_at dksX4_hit_0 20 rfl rfl)
theorem dX4_hit_23 : decode cX4_hit 23 = .ok (.iconst 0, 1) := dk_3 (dk_at dksX4_hit_0 23 rfl rfl)
theorem dX4_hit_24 : decode cX4_hit 24 = .ok (.ireturn, 1) := dk_172 (dk_at dksX4_hit_1 0 rfl rfl)
theorem dX4_hit_25 : decode cX4_hit 25 = .ok (.iconst (-1), 1) := dk_2 (dk_at dksX4_hit_1 1 rfl rfl)
theorem dX4_hit_26 : decode cX4_hit 26 = .ok (.istore_n 3, 1) := dk_62 (dk_at dksX4_hit_1 2 rfl rfl)
theorem dX4_hit_27 : decode cX4_hit 27 = .ok (.aload_n 0, 1) := dk_42 (dk_at dksX4_hit_1 3 rfl rfl)
theorem dX4_hit_28 : decode cX4_hit 28 = .ok (.getfield 10, 3) := dk_180 0 10 (dk_at dksX4_hit_1 4 rfl rfl)
theorem dX4_hit_31 : decode cX4_hit 31 = .ok (.invokevirtual 146, 3) := dk_182 0 146 (dk_at dksX4_hit_1 7 rfl rfl)
theorem dX4_hit_34 : decode cX4_hit 34 = .ok (.astore 4, 2) := dk_58 4 (dk_at dksX4_hit_1 10 rfl rfl)
theorem dX4_hit_36 : decode cX4_hit 36 = .ok (.aload 4, 2) := dk_25 4 (dk_at dksX4_hit_1 12 rfl rfl)
theorem dX4_hit_38 : decode cX4_hit 38 = .ok (.invokeinterface 150 1, 5) := by decide +kernel
theorem dX4_hit_43 : decode cX4_hit 43 = .ok (.ifCond .eq 117, 3) := dk_153 0 117 (dk_at dksX4_hit_1 19 rfl rfl)
theorem dX4_hit_46 : decode cX4_hit 46 = .ok (.aload 4, 2) := dk_25 4 (dk_at dksX4_hit_1 22 rfl rfl)
theorem dX4_hit_48 : decode cX4_hit 48 = .ok (.invokeinterface 156 1, 5) := by decide +kernel
theorem dX4_hit_53 : decode cX4_hit 53 = .ok (.checkcast 30, 3) := dk_192 0 30 (dk_at dksX4_hit_2 5 rfl rfl)
theorem dX4_hit_56 : decode cX4_hit 56 = .ok (.astore 5, 2) := dk_58 5 (dk_at dksX4_hit_2 8 rfl rfl)
theorem dX4_hit_58 : decode cX4_hit 58 = .ok (.aload 5, 2) := dk_25 5 (dk_at dksX4_hit_2 10 rfl rfl)
theorem dX4_hit_60 : decode cX4_hit 60 = .ok (.invokestatic 344, 3) := dk_184 1 88 (dk_at dksX4_hit_2 12 rfl rfl)
theorem dX4_hit_63 : decode cX4_hit 63 = .ok (.astore 6, 2) := dk_58 6 (dk_at dksX4_hit_2 15 rfl rfl)
theorem dX4_hit_65 : decode cX4_hit 65 = .ok (.iload_n 1, 1) := dk_27 (dk_at dksX4_hit_2 17 rfl rfl)
theorem dX4_hit_66 : decode cX4_hit 66 = .ok (.aload 6, 2) := dk_25 6 (dk_at dksX4_hit_2 18 rfl rfl)
theorem dX4_hit_68 : decode cX4_hit 68 = .ok (.invokevirtual 348, 3) := dk_182 1 92 (dk_at dksX4_hit_2 20 rfl rfl)
theorem dX4_hit_71 : decode cX4_hit 71 = .ok (.if_icmp .lt 46, 3) := dk_161 0 46 (dk_at dksX4_hit_3 0 rfl rfl)
theorem dX4_hit_74 : decode cX4_hit 74 = .ok (.iload_n 1, 1) := dk_27 (dk_at dksX4_hit_3 3 rfl rfl)
theorem dX4_hit_75 : decode cX4_hit 75 = .ok (.aload 6, 2) := dk_25 6 (dk_at dksX4_hit_3 4 rfl rfl)
theorem dX4_hit_77 : decode cX4_hit 77 = .ok (.invokevirtual 348, 3) := dk_182 1 92 (dk_at dksX4_hit_3 6 rfl rfl)
theorem dX4_hit_80 : decode cX4_hit 80 = .ok (.aload 5, 2) := dk_25 5 (dk_at dksX4_hit_3 9 rfl rfl)
theorem dX4_hit_82 : decode cX4_hit 82 = .ok (.getfield 202, 3) := dk_180 0 202 (dk_at dksX4_hit_3 11 rfl rfl)
theorem dX4_hit_85 : decode cX4_hit 85 = .ok (.iadd, 1) := dk_96 (dk_at dksX4_hit_3 14 rfl rfl)
theorem dX4_hit_86 : decode cX4_hit 86 = .ok (.if_icmp .ge 31, 3) := dk_162 0 31 (dk_at dksX4_hit_3 15 rfl rfl)
theorem dX4_hit_89 : decode cX4_hit 89 = .ok (.iload_n 2, 1) := dk_28 (dk_at dksX4_hit_3 18 rfl rfl)
theorem dX4_hit_90 : decode cX4_hit 90 = .ok (.aload 6, 2) := dk_25 6 (dk_at dksX4_hit_3 19 rfl rfl)
theorem dX4_hit_92 : decode cX4_hit 92 = .ok (.invokevirtual 350, 3) := dk_182 1 94 (dk_at dksX4_hit_3 21 rfl rfl)
theorem dX4_hit_95 : decode cX4_hit 95 = .ok (.if_icmp .lt 22, 3) := dk_161 0 22 (dk_at dksX4_hit_4 0 rfl rfl)
theorem dX4_hit_98 : decode cX4_hit 98 = .ok (.iload_n 2, 1) := dk_28 (dk_at dksX4_hit_4 3 rfl rfl)
theorem dX4_hit_99 : decode cX4_hit 99 = .ok (.aload 6, 2) := dk_25 6 (dk_at dksX4_hit_4 4 rfl rfl)
theorem dX4_hit_101 : decode cX4_hit 101 = .ok (.invokevirtual 350, 3) := dk_182 1 94 (dk_at dksX4_hit_4 6 rfl rfl)
theorem dX4_hit_104 : decode cX4_hit 104 = .ok (.aload 5, 2) := dk_25 5 (dk_at dksX4_hit_4 9 rfl rfl)
theorem dX4_hit_106 : decode cX4_hit 106 = .ok (.getfield 216, 3) := dk_180 0 216 (dk_at dksX4_hit_4 11 rfl rfl)
theorem dX4_hit_109 : decode cX4_hit 109 = .ok (.iadd, 1) := dk_96 (dk_at dksX4_hit_4 14 rfl rfl)
theorem dX4_hit_110 : decode cX4_hit 110 = .ok (.if_icmp .ge 7, 3) := dk_162 0 7 (dk_at dksX4_hit_4 15 rfl rfl)
theorem dX4_hit_113 : decode cX4_hit 113 = .ok (.iconst 1, 1) := dk_4 (dk_at dksX4_hit_4 18 rfl rfl)
theorem dX4_hit_114 : decode cX4_hit 114 = .ok (.goto 4, 3) := dk_167 0 4 (dk_at dksX4_hit_4 19 rfl rfl)
theorem dX4_hit_117 : decode cX4_hit 117 = .ok (.iconst 0, 1) := dk_3 (dk_at dksX4_hit_4 22 rfl rfl)
theorem dX4_hit_118 : decode cX4_hit 118 = .ok (.istore 7, 2) := dk_54 7 (dk_at dksX4_hit_5 0 rfl rfl)
theorem dX4_hit_120 : decode cX4_hit 120 = .ok (.iload 7, 2) := dk_21 7 (dk_at dksX4_hit_5 2 rfl rfl)
theorem dX4_hit_122 : decode cX4_hit 122 = .ok (.ifCond .eq 35, 3) := dk_153 0 35 (dk_at dksX4_hit_5 4 rfl rfl)
theorem dX4_hit_125 : decode cX4_hit 125 = .ok (.iload_n 3, 1) := dk_29 (dk_at dksX4_hit_5 7 rfl rfl)
theorem dX4_hit_126 : decode cX4_hit 126 = .ok (.ifCond .lt 25, 3) := dk_155 0 25 (dk_at dksX4_hit_5 8 rfl rfl)
theorem dX4_hit_129 : decode cX4_hit 129 = .ok (.aload 5, 2) := dk_25 5 (dk_at dksX4_hit_5 11 rfl rfl)
theorem dX4_hit_131 : decode cX4_hit 131 = .ok (.getfield 134, 3) := dk_180 0 134 (dk_at dksX4_hit_5 13 rfl rfl)
theorem dX4_hit_134 : decode cX4_hit 134 = .ok (.aload_n 0, 1) := dk_42 (dk_at dksX4_hit_5 16 rfl rfl)
theorem dX4_hit_135 : decode cX4_hit 135 = .ok (.getfield 10, 3) := dk_180 0 10 (dk_at dksX4_hit_5 17 rfl rfl)
theorem dX4_hit_138 : decode cX4_hit 138 = .ok (.iload_n 3, 1) := dk_29 (dk_at dksX4_hit_5 20 rfl rfl)
theorem dX4_hit_139 : decode cX4_hit 139 = .ok (.invokevirtual 58, 3) := dk_182 0 58 (dk_at dksX4_hit_5 21 rfl rfl)
theorem dX4_hit_142 : decode cX4_hit 142 = .ok (.checkcast 30, 3) := dk_192 0 30 (dk_at dksX4_hit_6 0 rfl rfl)
theorem dX4_hit_145 : decode cX4_hit 145 = .ok (.getfield 134, 3) := dk_180 0 134 (dk_at dksX4_hit_6 3 rfl rfl)
theorem dX4_hit_148 : decode cX4_hit 148 = .ok (.if_icmp .lt 9, 3) := dk_161 0 9 (dk_at dksX4_hit_6 6 rfl rfl)
theorem dX4_hit_151 : decode cX4_hit 151 = .ok (.aload 5, 2) := dk_25 5 (dk_at dksX4_hit_6 9 rfl rfl)
theorem dX4_hit_153 : decode cX4_hit 153 = .ok (.getfield 76, 3) := dk_180 0 76 (dk_at dksX4_hit_6 11 rfl rfl)
theorem dX4_hit_156 : decode cX4_hit 156 = .ok (.istore_n 3, 1) := dk_62 (dk_at dksX4_hit_6 14 rfl rfl)
theorem dX4_hit_157 : decode cX4_hit 157 = .ok (.goto (-121), 3) := dk_167 255 135 (dk_at dksX4_hit_6 15 rfl rfl)
theorem dX4_hit_160 : decode cX4_hit 160 = .ok (.aload_n 0, 1) := dk_42 (dk_at dksX4_hit_6 18 rfl rfl)
theorem dX4_hit_161 : decode cX4_hit 161 = .ok (.iload_n 3, 1) := dk_29 (dk_at dksX4_hit_6 19 rfl rfl)
theorem dX4_hit_162 : decode cX4_hit 162 = .ok (.ifCond .ge 7, 3) := dk_156 0 7 (dk_at dksX4_hit_6 20 rfl rfl)
theorem dX4_hit_165 : decode cX4_hit 165 = .ok (.iconst 2, 1) := dk_5 (dk_at dksX4_hit_6 23 rfl rfl)
theorem dX4_hit_166 : decode cX4_hit 166 = .ok (.goto 4, 3) := dk_167 0 4 (dk_at dksX4_hit_7 0 rfl rfl)
theorem dX4_hit_169 : decode cX4_hit 169 = .ok (.iconst 0, 1) := dk_3 (dk_at dksX4_hit_7 3 rfl rfl)
theorem dX4_hit_170 : decode cX4_hit 170 = .ok (.putfield 16, 3) := dk_181 0 16 (dk_at dksX4_hit_7 4 rfl rfl)
theorem dX4_hit_173 : decode cX4_hit 173 = .ok (.aload_n 0, 1) := dk_42 (dk_at dksX4_hit_7 7 rfl rfl)
theorem dX4_hit_174 : decode cX4_hit 174 = .ok (.getfield 16, 3) := dk_180 0 16 (dk_at dksX4_hit_7 8 rfl rfl)
theorem dX4_hit_177 : decode cX4_hit 177 = .ok (.ifCond .le 7, 3) := dk_158 0 7 (dk_at dksX4_hit_7 11 rfl rfl)
theorem dX4_hit_180 : decode cX4_hit 180 = .ok (.iconst 0, 1) := dk_3 (dk_at dksX4_hit_7 14 rfl rfl)
theorem dX4_hit_181 : decode cX4_hit 181 = .ok (.goto 4, 3) := dk_167 0 4 (dk_at dksX4_hit_7 15 rfl rfl)
theorem dX4_hit_184 : decode cX4_hit 184 = .ok (.iload_n 3, 1) := dk_29 (dk_at dksX4_hit_7 18 rfl rfl)
theorem dX4_hit_185 : decode cX4_hit 185 = .ok (.ireturn, 1) := dk_172 (dk_at dksX4_hit_7 19 rfl rfl)
abbrev cX4_pages : ByteArray := prog_14_method_62_code
def yX4_pages : MethodName := ⟨RX4, "pages", "(I)I"⟩
def dkwX4_pages_3 : List UInt8 := [182, 1, 155, 4, 96, 172]
abbrev dktX4_pages_3 : List UInt8 := dkwX4_pages_3 ++ []
def dkwX4_pages_2 : List UInt8 := [182, 0, 209, 153, 0, 7, 3, 167, 0, 21, 44, 44, 182, 0, 39, 4, 100, 182, 0, 58, 192, 1, 146]
abbrev dktX4_pages_2 : List UInt8 := dkwX4_pages_2 ++ dktX4_pages_3
def dkwX4_pages_1 : List UInt8 := [5, 167, 0, 4, 3, 181, 0, 16, 42, 180, 0, 16, 158, 0, 5, 3, 172, 42, 27, 182, 1, 151, 77, 44]
abbrev dktX4_pages_1 : List UInt8 := dkwX4_pages_1 ++ dktX4_pages_2
def dkwX4_pages_0 : List UInt8 := [42, 27, 16, 10, 17, 1, 144, 184, 0, 43, 154, 0, 7, 4, 167, 0, 15, 42, 180, 0, 26, 154, 0, 7]
abbrev dktX4_pages_0 : List UInt8 := dkwX4_pages_0 ++ dktX4_pages_1
theorem dksX4_pages_0 : cX4_pages.data.toList.drop 0 = dktX4_pages_0 := by decide +kernel
theorem dksX4_pages_1 : cX4_pages.data.toList.drop 24 = dktX4_pages_1 := dk_seg dksX4_pages_0 24 rfl rfl
theorem dksX4_pages_2 : cX4_pages.data.toList.drop 48 = dktX4_pages_2 := dk_seg dksX4_pages_1 24 rfl rfl
theorem dksX4_pages_3 : cX4_pages.data.toList.drop 71 = dktX4_pages_3 := dk_seg dksX4_pages_2 23 rfl rfl
theorem dX4_pages_0 : decode cX4_pages 0 = .ok (.aload_n 0, 1) := dk_42 (dk_at dksX4_pages_0 0 rfl rfl)
theorem dX4_pages_1 : decode cX4_pages 1 = .ok (.iload_n 1, 1) := dk_27 (dk_at dksX4_pages_0 1 rfl rfl)
theorem dX4_pages_2 : decode cX4_pages 2 = .ok (.bipush 10, 2) := dk_16 10 (dk_at dksX4_pages_0 2 rfl rfl)
theorem dX4_pages_4 : decode cX4_pages 4 = .ok (.sipush 400, 3) := dk_17 1 144 (dk_at dksX4_pages_0 4 rfl rfl)
theorem dX4_pages_7 : decode cX4_pages 7 = .ok (.invokestatic 43, 3) := dk_184 0 43 (dk_at dksX4_pages_0 7 rfl rfl)
theorem dX4_pages_10 : decode cX4_pages 10 = .ok (.ifCond .ne 7, 3) := dk_154 0 7 (dk_at dksX4_pages_0 10 rfl rfl)
theorem dX4_pages_13 : decode cX4_pages 13 = .ok (.iconst 1, 1) := dk_4 (dk_at dksX4_pages_0 13 rfl rfl)
theorem dX4_pages_14 : decode cX4_pages 14 = .ok (.goto 15, 3) := dk_167 0 15 (dk_at dksX4_pages_0 14 rfl rfl)
theorem dX4_pages_17 : decode cX4_pages 17 = .ok (.aload_n 0, 1) := dk_42 (dk_at dksX4_pages_0 17 rfl rfl)
theorem dX4_pages_18 : decode cX4_pages 18 = .ok (.getfield 26, 3) := dk_180 0 26 (dk_at dksX4_pages_0 18 rfl rfl)
theorem dX4_pages_21 : decode cX4_pages 21 = .ok (.ifCond .ne 7, 3) := dk_154 0 7 (dk_at dksX4_pages_0 21 rfl rfl)
theorem dX4_pages_24 : decode cX4_pages 24 = .ok (.iconst 2, 1) := dk_5 (dk_at dksX4_pages_1 0 rfl rfl)
theorem dX4_pages_25 : decode cX4_pages 25 = .ok (.goto 4, 3) := dk_167 0 4 (dk_at dksX4_pages_1 1 rfl rfl)
theorem dX4_pages_28 : decode cX4_pages 28 = .ok (.iconst 0, 1) := dk_3 (dk_at dksX4_pages_1 4 rfl rfl)
theorem dX4_pages_29 : decode cX4_pages 29 = .ok (.putfield 16, 3) := dk_181 0 16 (dk_at dksX4_pages_1 5 rfl rfl)
theorem dX4_pages_32 : decode cX4_pages 32 = .ok (.aload_n 0, 1) := dk_42 (dk_at dksX4_pages_1 8 rfl rfl)
theorem dX4_pages_33 : decode cX4_pages 33 = .ok (.getfield 16, 3) := dk_180 0 16 (dk_at dksX4_pages_1 9 rfl rfl)
theorem dX4_pages_36 : decode cX4_pages 36 = .ok (.ifCond .le 5, 3) := dk_158 0 5 (dk_at dksX4_pages_1 12 rfl rfl)
theorem dX4_pages_39 : decode cX4_pages 39 = .ok (.iconst 0, 1) := dk_3 (dk_at dksX4_pages_1 15 rfl rfl)
theorem dX4_pages_40 : decode cX4_pages 40 = .ok (.ireturn, 1) := dk_172 (dk_at dksX4_pages_1 16 rfl rfl)
theorem dX4_pages_41 : decode cX4_pages 41 = .ok (.aload_n 0, 1) := dk_42 (dk_at dksX4_pages_1 17 rfl rfl)
theorem dX4_pages_42 : decode cX4_pages 42 = .ok (.iload_n 1, 1) := dk_27 (dk_at dksX4_pages_1 18 rfl rfl)
theorem dX4_pages_43 : decode cX4_pages 43 = .ok (.invokevirtual 407, 3) := dk_182 1 151 (dk_at dksX4_pages_1 19 rfl rfl)
theorem dX4_pages_46 : decode cX4_pages 46 = .ok (.astore_n 2, 1) := dk_77 (dk_at dksX4_pages_1 22 rfl rfl)
theorem dX4_pages_47 : decode cX4_pages 47 = .ok (.aload_n 2, 1) := dk_44 (dk_at dksX4_pages_1 23 rfl rfl)
theorem dX4_pages_48 : decode cX4_pages 48 = .ok (.invokevirtual 209, 3) := dk_182 0 209 (dk_at dksX4_pages_2 0 rfl rfl)
theorem dX4_pages_51 : decode cX4_pages 51 = .ok (.ifCond .eq 7, 3) := dk_153 0 7 (dk_at dksX4_pages_2 3 rfl rfl)
theorem dX4_pages_54 : decode cX4_pages 54 = .ok (.iconst 0, 1) := dk_3 (dk_at dksX4_pages_2 6 rfl rfl)
theorem dX4_pages_55 : decode cX4_pages 55 = .ok (.goto 21, 3) := dk_167 0 21 (dk_at dksX4_pages_2 7 rfl rfl)
theorem dX4_pages_58 : decode cX4_pages 58 = .ok (.aload_n 2, 1) := dk_44 (dk_at dksX4_pages_2 10 rfl rfl)
theorem dX4_pages_59 : decode cX4_pages 59 = .ok (.aload_n 2, 1) := dk_44 (dk_at dksX4_pages_2 11 rfl rfl)
theorem dX4_pages_60 : decode cX4_pages 60 = .ok (.invokevirtual 39, 3) := dk_182 0 39 (dk_at dksX4_pages_2 12 rfl rfl)
theorem dX4_pages_63 : decode cX4_pages 63 = .ok (.iconst 1, 1) := dk_4 (dk_at dksX4_pages_2 15 rfl rfl)
theorem dX4_pages_64 : decode cX4_pages 64 = .ok (.isub, 1) := dk_100 (dk_at dksX4_pages_2 16 rfl rfl)
theorem dX4_pages_65 : decode cX4_pages 65 = .ok (.invokevirtual 58, 3) := dk_182 0 58 (dk_at dksX4_pages_2 17 rfl rfl)
theorem dX4_pages_68 : decode cX4_pages 68 = .ok (.checkcast 402, 3) := dk_192 1 146 (dk_at dksX4_pages_2 20 rfl rfl)
theorem dX4_pages_71 : decode cX4_pages 71 = .ok (.invokevirtual 411, 3) := dk_182 1 155 (dk_at dksX4_pages_3 0 rfl rfl)
theorem dX4_pages_74 : decode cX4_pages 74 = .ok (.iconst 1, 1) := dk_4 (dk_at dksX4_pages_3 3 rfl rfl)
theorem dX4_pages_75 : decode cX4_pages 75 = .ok (.iadd, 1) := dk_96 (dk_at dksX4_pages_3 4 rfl rfl)
theorem dX4_pages_76 : decode cX4_pages 76 = .ok (.ireturn, 1) := dk_172 (dk_at dksX4_pages_3 5 rfl rfl)
abbrev cX4_paged : ByteArray := prog_14_method_61_code
def yX4_paged : MethodName := ⟨RX4, "paged", "(I)Ljava/util/ArrayList;"⟩
def dkwX4_paged_6 : List UInt8 := [21, 4, 183, 1, 148, 182, 0, 35, 87, 167, 255, 159, 45, 176]
abbrev dktX4_paged_6 : List UInt8 := dkwX4_paged_6 ++ []
def dkwX4_paged_5 : List UInt8 := [154, 0, 10, 45, 182, 0, 209, 153, 0, 10, 25, 7, 182, 1, 145, 54, 5, 45, 187, 1, 146, 89, 25, 7]
abbrev dktX4_paged_5 : List UInt8 := dkwX4_paged_5 ++ dktX4_paged_6
def dkwX4_paged_4 : List UInt8 := [167, 0, 4, 3, 54, 8, 21, 4, 21, 8, 153, 0, 7, 4, 167, 0, 4, 3, 96, 54, 4, 21, 8]
abbrev dktX4_paged_4 : List UInt8 := dkwX4_paged_4 ++ dktX4_paged_5
def dkwX4_paged_3 : List UInt8 := [192, 1, 121, 58, 7, 45, 182, 0, 209, 154, 0, 18, 25, 7, 21, 5, 27, 184, 1, 141, 153, 0, 7, 4]
abbrev dktX4_paged_3 : List UInt8 := dkwX4_paged_3 ++ dktX4_paged_4
def dkwX4_paged_2 : List UInt8 := [182, 0, 146, 58, 6, 25, 6, 185, 0, 150, 1, 0, 153, 0, 93, 25, 6, 185, 0, 156, 1, 0]
abbrev dktX4_paged_2 : List UInt8 := dkwX4_paged_2 ++ dktX4_paged_3
def dkwX4_paged_1 : List UInt8 := [183, 0, 9, 44, 184, 1, 114, 187, 0, 7, 89, 183, 0, 9, 78, 3, 54, 4, 3, 54, 5, 44]
abbrev dktX4_paged_1 : List UInt8 := dkwX4_paged_1 ++ dktX4_paged_2
def dkwX4_paged_0 : List UInt8 := [187, 0, 7, 89, 183, 0, 9, 77, 42, 180, 0, 10, 3, 182, 0, 58, 192, 0, 30, 187, 0, 7, 89]
abbrev dktX4_paged_0 : List UInt8 := dkwX4_paged_0 ++ dktX4_paged_1
theorem dksX4_paged_0 : cX4_paged.data.toList.drop 0 = dktX4_paged_0 := by decide +kernel
theorem dksX4_paged_1 : cX4_paged.data.toList.drop 23 = dktX4_paged_1 := dk_seg dksX4_paged_0 23 rfl rfl
theorem dksX4_paged_2 : cX4_paged.data.toList.drop 45 = dktX4_paged_2 := dk_seg dksX4_paged_1 22 rfl rfl
theorem dksX4_paged_3 : cX4_paged.data.toList.drop 67 = dktX4_paged_3 := dk_seg dksX4_paged_2 22 rfl rfl
theorem dksX4_paged_4 : cX4_paged.data.toList.drop 91 = dktX4_paged_4 := dk_seg dksX4_paged_3 24 rfl rfl
theorem dksX4_paged_5 : cX4_paged.data.toList.drop 114 = dktX4_paged_5 := dk_seg dksX4_paged_4 23 rfl rfl
theorem dksX4_paged_6 : cX4_paged.data.toList.drop 138 = dktX4_paged_6 := dk_seg dksX4_paged_5 24 rfl rfl
theorem dX4_paged_0 : decode cX4_paged 0 = .ok (.new 7, 3) := dk_187 0 7 (dk_at dksX4_paged_0 0 rfl rfl)
theorem dX4_paged_3 : decode cX4_paged 3 = .ok (.dup, 1) := dk_89 (dk_at dksX4_paged_0 3 rfl rfl)
theorem dX4_paged_4 : decode cX4_paged 4 = .ok (.invokespecial 9, 3) := dk_183 0 9 (dk_at dksX4_paged_0 4 rfl rfl)
theorem dX4_paged_7 : decode cX4_paged 7 = .ok (.astore_n 2, 1) := dk_77 (dk_at dksX4_paged_0 7 rfl rfl)
theorem dX4_paged_8 : decode cX4_paged 8 = .ok (.aload_n 0, 1) := dk_42 (dk_at dksX4_paged_0 8 rfl rfl)
theorem dX4_paged_9 : decode cX4_paged 9 = .ok (.getfield 10, 3) := dk_180 0 10 (dk_at dksX4_paged_0 9 rfl rfl)
theorem dX4_paged_12 : decode cX4_paged 12 = .ok (.iconst 0, 1) := dk_3 (dk_at dksX4_paged_0 12 rfl rfl)
theorem dX4_paged_13 : decode cX4_paged 13 = .ok (.invokevirtual 58, 3) := dk_182 0 58 (dk_at dksX4_paged_0 13 rfl rfl)
theorem dX4_paged_16 : decode cX4_paged 16 = .ok (.checkcast 30, 3) := dk_192 0 30 (dk_at dksX4_paged_0 16 rfl rfl)
theorem dX4_paged_19 : decode cX4_paged 19 = .ok (.new 7, 3) := dk_187 0 7 (dk_at dksX4_paged_0 19 rfl rfl)
theorem dX4_paged_22 : decode cX4_paged 22 = .ok (.dup, 1) := dk_89 (dk_at dksX4_paged_0 22 rfl rfl)
theorem dX4_paged_23 : decode cX4_paged 23 = .ok (.invokespecial 9, 3) := dk_183 0 9 (dk_at dksX4_paged_1 0 rfl rfl)
theorem dX4_paged_26 : decode cX4_paged 26 = .ok (.aload_n 2, 1) := dk_44 (dk_at dksX4_paged_1 3 rfl rfl)
theorem dX4_paged_27 : decode cX4_paged 27 = .ok (.invokestatic 370, 3) := dk_184 1 114 (dk_at dksX4_paged_1 4 rfl rfl)
theorem dX4_paged_30 : decode cX4_paged 30 = .ok (.new 7, 3) := dk_187 0 7 (dk_at dksX4_paged_1 7 rfl rfl)
theorem dX4_paged_33 : decode cX4_paged 33 = .ok (.dup, 1) := dk_89 (dk_at dksX4_paged_1 10 rfl rfl)
theorem dX4_paged_34 : decode cX4_paged 34 = .ok (.invokespecial 9, 3) := dk_183 0 9 (dk_at dksX4_paged_1 11 rfl rfl)
theorem dX4_paged_37 : decode cX4_paged 37 = .ok (.astore_n 3, 1) := dk_78 (dk_at dksX4_paged_1 14 rfl rfl)
theorem dX4_paged_38 : decode cX4_paged 38 = .ok (.iconst 0, 1) := dk_3 (dk_at dksX4_paged_1 15 rfl rfl)
theorem dX4_paged_39 : decode cX4_paged 39 = .ok (.istore 4, 2) := dk_54 4 (dk_at dksX4_paged_1 16 rfl rfl)
theorem dX4_paged_41 : decode cX4_paged 41 = .ok (.iconst 0, 1) := dk_3 (dk_at dksX4_paged_1 18 rfl rfl)
theorem dX4_paged_42 : decode cX4_paged 42 = .ok (.istore 5, 2) := dk_54 5 (dk_at dksX4_paged_1 19 rfl rfl)
theorem dX4_paged_44 : decode cX4_paged 44 = .ok (.aload_n 2, 1) := dk_44 (dk_at dksX4_paged_1 21 rfl rfl)
theorem dX4_paged_45 : decode cX4_paged 45 = .ok (.invokevirtual 146, 3) := dk_182 0 146 (dk_at dksX4_paged_2 0 rfl rfl)
theorem dX4_paged_48 : decode cX4_paged 48 = .ok (.astore 6, 2) := dk_58 6 (dk_at dksX4_paged_2 3 rfl rfl)
theorem dX4_paged_50 : decode cX4_paged 50 = .ok (.aload 6, 2) := dk_25 6 (dk_at dksX4_paged_2 5 rfl rfl)
theorem dX4_paged_52 : decode cX4_paged 52 = .ok (.invokeinterface 150 1, 5) := by decide +kernel
theorem dX4_paged_57 : decode cX4_paged 57 = .ok (.ifCond .eq 93, 3) := dk_153 0 93 (dk_at dksX4_paged_2 12 rfl rfl)
theorem dX4_paged_60 : decode cX4_paged 60 = .ok (.aload 6, 2) := dk_25 6 (dk_at dksX4_paged_2 15 rfl rfl)
theorem dX4_paged_62 : decode cX4_paged 62 = .ok (.invokeinterface 156 1, 5) := by decide +kernel
theorem dX4_paged_67 : decode cX4_paged 67 = .ok (.checkcast 377, 3) := dk_192 1 121 (dk_at dksX4_paged_3 0 rfl rfl)
theorem dX4_paged_70 : decode cX4_paged 70 = .ok (.astore 7, 2) := dk_58 7 (dk_at dksX4_paged_3 3 rfl rfl)
theorem dX4_paged_72 : decode cX4_paged 72 = .ok (.aload_n 3, 1) := dk_45 (dk_at dksX4_paged_3 5 rfl rfl)
theorem dX4_paged_73 : decode cX4_paged 73 = .ok (.invokevirtual 209, 3) := dk_182 0 209 (dk_at dksX4_paged_3 6 rfl rfl)
theorem dX4_paged_76 : decode cX4_paged 76 = .ok (.ifCond .ne 18, 3) := dk_154 0 18 (dk_at dksX4_paged_3 9 rfl rfl)
theorem dX4_paged_79 : decode cX4_paged 79 = .ok (.aload 7, 2) := dk_25 7 (dk_at dksX4_paged_3 12 rfl rfl)
theorem dX4_paged_81 : decode cX4_paged 81 = .ok (.iload 5, 2) := dk_21 5 (dk_at dksX4_paged_3 14 rfl rfl)
theorem dX4_paged_83 : decode cX4_paged 83 = .ok (.iload_n 1, 1) := dk_27 (dk_at dksX4_paged_3 16 rfl rfl)
theorem dX4_paged_84 : decode cX4_paged 84 = .ok (.invokestatic 397, 3) := dk_184 1 141 (dk_at dksX4_paged_3 17 rfl rfl)
theorem dX4_paged_87 : decode cX4_paged 87 = .ok (.ifCond .eq 7, 3) := dk_153 0 7 (dk_at dksX4_paged_3 20 rfl rfl)
theorem dX4_paged_90 : decode cX4_paged 90 = .ok (.iconst 1, 1) := dk_4 (dk_at dksX4_paged_3 23 rfl rfl)
theorem dX4_paged_91 : decode cX4_paged 91 = .ok (.goto 4, 3) := dk_167 0 4 (dk_at dksX4_paged_4 0 rfl rfl)
theorem dX4_paged_94 : decode cX4_paged 94 = .ok (.iconst 0, 1) := dk_3 (dk_at dksX4_paged_4 3 rfl rfl)
theorem dX4_paged_95 : decode cX4_paged 95 = .ok (.istore 8, 2) := dk_54 8 (dk_at dksX4_paged_4 4 rfl rfl)
theorem dX4_paged_97 : decode cX4_paged 97 = .ok (.iload 4, 2) := dk_21 4 (dk_at dksX4_paged_4 6 rfl rfl)
theorem dX4_paged_99 : decode cX4_paged 99 = .ok (.iload 8, 2) := dk_21 8 (dk_at dksX4_paged_4 8 rfl rfl)
theorem dX4_paged_101 : decode cX4_paged 101 = .ok (.ifCond .eq 7, 3) := dk_153 0 7 (dk_at dksX4_paged_4 10 rfl rfl)
theorem dX4_paged_104 : decode cX4_paged 104 = .ok (.iconst 1, 1) := dk_4 (dk_at dksX4_paged_4 13 rfl rfl)
theorem dX4_paged_105 : decode cX4_paged 105 = .ok (.goto 4, 3) := dk_167 0 4 (dk_at dksX4_paged_4 14 rfl rfl)
theorem dX4_paged_108 : decode cX4_paged 108 = .ok (.iconst 0, 1) := dk_3 (dk_at dksX4_paged_4 17 rfl rfl)
theorem dX4_paged_109 : decode cX4_paged 109 = .ok (.iadd, 1) := dk_96 (dk_at dksX4_paged_4 18 rfl rfl)
theorem dX4_paged_110 : decode cX4_paged 110 = .ok (.istore 4, 2) := dk_54 4 (dk_at dksX4_paged_4 19 rfl rfl)
theorem dX4_paged_112 : decode cX4_paged 112 = .ok (.iload 8, 2) := dk_21 8 (dk_at dksX4_paged_4 21 rfl rfl)
theorem dX4_paged_114 : decode cX4_paged 114 = .ok (.ifCond .ne 10, 3) := dk_154 0 10 (dk_at dksX4_paged_5 0 rfl rfl)
theorem dX4_paged_117 : decode cX4_paged 117 = .ok (.aload_n 3, 1) := dk_45 (dk_at dksX4_paged_5 3 rfl rfl)
theorem dX4_paged_118 : decode cX4_paged 118 = .ok (.invokevirtual 209, 3) := dk_182 0 209 (dk_at dksX4_paged_5 4 rfl rfl)
theorem dX4_paged_121 : decode cX4_paged 121 = .ok (.ifCond .eq 10, 3) := dk_153 0 10 (dk_at dksX4_paged_5 7 rfl rfl)
theorem dX4_paged_124 : decode cX4_paged 124 = .ok (.aload 7, 2) := dk_25 7 (dk_at dksX4_paged_5 10 rfl rfl)
theorem dX4_paged_126 : decode cX4_paged 126 = .ok (.invokevirtual 401, 3) := dk_182 1 145 (dk_at dksX4_paged_5 12 rfl rfl)
theorem dX4_paged_129 : decode cX4_paged 129 = .ok (.istore 5, 2) := dk_54 5 (dk_at dksX4_paged_5 15 rfl rfl)
theorem dX4_paged_131 : decode cX4_paged 131 = .ok (.aload_n 3, 1) := dk_45 (dk_at dksX4_paged_5 17 rfl rfl)
theorem dX4_paged_132 : decode cX4_paged 132 = .ok (.new 402, 3) := dk_187 1 146 (dk_at dksX4_paged_5 18 rfl rfl)
theorem dX4_paged_135 : decode cX4_paged 135 = .ok (.dup, 1) := dk_89 (dk_at dksX4_paged_5 21 rfl rfl)
theorem dX4_paged_136 : decode cX4_paged 136 = .ok (.aload 7, 2) := dk_25 7 (dk_at dksX4_paged_5 22 rfl rfl)
theorem dX4_paged_138 : decode cX4_paged 138 = .ok (.iload 4, 2) := dk_21 4 (dk_at dksX4_paged_6 0 rfl rfl)
theorem dX4_paged_140 : decode cX4_paged 140 = .ok (.invokespecial 404, 3) := dk_183 1 148 (dk_at dksX4_paged_6 2 rfl rfl)
theorem dX4_paged_143 : decode cX4_paged 143 = .ok (.invokevirtual 35, 3) := dk_182 0 35 (dk_at dksX4_paged_6 5 rfl rfl)
theorem dX4_paged_146 : decode cX4_paged 146 = .ok (.pop, 1) := dk_87 (dk_at dksX4_paged_6 8 rfl rfl)
theorem dX4_paged_147 : decode cX4_paged 147 = .ok (.goto (-97), 3) := dk_167 255 159 (dk_at dksX4_paged_6 9 rfl rfl)
theorem dX4_paged_150 : decode cX4_paged 150 = .ok (.aload_n 3, 1) := dk_45 (dk_at dksX4_paged_6 12 rfl rfl)
theorem dX4_paged_151 : decode cX4_paged 151 = .ok (.areturn, 1) := dk_176 (dk_at dksX4_paged_6 13 rfl rfl)
abbrev cX4_units : ByteArray := prog_14_method_58_code
def yX4_units : MethodName := ⟨RX4, "units", "(LColumnarPressModel$Box;Ljava/util/ArrayList;Ljava/util/ArrayList;)V"⟩
def dkwX4_units_8 : List UInt8 := [167, 255, 78, 177]
abbrev dktX4_units_8 : List UInt8 := dkwX4_units_8 ++ []
def dkwX4_units_7 : List UInt8 := [25, 4, 180, 0, 250, 25, 4, 180, 0, 216, 43, 44, 184, 1, 110, 43, 25, 4, 182, 1, 118, 87]
abbrev dktX4_units_7 : List UInt8 := dkwX4_units_7 ++ dktX4_units_8
def dkwX4_units_6 : List UInt8 := [154, 0, 13, 25, 4, 43, 44, 184, 1, 114, 167, 0, 29, 25, 4, 180, 0, 216, 158, 0, 21, 25, 4, 3]
abbrev dktX4_units_6 : List UInt8 := dkwX4_units_6 ++ dktX4_units_7
def dkwX4_units_5 : List UInt8 := [167, 255, 207, 167, 0, 60, 25, 4, 180, 0, 62, 16, 98, 160, 0, 24, 25, 4, 180, 0, 69, 182, 0, 209]
abbrev dktX4_units_5 : List UInt8 := dkwX4_units_5 ++ dktX4_units_6
def dkwX4_units_4 : List UInt8 := [21, 5, 182, 0, 58, 192, 1, 54, 182, 1, 109, 96, 16, 10, 43, 44, 184, 1, 110, 132, 5, 1]
abbrev dktX4_units_4 : List UInt8 := dkwX4_units_4 ++ dktX4_units_5
def dkwX4_units_3 : List UInt8 := [180, 1, 48, 182, 0, 39, 162, 0, 42, 25, 4, 21, 5, 25, 4, 180, 0, 250, 25, 4, 180, 1, 48]
abbrev dktX4_units_3 : List UInt8 := dkwX4_units_3 ++ dktX4_units_4
def dkwX4_units_2 : List UInt8 := [43, 25, 4, 182, 0, 35, 87, 25, 4, 180, 0, 62, 16, 116, 160, 0, 61, 3, 54, 5, 21, 5, 25, 4]
abbrev dktX4_units_2 : List UInt8 := dkwX4_units_2 ++ dktX4_units_3
def dkwX4_units_1 : List UInt8 := [192, 0, 30, 58, 4, 25, 4, 182, 0, 169, 154, 255, 231, 25, 4, 182, 0, 236, 153, 0, 6, 167, 255, 220]
abbrev dktX4_units_1 : List UInt8 := dkwX4_units_1 ++ dktX4_units_2
def dkwX4_units_0 : List UInt8 := [42, 180, 0, 69, 182, 0, 146, 78, 45, 185, 0, 150, 1, 0, 153, 0, 175, 45, 185, 0, 156, 1, 0]
abbrev dktX4_units_0 : List UInt8 := dkwX4_units_0 ++ dktX4_units_1
theorem dksX4_units_0 : cX4_units.data.toList.drop 0 = dktX4_units_0 := by decide +kernel
theorem dksX4_units_1 : cX4_units.data.toList.drop 23 = dktX4_units_1 := dk_seg dksX4_units_0 23 rfl rfl
theorem dksX4_units_2 : cX4_units.data.toList.drop 47 = dktX4_units_2 := dk_seg dksX4_units_1 24 rfl rfl
theorem dksX4_units_3 : cX4_units.data.toList.drop 71 = dktX4_units_3 := dk_seg dksX4_units_2 24 rfl rfl
theorem dksX4_units_4 : cX4_units.data.toList.drop 94 = dktX4_units_4 := dk_seg dksX4_units_3 23 rfl rfl
theorem dksX4_units_5 : cX4_units.data.toList.drop 116 = dktX4_units_5 := dk_seg dksX4_units_4 22 rfl rfl
theorem dksX4_units_6 : cX4_units.data.toList.drop 140 = dktX4_units_6 := dk_seg dksX4_units_5 24 rfl rfl
theorem dksX4_units_7 : cX4_units.data.toList.drop 164 = dktX4_units_7 := dk_seg dksX4_units_6 24 rfl rfl
theorem dksX4_units_8 : cX4_units.data.toList.drop 186 = dktX4_units_8 := dk_seg dksX4_units_7 22 rfl rfl
theorem dX4_units_0 : decode cX4_units 0 = .ok (.aload_n 0, 1) := dk_42 (dk_at dksX4_units_0 0 rfl rfl)
theorem dX4_units_1 : decode cX4_units 1 = .ok (.getfield 69, 3) := dk_180 0 69 (dk_at dksX4_units_0 1 rfl rfl)
theorem dX4_units_4 : decode cX4_units 4 = .ok (.invokevirtual 146, 3) := dk_182 0 146 (dk_at dksX4_units_0 4 rfl rfl)
theorem dX4_units_7 : decode cX4_units 7 = .ok (.astore_n 3, 1) := dk_78 (dk_at dksX4_units_0 7 rfl rfl)
theorem dX4_units_8 : decode cX4_units 8 = .ok (.aload_n 3, 1) := dk_45 (dk_at dksX4_units_0 8 rfl rfl)
theorem dX4_units_9 : decode cX4_units 9 = .ok (.invokeinterface 150 1, 5) := by decide +kernel
theorem dX4_units_14 : decode cX4_units 14 = .ok (.ifCond .eq 175, 3) := dk_153 0 175 (dk_at dksX4_units_0 14 rfl rfl)
theorem dX4_units_17 : decode cX4_units 17 = .ok (.aload_n 3, 1) := dk_45 (dk_at dksX4_units_0 17 rfl rfl)
theorem dX4_units_18 : decode cX4_units 18 = .ok (.invokeinterface 156 1, 5) := by decide +kernel
theorem dX4_units_23 : decode cX4_units 23 = .ok (.checkcast 30, 3) := dk_192 0 30 (dk_at dksX4_units_1 0 rfl rfl)
theorem dX4_units_26 : decode cX4_units 26 = .ok (.astore 4, 2) := dk_58 4 (dk_at dksX4_units_1 3 rfl rfl)
theorem dX4_units_28 : decode cX4_units 28 = .ok (.aload 4, 2) := dk_25 4 (dk_at dksX4_units_1 5 rfl rfl)
theorem dX4_units_30 : decode cX4_units 30 = .ok (.invokevirtual 169, 3) := dk_182 0 169 (dk_at dksX4_units_1 7 rfl rfl)
theorem dX4_units_33 : decode cX4_units 33 = .ok (.ifCond .ne (-25), 3) := dk_154 255 231 (dk_at dksX4_units_1 10 rfl rfl)
theorem dX4_units_36 : decode cX4_units 36 = .ok (.aload 4, 2) := dk_25 4 (dk_at dksX4_units_1 13 rfl rfl)
theorem dX4_units_38 : decode cX4_units 38 = .ok (.invokevirtual 236, 3) := dk_182 0 236 (dk_at dksX4_units_1 15 rfl rfl)
theorem dX4_units_41 : decode cX4_units 41 = .ok (.ifCond .eq 6, 3) := dk_153 0 6 (dk_at dksX4_units_1 18 rfl rfl)
theorem dX4_units_44 : decode cX4_units 44 = .ok (.goto (-36), 3) := dk_167 255 220 (dk_at dksX4_units_1 21 rfl rfl)
theorem dX4_units_47 : decode cX4_units 47 = .ok (.aload_n 1, 1) := dk_43 (dk_at dksX4_units_2 0 rfl rfl)
theorem dX4_units_48 : decode cX4_units 48 = .ok (.aload 4, 2) := dk_25 4 (dk_at dksX4_units_2 1 rfl rfl)
theorem dX4_units_50 : decode cX4_units 50 = .ok (.invokevirtual 35, 3) := dk_182 0 35 (dk_at dksX4_units_2 3 rfl rfl)
theorem dX4_units_53 : decode cX4_units 53 = .ok (.pop, 1) := dk_87 (dk_at dksX4_units_2 6 rfl rfl)
theorem dX4_units_54 : decode cX4_units 54 = .ok (.aload 4, 2) := dk_25 4 (dk_at dksX4_units_2 7 rfl rfl)
theorem dX4_units_56 : decode cX4_units 56 = .ok (.getfield 62, 3) := dk_180 0 62 (dk_at dksX4_units_2 9 rfl rfl)
theorem dX4_units_59 : decode cX4_units 59 = .ok (.bipush 116, 2) := dk_16 116 (dk_at dksX4_units_2 12 rfl rfl)
theorem dX4_units_61 : decode cX4_units 61 = .ok (.if_icmp .ne 61, 3) := dk_160 0 61 (dk_at dksX4_units_2 14 rfl rfl)
theorem dX4_units_64 : decode cX4_units 64 = .ok (.iconst 0, 1) := dk_3 (dk_at dksX4_units_2 17 rfl rfl)
theorem dX4_units_65 : decode cX4_units 65 = .ok (.istore 5, 2) := dk_54 5 (dk_at dksX4_units_2 18 rfl rfl)
theorem dX4_units_67 : decode cX4_units 67 = .ok (.iload 5, 2) := dk_21 5 (dk_at dksX4_units_2 20 rfl rfl)
theorem dX4_units_69 : decode cX4_units 69 = .ok (.aload 4, 2) := dk_25 4 (dk_at dksX4_units_2 22 rfl rfl)
theorem dX4_units_71 : decode cX4_units 71 = .ok (.getfield 304, 3) := dk_180 1 48 (dk_at dksX4_units_3 0 rfl rfl)
theorem dX4_units_74 : decode cX4_units 74 = .ok (.invokevirtual 39, 3) := dk_182 0 39 (dk_at dksX4_units_3 3 rfl rfl)
theorem dX4_units_77 : decode cX4_units 77 = .ok (.if_icmp .ge 42, 3) := dk_162 0 42 (dk_at dksX4_units_3 6 rfl rfl)
theorem dX4_units_80 : decode cX4_units 80 = .ok (.aload 4, 2) := dk_25 4 (dk_at dksX4_units_3 9 rfl rfl)
theorem dX4_units_82 : decode cX4_units 82 = .ok (.iload 5, 2) := dk_21 5 (dk_at dksX4_units_3 11 rfl rfl)
theorem dX4_units_84 : decode cX4_units 84 = .ok (.aload 4, 2) := dk_25 4 (dk_at dksX4_units_3 13 rfl rfl)
theorem dX4_units_86 : decode cX4_units 86 = .ok (.getfield 250, 3) := dk_180 0 250 (dk_at dksX4_units_3 15 rfl rfl)
theorem dX4_units_89 : decode cX4_units 89 = .ok (.aload 4, 2) := dk_25 4 (dk_at dksX4_units_3 18 rfl rfl)
theorem dX4_units_91 : decode cX4_units 91 = .ok (.getfield 304, 3) := dk_180 1 48 (dk_at dksX4_units_3 20 rfl rfl)
theorem dX4_units_94 : decode cX4_units 94 = .ok (.iload 5, 2) := dk_21 5 (dk_at dksX4_units_4 0 rfl rfl)
theorem dX4_units_96 : decode cX4_units 96 = .ok (.invokevirtual 58, 3) := dk_182 0 58 (dk_at dksX4_units_4 2 rfl rfl)
theorem dX4_units_99 : decode cX4_units 99 = .ok (.checkcast 310, 3) := dk_192 1 54 (dk_at dksX4_units_4 5 rfl rfl)
theorem dX4_units_102 : decode cX4_units 102 = .ok (.invokevirtual 365, 3) := dk_182 1 109 (dk_at dksX4_units_4 8 rfl rfl)
theorem dX4_units_105 : decode cX4_units 105 = .ok (.iadd, 1) := dk_96 (dk_at dksX4_units_4 11 rfl rfl)
theorem dX4_units_106 : decode cX4_units 106 = .ok (.bipush 10, 2) := dk_16 10 (dk_at dksX4_units_4 12 rfl rfl)
theorem dX4_units_108 : decode cX4_units 108 = .ok (.aload_n 1, 1) := dk_43 (dk_at dksX4_units_4 14 rfl rfl)
theorem dX4_units_109 : decode cX4_units 109 = .ok (.aload_n 2, 1) := dk_44 (dk_at dksX4_units_4 15 rfl rfl)
theorem dX4_units_110 : decode cX4_units 110 = .ok (.invokestatic 366, 3) := dk_184 1 110 (dk_at dksX4_units_4 16 rfl rfl)
theorem dX4_units_113 : decode cX4_units 113 = .ok (.iinc 5 1, 3) := dk_132 5 1 (dk_at dksX4_units_4 19 rfl rfl)
theorem dX4_units_116 : decode cX4_units 116 = .ok (.goto (-49), 3) := dk_167 255 207 (dk_at dksX4_units_5 0 rfl rfl)
theorem dX4_units_119 : decode cX4_units 119 = .ok (.goto 60, 3) := dk_167 0 60 (dk_at dksX4_units_5 3 rfl rfl)
theorem dX4_units_122 : decode cX4_units 122 = .ok (.aload 4, 2) := dk_25 4 (dk_at dksX4_units_5 6 rfl rfl)
theorem dX4_units_124 : decode cX4_units 124 = .ok (.getfield 62, 3) := dk_180 0 62 (dk_at dksX4_units_5 8 rfl rfl)
theorem dX4_units_127 : decode cX4_units 127 = .ok (.bipush 98, 2) := dk_16 98 (dk_at dksX4_units_5 11 rfl rfl)
theorem dX4_units_129 : decode cX4_units 129 = .ok (.if_icmp .ne 24, 3) := dk_160 0 24 (dk_at dksX4_units_5 13 rfl rfl)
theorem dX4_units_132 : decode cX4_units 132 = .ok (.aload 4, 2) := dk_25 4 (dk_at dksX4_units_5 16 rfl rfl)
theorem dX4_units_134 : decode cX4_units 134 = .ok (.getfield 69, 3) := dk_180 0 69 (dk_at dksX4_units_5 18 rfl rfl)
theorem dX4_units_137 : decode cX4_units 137 = .ok (.invokevirtual 209, 3) := dk_182 0 209 (dk_at dksX4_units_5 21 rfl rfl)
theorem dX4_units_140 : decode cX4_units 140 = .ok (.ifCond .ne 13, 3) := dk_154 0 13 (dk_at dksX4_units_6 0 rfl rfl)
theorem dX4_units_143 : decode cX4_units 143 = .ok (.aload 4, 2) := dk_25 4 (dk_at dksX4_units_6 3 rfl rfl)
theorem dX4_units_145 : decode cX4_units 145 = .ok (.aload_n 1, 1) := dk_43 (dk_at dksX4_units_6 5 rfl rfl)
theorem dX4_units_146 : decode cX4_units 146 = .ok (.aload_n 2, 1) := dk_44 (dk_at dksX4_units_6 6 rfl rfl)
theorem dX4_units_147 : decode cX4_units 147 = .ok (.invokestatic 370, 3) := dk_184 1 114 (dk_at dksX4_units_6 7 rfl rfl)
theorem dX4_units_150 : decode cX4_units 150 = .ok (.goto 29, 3) := dk_167 0 29 (dk_at dksX4_units_6 10 rfl rfl)
theorem dX4_units_153 : decode cX4_units 153 = .ok (.aload 4, 2) := dk_25 4 (dk_at dksX4_units_6 13 rfl rfl)
theorem dX4_units_155 : decode cX4_units 155 = .ok (.getfield 216, 3) := dk_180 0 216 (dk_at dksX4_units_6 15 rfl rfl)
theorem dX4_units_158 : decode cX4_units 158 = .ok (.ifCond .le 21, 3) := dk_158 0 21 (dk_at dksX4_units_6 18 rfl rfl)
theorem dX4_units_161 : decode cX4_units 161 = .ok (.aload 4, 2) := dk_25 4 (dk_at dksX4_units_6 21 rfl rfl)
theorem dX4_units_163 : decode cX4_units 163 = .ok (.iconst 0, 1) := dk_3 (dk_at dksX4_units_6 23 rfl rfl)
theorem dX4_units_164 : decode cX4_units 164 = .ok (.aload 4, 2) := dk_25 4 (dk_at dksX4_units_7 0 rfl rfl)
theorem dX4_units_166 : decode cX4_units 166 = .ok (.getfield 250, 3) := dk_180 0 250 (dk_at dksX4_units_7 2 rfl rfl)
theorem dX4_units_169 : decode cX4_units 169 = .ok (.aload 4, 2) := dk_25 4 (dk_at dksX4_units_7 5 rfl rfl)
theorem dX4_units_171 : decode cX4_units 171 = .ok (.getfield 216, 3) := dk_180 0 216 (dk_at dksX4_units_7 7 rfl rfl)
theorem dX4_units_174 : decode cX4_units 174 = .ok (.aload_n 1, 1) := dk_43 (dk_at dksX4_units_7 10 rfl rfl)
theorem dX4_units_175 : decode cX4_units 175 = .ok (.aload_n 2, 1) := dk_44 (dk_at dksX4_units_7 11 rfl rfl)
theorem dX4_units_176 : decode cX4_units 176 = .ok (.invokestatic 366, 3) := dk_184 1 110 (dk_at dksX4_units_7 12 rfl rfl)
theorem dX4_units_179 : decode cX4_units 179 = .ok (.aload_n 1, 1) := dk_43 (dk_at dksX4_units_7 15 rfl rfl)
theorem dX4_units_180 : decode cX4_units 180 = .ok (.aload 4, 2) := dk_25 4 (dk_at dksX4_units_7 16 rfl rfl)
theorem dX4_units_182 : decode cX4_units 182 = .ok (.invokevirtual 374, 3) := dk_182 1 118 (dk_at dksX4_units_7 18 rfl rfl)
theorem dX4_units_185 : decode cX4_units 185 = .ok (.pop, 1) := dk_87 (dk_at dksX4_units_7 21 rfl rfl)
theorem dX4_units_186 : decode cX4_units 186 = .ok (.goto (-178), 3) := dk_167 255 78 (dk_at dksX4_units_8 0 rfl rfl)
theorem dX4_units_189 : decode cX4_units 189 = .ok (.return_, 1) := dk_177 (dk_at dksX4_units_8 3 rfl rfl)
abbrev cX4_unit : ByteArray := prog_14_method_59_code
def yX4_unit : MethodName := ⟨RX4, "unit", "(LColumnarPressModel$Box;IIILjava/util/ArrayList;Ljava/util/ArrayList;)V"⟩
def dkwX4_unit_1 : List UInt8 := [182, 0, 35, 87, 25, 4, 182, 1, 51, 177]
abbrev dktX4_unit_1 : List UInt8 := dkwX4_unit_1 ++ []
def dkwX4_unit_0 : List UInt8 := [25, 5, 187, 1, 121, 89, 42, 27, 28, 28, 29, 96, 187, 0, 7, 89, 25, 4, 183, 1, 123, 183, 1, 126]
abbrev dktX4_unit_0 : List UInt8 := dkwX4_unit_0 ++ dktX4_unit_1
theorem dksX4_unit_0 : cX4_unit.data.toList.drop 0 = dktX4_unit_0 := by decide +kernel
theorem dksX4_unit_1 : cX4_unit.data.toList.drop 24 = dktX4_unit_1 := dk_seg dksX4_unit_0 24 rfl rfl
theorem dX4_unit_0 : decode cX4_unit 0 = .ok (.aload 5, 2) := dk_25 5 (dk_at dksX4_unit_0 0 rfl rfl)
theorem dX4_unit_2 : decode cX4_unit 2 = .ok (.new 377, 3) := dk_187 1 121 (dk_at dksX4_unit_0 2 rfl rfl)
theorem dX4_unit_5 : decode cX4_unit 5 = .ok (.dup, 1) := dk_89 (dk_at dksX4_unit_0 5 rfl rfl)
theorem dX4_unit_6 : decode cX4_unit 6 = .ok (.aload_n 0, 1) := dk_42 (dk_at dksX4_unit_0 6 rfl rfl)
theorem dX4_unit_7 : decode cX4_unit 7 = .ok (.iload_n 1, 1) := dk_27 (dk_at dksX4_unit_0 7 rfl rfl)
theorem dX4_unit_8 : decode cX4_unit 8 = .ok (.iload_n 2, 1) := dk_28 (dk_at dksX4_unit_0 8 rfl rfl)
theorem dX4_unit_9 : decode cX4_unit 9 = .ok (.iload_n 2, 1) := dk_28 (dk_at dksX4_unit_0 9 rfl rfl)
theorem dX4_unit_10 : decode cX4_unit 10 = .ok (.iload_n 3, 1) := dk_29 (dk_at dksX4_unit_0 10 rfl rfl)
theorem dX4_unit_11 : decode cX4_unit 11 = .ok (.iadd, 1) := dk_96 (dk_at dksX4_unit_0 11 rfl rfl)
theorem dX4_unit_12 : decode cX4_unit 12 = .ok (.new 7, 3) := dk_187 0 7 (dk_at dksX4_unit_0 12 rfl rfl)
theorem dX4_unit_15 : decode cX4_unit 15 = .ok (.dup, 1) := dk_89 (dk_at dksX4_unit_0 15 rfl rfl)
theorem dX4_unit_16 : decode cX4_unit 16 = .ok (.aload 4, 2) := dk_25 4 (dk_at dksX4_unit_0 16 rfl rfl)
theorem dX4_unit_18 : decode cX4_unit 18 = .ok (.invokespecial 379, 3) := dk_183 1 123 (dk_at dksX4_unit_0 18 rfl rfl)
theorem dX4_unit_21 : decode cX4_unit 21 = .ok (.invokespecial 382, 3) := dk_183 1 126 (dk_at dksX4_unit_0 21 rfl rfl)
theorem dX4_unit_24 : decode cX4_unit 24 = .ok (.invokevirtual 35, 3) := dk_182 0 35 (dk_at dksX4_unit_1 0 rfl rfl)
theorem dX4_unit_27 : decode cX4_unit 27 = .ok (.pop, 1) := dk_87 (dk_at dksX4_unit_1 3 rfl rfl)
theorem dX4_unit_28 : decode cX4_unit 28 = .ok (.aload 4, 2) := dk_25 4 (dk_at dksX4_unit_1 4 rfl rfl)
theorem dX4_unit_30 : decode cX4_unit 30 = .ok (.invokevirtual 307, 3) := dk_182 1 51 (dk_at dksX4_unit_1 6 rfl rfl)
theorem dX4_unit_33 : decode cX4_unit 33 = .ok (.return_, 1) := dk_177 (dk_at dksX4_unit_1 9 rfl rfl)
abbrev cX4_isBreaking : ByteArray := prog_14_method_60_code
def yX4_isBreaking : MethodName := ⟨RX4, "isBreaking", "(LColumnarPressModel$Unit;II)Z"⟩
def dkwX4_isBreaking_7 : List UInt8 := [182, 1, 140, 27, 100, 28, 164, 0, 7, 4, 167, 0, 4, 3, 172]
abbrev dktX4_isBreaking_7 : List UInt8 := dkwX4_isBreaking_7 ++ []
def dkwX4_isBreaking_6 : List UInt8 := [185, 1, 30, 2, 0, 192, 1, 54, 182, 1, 109, 96, 16, 10, 96, 27, 100, 28, 163, 0, 13, 42]
abbrev dktX4_isBreaking_6 : List UInt8 := dkwX4_isBreaking_6 ++ dktX4_isBreaking_7
def dkwX4_isBreaking_5 : List UInt8 := [164, 0, 7, 4, 167, 0, 4, 3, 54, 4, 21, 4, 153, 0, 33, 42, 182, 1, 133, 180, 0, 250, 45, 4]
abbrev dktX4_isBreaking_5 : List UInt8 := dkwX4_isBreaking_5 ++ dktX4_isBreaking_6
def dkwX4_isBreaking_4 : List UInt8 := [180, 0, 62, 16, 116, 160, 0, 24, 42, 182, 1, 137, 154, 0, 17, 45, 185, 1, 29, 1, 0, 4]
abbrev dktX4_isBreaking_4 : List UInt8 := dkwX4_isBreaking_4 ++ dktX4_isBreaking_5
def dkwX4_isBreaking_3 : List UInt8 := [180, 0, 216, 28, 163, 0, 5, 4, 172, 167, 255, 188, 42, 182, 1, 133, 180, 1, 48, 78, 42, 182, 1, 133]
abbrev dktX4_isBreaking_3 : List UInt8 := dkwX4_isBreaking_3 ++ dktX4_isBreaking_4
def dkwX4_isBreaking_2 : List UInt8 := [160, 0, 31, 25, 4, 180, 0, 250, 25, 4, 180, 0, 216, 96, 27, 100, 28, 164, 0, 14, 25, 4]
abbrev dktX4_isBreaking_2 : List UInt8 := dkwX4_isBreaking_2 ++ dktX4_isBreaking_3
def dkwX4_isBreaking_1 : List UInt8 := [192, 0, 30, 58, 4, 25, 4, 180, 0, 140, 16, 102, 159, 0, 39, 25, 4, 180, 0, 140, 16, 118]
abbrev dktX4_isBreaking_1 : List UInt8 := dkwX4_isBreaking_1 ++ dktX4_isBreaking_2
def dkwX4_isBreaking_0 : List UInt8 := [42, 182, 1, 129, 182, 0, 146, 78, 45, 185, 0, 150, 1, 0, 153, 0, 65, 45, 185, 0, 156, 1, 0]
abbrev dktX4_isBreaking_0 : List UInt8 := dkwX4_isBreaking_0 ++ dktX4_isBreaking_1
theorem dksX4_isBreaking_0 : cX4_isBreaking.data.toList.drop 0 = dktX4_isBreaking_0 := by decide +kernel
theorem dksX4_isBreaking_1 : cX4_isBreaking.data.toList.drop 23 = dktX4_isBreaking_1 := dk_seg dksX4_isBreaking_0 23 rfl rfl
theorem dksX4_isBreaking_2 : cX4_isBreaking.data.toList.drop 45 = dktX4_isBreaking_2 := dk_seg dksX4_isBreaking_1 22 rfl rfl
theorem dksX4_isBreaking_3 : cX4_isBreaking.data.toList.drop 67 = dktX4_isBreaking_3 := dk_seg dksX4_isBreaking_2 22 rfl rfl
theorem dksX4_isBreaking_4 : cX4_isBreaking.data.toList.drop 91 = dktX4_isBreaking_4 := dk_seg dksX4_isBreaking_3 24 rfl rfl
theorem dksX4_isBreaking_5 : cX4_isBreaking.data.toList.drop 113 = dktX4_isBreaking_5 := dk_seg dksX4_isBreaking_4 22 rfl rfl
theorem dksX4_isBreaking_6 : cX4_isBreaking.data.toList.drop 137 = dktX4_isBreaking_6 := dk_seg dksX4_isBreaking_5 24 rfl rfl
theorem dksX4_isBreaking_7 : cX4_isBreaking.data.toList.drop 159 = dktX4_isBreaking_7 := dk_seg dksX4_isBreaking_6 22 rfl rfl
theorem dX4_isBreaking_0 : decode cX4_isBreaking 0 = .ok (.aload_n 0, 1) := dk_42 (dk_at dksX4_isBreaking_0 0 rfl rfl)
theorem dX4_isBreaking_1 : decode cX4_isBreaking 1 = .ok (.invokevirtual 385, 3) := dk_182 1 129 (dk_at dksX4_isBreaking_0 1 rfl rfl)
theorem dX4_isBreaking_4 : decode cX4_isBreaking 4 = .ok (.invokevirtual 146, 3) := dk_182 0 146 (dk_at dksX4_isBreaking_0 4 rfl rfl)
theorem dX4_isBreaking_7 : decode cX4_isBreaking 7 = .ok (.astore_n 3, 1) := dk_78 (dk_at dksX4_isBreaking_0 7 rfl rfl)
theorem dX4_isBreaking_8 : decode cX4_isBreaking 8 = .ok (.aload_n 3, 1) := dk_45 (dk_at dksX4_isBreaking_0 8 rfl rfl)
theorem dX4_isBreaking_9 : decode cX4_isBreaking 9 = .ok (.invokeinterface 150 1, 5) := by decide +kernel
theorem dX4_isBreaking_14 : decode cX4_isBreaking 14 = .ok (.ifCond .eq 65, 3) := dk_153 0 65 (dk_at dksX4_isBreaking_0 14 rfl rfl)
theorem dX4_isBreaking_17 : decode cX4_isBreaking 17 = .ok (.aload_n 3, 1) := dk_45 (dk_at dksX4_isBreaking_0 17 rfl rfl)
theorem dX4_isBreaking_18 : decode cX4_isBreaking 18 = .ok (.invokeinterface 156 1, 5) := by decide +kernel
theorem dX4_isBreaking_23 : decode cX4_isBreaking 23 = .ok (.checkcast 30, 3) := dk_192 0 30 (dk_at dksX4_isBreaking_1 0 rfl rfl)
theorem dX4_isBreaking_26 : decode cX4_isBreaking 26 = .ok (.astore 4, 2) := dk_58 4 (dk_at dksX4_isBreaking_1 3 rfl rfl)
theorem dX4_isBreaking_28 : decode cX4_isBreaking 28 = .ok (.aload 4, 2) := dk_25 4 (dk_at dksX4_isBreaking_1 5 rfl rfl)
theorem dX4_isBreaking_30 : decode cX4_isBreaking 30 = .ok (.getfield 140, 3) := dk_180 0 140 (dk_at dksX4_isBreaking_1 7 rfl rfl)
theorem dX4_isBreaking_33 : decode cX4_isBreaking 33 = .ok (.bipush 102, 2) := dk_16 102 (dk_at dksX4_isBreaking_1 10 rfl rfl)
theorem dX4_isBreaking_35 : decode cX4_isBreaking 35 = .ok (.if_icmp .eq 39, 3) := dk_159 0 39 (dk_at dksX4_isBreaking_1 12 rfl rfl)
theorem dX4_isBreaking_38 : decode cX4_isBreaking 38 = .ok (.aload 4, 2) := dk_25 4 (dk_at dksX4_isBreaking_1 15 rfl rfl)
theorem dX4_isBreaking_40 : decode cX4_isBreaking 40 = .ok (.getfield 140, 3) := dk_180 0 140 (dk_at dksX4_isBreaking_1 17 rfl rfl)
theorem dX4_isBreaking_43 : decode cX4_isBreaking 43 = .ok (.bipush 118, 2) := dk_16 118 (dk_at dksX4_isBreaking_1 20 rfl rfl)
theorem dX4_isBreaking_45 : decode cX4_isBreaking 45 = .ok (.if_icmp .ne 31, 3) := dk_160 0 31 (dk_at dksX4_isBreaking_2 0 rfl rfl)
theorem dX4_isBreaking_48 : decode cX4_isBreaking 48 = .ok (.aload 4, 2) := dk_25 4 (dk_at dksX4_isBreaking_2 3 rfl rfl)
theorem dX4_isBreaking_50 : decode cX4_isBreaking 50 = .ok (.getfield 250, 3) := dk_180 0 250 (dk_at dksX4_isBreaking_2 5 rfl rfl)
theorem dX4_isBreaking_53 : decode cX4_isBreaking 53 = .ok (.aload 4, 2) := dk_25 4 (dk_at dksX4_isBreaking_2 8 rfl rfl)
theorem dX4_isBreaking_55 : decode cX4_isBreaking 55 = .ok (.getfield 216, 3) := dk_180 0 216 (dk_at dksX4_isBreaking_2 10 rfl rfl)
theorem dX4_isBreaking_58 : decode cX4_isBreaking 58 = .ok (.iadd, 1) := dk_96 (dk_at dksX4_isBreaking_2 13 rfl rfl)
theorem dX4_isBreaking_59 : decode cX4_isBreaking 59 = .ok (.iload_n 1, 1) := dk_27 (dk_at dksX4_isBreaking_2 14 rfl rfl)
theorem dX4_isBreaking_60 : decode cX4_isBreaking 60 = .ok (.isub, 1) := dk_100 (dk_at dksX4_isBreaking_2 15 rfl rfl)
theorem dX4_isBreaking_61 : decode cX4_isBreaking 61 = .ok (.iload_n 2, 1) := dk_28 (dk_at dksX4_isBreaking_2 16 rfl rfl)
theorem dX4_isBreaking_62 : decode cX4_isBreaking 62 = .ok (.if_icmp .le 14, 3) := dk_164 0 14 (dk_at dksX4_isBreaking_2 17 rfl rfl)
theorem dX4_isBreaking_65 : decode cX4_isBreaking 65 = .ok (.aload 4, 2) := dk_25 4 (dk_at dksX4_isBreaking_2 20 rfl rfl)
theorem dX4_isBreaking_67 : decode cX4_isBreaking 67 = .ok (.getfield 216, 3) := dk_180 0 216 (dk_at dksX4_isBreaking_3 0 rfl rfl)
theorem dX4_isBreaking_70 : decode cX4_isBreaking 70 = .ok (.iload_n 2, 1) := dk_28 (dk_at dksX4_isBreaking_3 3 rfl rfl)
theorem dX4_isBreaking_71 : decode cX4_isBreaking 71 = .ok (.if_icmp .gt 5, 3) := dk_163 0 5 (dk_at dksX4_isBreaking_3 4 rfl rfl)
theorem dX4_isBreaking_74 : decode cX4_isBreaking 74 = .ok (.iconst 1, 1) := dk_4 (dk_at dksX4_isBreaking_3 7 rfl rfl)
theorem dX4_isBreaking_75 : decode cX4_isBreaking 75 = .ok (.ireturn, 1) := dk_172 (dk_at dksX4_isBreaking_3 8 rfl rfl)
theorem dX4_isBreaking_76 : decode cX4_isBreaking 76 = .ok (.goto (-68), 3) := dk_167 255 188 (dk_at dksX4_isBreaking_3 9 rfl rfl)
theorem dX4_isBreaking_79 : decode cX4_isBreaking 79 = .ok (.aload_n 0, 1) := dk_42 (dk_at dksX4_isBreaking_3 12 rfl rfl)
theorem dX4_isBreaking_80 : decode cX4_isBreaking 80 = .ok (.invokevirtual 389, 3) := dk_182 1 133 (dk_at dksX4_isBreaking_3 13 rfl rfl)
theorem dX4_isBreaking_83 : decode cX4_isBreaking 83 = .ok (.getfield 304, 3) := dk_180 1 48 (dk_at dksX4_isBreaking_3 16 rfl rfl)
theorem dX4_isBreaking_86 : decode cX4_isBreaking 86 = .ok (.astore_n 3, 1) := dk_78 (dk_at dksX4_isBreaking_3 19 rfl rfl)
theorem dX4_isBreaking_87 : decode cX4_isBreaking 87 = .ok (.aload_n 0, 1) := dk_42 (dk_at dksX4_isBreaking_3 20 rfl rfl)
theorem dX4_isBreaking_88 : decode cX4_isBreaking 88 = .ok (.invokevirtual 389, 3) := dk_182 1 133 (dk_at dksX4_isBreaking_3 21 rfl rfl)
theorem dX4_isBreaking_91 : decode cX4_isBreaking 91 = .ok (.getfield 62, 3) := dk_180 0 62 (dk_at dksX4_isBreaking_4 0 rfl rfl)
theorem dX4_isBreaking_94 : decode cX4_isBreaking 94 = .ok (.bipush 116, 2) := dk_16 116 (dk_at dksX4_isBreaking_4 3 rfl rfl)
theorem dX4_isBreaking_96 : decode cX4_isBreaking 96 = .ok (.if_icmp .ne 24, 3) := dk_160 0 24 (dk_at dksX4_isBreaking_4 5 rfl rfl)
theorem dX4_isBreaking_99 : decode cX4_isBreaking 99 = .ok (.aload_n 0, 1) := dk_42 (dk_at dksX4_isBreaking_4 8 rfl rfl)
theorem dX4_isBreaking_100 : decode cX4_isBreaking 100 = .ok (.invokevirtual 393, 3) := dk_182 1 137 (dk_at dksX4_isBreaking_4 9 rfl rfl)
theorem dX4_isBreaking_103 : decode cX4_isBreaking 103 = .ok (.ifCond .ne 17, 3) := dk_154 0 17 (dk_at dksX4_isBreaking_4 12 rfl rfl)
theorem dX4_isBreaking_106 : decode cX4_isBreaking 106 = .ok (.aload_n 3, 1) := dk_45 (dk_at dksX4_isBreaking_4 15 rfl rfl)
theorem dX4_isBreaking_107 : decode cX4_isBreaking 107 = .ok (.invokeinterface 285 1, 5) := by decide +kernel
theorem dX4_isBreaking_112 : decode cX4_isBreaking 112 = .ok (.iconst 1, 1) := dk_4 (dk_at dksX4_isBreaking_4 21 rfl rfl)
theorem dX4_isBreaking_113 : decode cX4_isBreaking 113 = .ok (.if_icmp .le 7, 3) := dk_164 0 7 (dk_at dksX4_isBreaking_5 0 rfl rfl)
theorem dX4_isBreaking_116 : decode cX4_isBreaking 116 = .ok (.iconst 1, 1) := dk_4 (dk_at dksX4_isBreaking_5 3 rfl rfl)
theorem dX4_isBreaking_117 : decode cX4_isBreaking 117 = .ok (.goto 4, 3) := dk_167 0 4 (dk_at dksX4_isBreaking_5 4 rfl rfl)
theorem dX4_isBreaking_120 : decode cX4_isBreaking 120 = .ok (.iconst 0, 1) := dk_3 (dk_at dksX4_isBreaking_5 7 rfl rfl)
theorem dX4_isBreaking_121 : decode cX4_isBreaking 121 = .ok (.istore 4, 2) := dk_54 4 (dk_at dksX4_isBreaking_5 8 rfl rfl)
theorem dX4_isBreaking_123 : decode cX4_isBreaking 123 = .ok (.iload 4, 2) := dk_21 4 (dk_at dksX4_isBreaking_5 10 rfl rfl)
theorem dX4_isBreaking_125 : decode cX4_isBreaking 125 = .ok (.ifCond .eq 33, 3) := dk_153 0 33 (dk_at dksX4_isBreaking_5 12 rfl rfl)
theorem dX4_isBreaking_128 : decode cX4_isBreaking 128 = .ok (.aload_n 0, 1) := dk_42 (dk_at dksX4_isBreaking_5 15 rfl rfl)
theorem dX4_isBreaking_129 : decode cX4_isBreaking 129 = .ok (.invokevirtual 389, 3) := dk_182 1 133 (dk_at dksX4_isBreaking_5 16 rfl rfl)
theorem dX4_isBreaking_132 : decode cX4_isBreaking 132 = .ok (.getfield 250, 3) := dk_180 0 250 (dk_at dksX4_isBreaking_5 19 rfl rfl)
theorem dX4_isBreaking_135 : decode cX4_isBreaking 135 = .ok (.aload_n 3, 1) := dk_45 (dk_at dksX4_isBreaking_5 22 rfl rfl)
theorem dX4_isBreaking_136 : decode cX4_isBreaking 136 = .ok (.iconst 1, 1) := dk_4 (dk_at dksX4_isBreaking_5 23 rfl rfl)
theorem dX4_isBreaking_137 : decode cX4_isBreaking 137 = .ok (.invokeinterface 286 2, 5) := by decide +kernel
theorem dX4_isBreaking_142 : decode cX4_isBreaking 142 = .ok (.checkcast 310, 3) := dk_192 1 54 (dk_at dksX4_isBreaking_6 5 rfl rfl)
theorem dX4_isBreaking_145 : decode cX4_isBreaking 145 = .ok (.invokevirtual 365, 3) := dk_182 1 109 (dk_at dksX4_isBreaking_6 8 rfl rfl)
theorem dX4_isBreaking_148 : decode cX4_isBreaking 148 = .ok (.iadd, 1) := dk_96 (dk_at dksX4_isBreaking_6 11 rfl rfl)
theorem dX4_isBreaking_149 : decode cX4_isBreaking 149 = .ok (.bipush 10, 2) := dk_16 10 (dk_at dksX4_isBreaking_6 12 rfl rfl)
theorem dX4_isBreaking_151 : decode cX4_isBreaking 151 = .ok (.iadd, 1) := dk_96 (dk_at dksX4_isBreaking_6 14 rfl rfl)
theorem dX4_isBreaking_152 : decode cX4_isBreaking 152 = .ok (.iload_n 1, 1) := dk_27 (dk_at dksX4_isBreaking_6 15 rfl rfl)
theorem dX4_isBreaking_153 : decode cX4_isBreaking 153 = .ok (.isub, 1) := dk_100 (dk_at dksX4_isBreaking_6 16 rfl rfl)
theorem dX4_isBreaking_154 : decode cX4_isBreaking 154 = .ok (.iload_n 2, 1) := dk_28 (dk_at dksX4_isBreaking_6 17 rfl rfl)
theorem dX4_isBreaking_155 : decode cX4_isBreaking 155 = .ok (.if_icmp .gt 13, 3) := dk_163 0 13 (dk_at dksX4_isBreaking_6 18 rfl rfl)
theorem dX4_isBreaking_158 : decode cX4_isBreaking 158 = .ok (.aload_n 0, 1) := dk_42 (dk_at dksX4_isBreaking_6 21 rfl rfl)
theorem dX4_isBreaking_159 : decode cX4_isBreaking 159 = .ok (.invokevirtual 396, 3) := dk_182 1 140 (dk_at dksX4_isBreaking_7 0 rfl rfl)
theorem dX4_isBreaking_162 : decode cX4_isBreaking 162 = .ok (.iload_n 1, 1) := dk_27 (dk_at dksX4_isBreaking_7 3 rfl rfl)
theorem dX4_isBreaking_163 : decode cX4_isBreaking 163 = .ok (.isub, 1) := dk_100 (dk_at dksX4_isBreaking_7 4 rfl rfl)
theorem dX4_isBreaking_164 : decode cX4_isBreaking 164 = .ok (.iload_n 2, 1) := dk_28 (dk_at dksX4_isBreaking_7 5 rfl rfl)
theorem dX4_isBreaking_165 : decode cX4_isBreaking 165 = .ok (.if_icmp .le 7, 3) := dk_164 0 7 (dk_at dksX4_isBreaking_7 6 rfl rfl)
theorem dX4_isBreaking_168 : decode cX4_isBreaking 168 = .ok (.iconst 1, 1) := dk_4 (dk_at dksX4_isBreaking_7 9 rfl rfl)
theorem dX4_isBreaking_169 : decode cX4_isBreaking 169 = .ok (.goto 4, 3) := dk_167 0 4 (dk_at dksX4_isBreaking_7 10 rfl rfl)
theorem dX4_isBreaking_172 : decode cX4_isBreaking 172 = .ok (.iconst 0, 1) := dk_3 (dk_at dksX4_isBreaking_7 13 rfl rfl)
theorem dX4_isBreaking_173 : decode cX4_isBreaking 173 = .ok (.ireturn, 1) := dk_172 (dk_at dksX4_isBreaking_7 14 rfl rfl)
abbrev cX4_pageOf : ByteArray := prog_14_method_63_code
def yX4_pageOf : MethodName := ⟨RX4, "pageOf", "(III)I"⟩
def dkwX4_pageOf_6 : List UInt8 := [182, 1, 155, 172, 167, 255, 193, 42, 7, 181, 0, 16, 3, 172]
abbrev dktX4_pageOf_6 : List UInt8 := dkwX4_pageOf_6 ++ []
def dkwX4_pageOf_5 : List UInt8 := [25, 4, 180, 0, 62, 16, 116, 160, 0, 15, 25, 6, 182, 1, 157, 182, 1, 137, 29, 160, 0, 9, 25, 6]
abbrev dktX4_pageOf_5 : List UInt8 := dkwX4_pageOf_5 ++ dktX4_pageOf_6
def dkwX4_pageOf_4 : List UInt8 := [185, 0, 156, 1, 0, 192, 1, 146, 58, 6, 25, 6, 182, 1, 157, 182, 1, 133, 25, 4, 166, 0, 31]
abbrev dktX4_pageOf_4 : List UInt8 := dkwX4_pageOf_4 ++ dktX4_pageOf_5
def dkwX4_pageOf_3 : List UInt8 := [182, 1, 151, 182, 0, 146, 58, 5, 25, 5, 185, 0, 150, 1, 0, 153, 0, 59, 25, 5]
abbrev dktX4_pageOf_3 : List UInt8 := dkwX4_pageOf_3 ++ dktX4_pageOf_4
def dkwX4_pageOf_2 : List UInt8 := [180, 0, 16, 158, 0, 5, 3, 172, 42, 180, 0, 10, 28, 182, 0, 58, 192, 0, 30, 58, 4, 42, 27]
abbrev dktX4_pageOf_2 : List UInt8 := dkwX4_pageOf_2 ++ dktX4_pageOf_3
def dkwX4_pageOf_1 : List UInt8 := [154, 0, 7, 5, 167, 0, 15, 42, 180, 0, 26, 154, 0, 7, 6, 167, 0, 4, 3, 181, 0, 16, 42]
abbrev dktX4_pageOf_1 : List UInt8 := dkwX4_pageOf_1 ++ dktX4_pageOf_2
def dkwX4_pageOf_0 : List UInt8 := [42, 27, 16, 10, 17, 1, 144, 184, 0, 43, 154, 0, 7, 4, 167, 0, 27, 42, 28, 182, 0, 47]
abbrev dktX4_pageOf_0 : List UInt8 := dkwX4_pageOf_0 ++ dktX4_pageOf_1
theorem dksX4_pageOf_0 : cX4_pageOf.data.toList.drop 0 = dktX4_pageOf_0 := by decide +kernel
theorem dksX4_pageOf_1 : cX4_pageOf.data.toList.drop 22 = dktX4_pageOf_1 := dk_seg dksX4_pageOf_0 22 rfl rfl
theorem dksX4_pageOf_2 : cX4_pageOf.data.toList.drop 45 = dktX4_pageOf_2 := dk_seg dksX4_pageOf_1 23 rfl rfl
theorem dksX4_pageOf_3 : cX4_pageOf.data.toList.drop 68 = dktX4_pageOf_3 := dk_seg dksX4_pageOf_2 23 rfl rfl
theorem dksX4_pageOf_4 : cX4_pageOf.data.toList.drop 88 = dktX4_pageOf_4 := dk_seg dksX4_pageOf_3 20 rfl rfl
theorem dksX4_pageOf_5 : cX4_pageOf.data.toList.drop 111 = dktX4_pageOf_5 := dk_seg dksX4_pageOf_4 23 rfl rfl
theorem dksX4_pageOf_6 : cX4_pageOf.data.toList.drop 135 = dktX4_pageOf_6 := dk_seg dksX4_pageOf_5 24 rfl rfl
theorem dX4_pageOf_0 : decode cX4_pageOf 0 = .ok (.aload_n 0, 1) := dk_42 (dk_at dksX4_pageOf_0 0 rfl rfl)
theorem dX4_pageOf_1 : decode cX4_pageOf 1 = .ok (.iload_n 1, 1) := dk_27 (dk_at dksX4_pageOf_0 1 rfl rfl)
theorem dX4_pageOf_2 : decode cX4_pageOf 2 = .ok (.bipush 10, 2) := dk_16 10 (dk_at dksX4_pageOf_0 2 rfl rfl)
theorem dX4_pageOf_4 : decode cX4_pageOf 4 = .ok (.sipush 400, 3) := dk_17 1 144 (dk_at dksX4_pageOf_0 4 rfl rfl)
theorem dX4_pageOf_7 : decode cX4_pageOf 7 = .ok (.invokestatic 43, 3) := dk_184 0 43 (dk_at dksX4_pageOf_0 7 rfl rfl)
theorem dX4_pageOf_10 : decode cX4_pageOf 10 = .ok (.ifCond .ne 7, 3) := dk_154 0 7 (dk_at dksX4_pageOf_0 10 rfl rfl)
theorem dX4_pageOf_13 : decode cX4_pageOf 13 = .ok (.iconst 1, 1) := dk_4 (dk_at dksX4_pageOf_0 13 rfl rfl)
theorem dX4_pageOf_14 : decode cX4_pageOf 14 = .ok (.goto 27, 3) := dk_167 0 27 (dk_at dksX4_pageOf_0 14 rfl rfl)
theorem dX4_pageOf_17 : decode cX4_pageOf 17 = .ok (.aload_n 0, 1) := dk_42 (dk_at dksX4_pageOf_0 17 rfl rfl)
theorem dX4_pageOf_18 : decode cX4_pageOf 18 = .ok (.iload_n 2, 1) := dk_28 (dk_at dksX4_pageOf_0 18 rfl rfl)
theorem dX4_pageOf_19 : decode cX4_pageOf 19 = .ok (.invokevirtual 47, 3) := dk_182 0 47 (dk_at dksX4_pageOf_0 19 rfl rfl)
theorem dX4_pageOf_22 : decode cX4_pageOf 22 = .ok (.ifCond .ne 7, 3) := dk_154 0 7 (dk_at dksX4_pageOf_1 0 rfl rfl)
theorem dX4_pageOf_25 : decode cX4_pageOf 25 = .ok (.iconst 2, 1) := dk_5 (dk_at dksX4_pageOf_1 3 rfl rfl)
theorem dX4_pageOf_26 : decode cX4_pageOf 26 = .ok (.goto 15, 3) := dk_167 0 15 (dk_at dksX4_pageOf_1 4 rfl rfl)
theorem dX4_pageOf_29 : decode cX4_pageOf 29 = .ok (.aload_n 0, 1) := dk_42 (dk_at dksX4_pageOf_1 7 rfl rfl)
theorem dX4_pageOf_30 : decode cX4_pageOf 30 = .ok (.getfield 26, 3) := dk_180 0 26 (dk_at dksX4_pageOf_1 8 rfl rfl)
theorem dX4_pageOf_33 : decode cX4_pageOf 33 = .ok (.ifCond .ne 7, 3) := dk_154 0 7 (dk_at dksX4_pageOf_1 11 rfl rfl)
theorem dX4_pageOf_36 : decode cX4_pageOf 36 = .ok (.iconst 3, 1) := dk_6 (dk_at dksX4_pageOf_1 14 rfl rfl)
theorem dX4_pageOf_37 : decode cX4_pageOf 37 = .ok (.goto 4, 3) := dk_167 0 4 (dk_at dksX4_pageOf_1 15 rfl rfl)
theorem dX4_pageOf_40 : decode cX4_pageOf 40 = .ok (.iconst 0, 1) := dk_3 (dk_at dksX4_pageOf_1 18 rfl rfl)
theorem dX4_pageOf_41 : decode cX4_pageOf 41 = .ok (.putfield 16, 3) := dk_181 0 16 (dk_at dksX4_pageOf_1 19 rfl rfl)
theorem dX4_pageOf_44 : decode cX4_pageOf 44 = .ok (.aload_n 0, 1) := dk_42 (dk_at dksX4_pageOf_1 22 rfl rfl)
theorem dX4_pageOf_45 : decode cX4_pageOf 45 = .ok (.getfield 16, 3) := dk_180 0 16 (dk_at dksX4_pageOf_2 0 rfl rfl)
theorem dX4_pageOf_48 : decode cX4_pageOf 48 = .ok (.ifCond .le 5, 3) := dk_158 0 5 (dk_at dksX4_pageOf_2 3 rfl rfl)
theorem dX4_pageOf_51 : decode cX4_pageOf 51 = .ok (.iconst 0, 1) := dk_3 (dk_at dksX4_pageOf_2 6 rfl rfl)
theorem dX4_pageOf_52 : decode cX4_pageOf 52 = .ok (.ireturn, 1) := dk_172 (dk_at dksX4_pageOf_2 7 rfl rfl)
theorem dX4_pageOf_53 : decode cX4_pageOf 53 = .ok (.aload_n 0, 1) := dk_42 (dk_at dksX4_pageOf_2 8 rfl rfl)
theorem dX4_pageOf_54 : decode cX4_pageOf 54 = .ok (.getfield 10, 3) := dk_180 0 10 (dk_at dksX4_pageOf_2 9 rfl rfl)
theorem dX4_pageOf_57 : decode cX4_pageOf 57 = .ok (.iload_n 2, 1) := dk_28 (dk_at dksX4_pageOf_2 12 rfl rfl)
theorem dX4_pageOf_58 : decode cX4_pageOf 58 = .ok (.invokevirtual 58, 3) := dk_182 0 58 (dk_at dksX4_pageOf_2 13 rfl rfl)
theorem dX4_pageOf_61 : decode cX4_pageOf 61 = .ok (.checkcast 30, 3) := dk_192 0 30 (dk_at dksX4_pageOf_2 16 rfl rfl)
theorem dX4_pageOf_64 : decode cX4_pageOf 64 = .ok (.astore 4, 2) := dk_58 4 (dk_at dksX4_pageOf_2 19 rfl rfl)
theorem dX4_pageOf_66 : decode cX4_pageOf 66 = .ok (.aload_n 0, 1) := dk_42 (dk_at dksX4_pageOf_2 21 rfl rfl)
theorem dX4_pageOf_67 : decode cX4_pageOf 67 = .ok (.iload_n 1, 1) := dk_27 (dk_at dksX4_pageOf_2 22 rfl rfl)
theorem dX4_pageOf_68 : decode cX4_pageOf 68 = .ok (.invokevirtual 407, 3) := dk_182 1 151 (dk_at dksX4_pageOf_3 0 rfl rfl)
theorem dX4_pageOf_71 : decode cX4_pageOf 71 = .ok (.invokevirtual 146, 3) := dk_182 0 146 (dk_at dksX4_pageOf_3 3 rfl rfl)
theorem dX4_pageOf_74 : decode cX4_pageOf 74 = .ok (.astore 5, 2) := dk_58 5 (dk_at dksX4_pageOf_3 6 rfl rfl)
theorem dX4_pageOf_76 : decode cX4_pageOf 76 = .ok (.aload 5, 2) := dk_25 5 (dk_at dksX4_pageOf_3 8 rfl rfl)
theorem dX4_pageOf_78 : decode cX4_pageOf 78 = .ok (.invokeinterface 150 1, 5) := by decide +kernel
theorem dX4_pageOf_83 : decode cX4_pageOf 83 = .ok (.ifCond .eq 59, 3) := dk_153 0 59 (dk_at dksX4_pageOf_3 15 rfl rfl)
theorem dX4_pageOf_86 : decode cX4_pageOf 86 = .ok (.aload 5, 2) := dk_25 5 (dk_at dksX4_pageOf_3 18 rfl rfl)
theorem dX4_pageOf_88 : decode cX4_pageOf 88 = .ok (.invokeinterface 156 1, 5) := by decide +kernel
theorem dX4_pageOf_93 : decode cX4_pageOf 93 = .ok (.checkcast 402, 3) := dk_192 1 146 (dk_at dksX4_pageOf_4 5 rfl rfl)
theorem dX4_pageOf_96 : decode cX4_pageOf 96 = .ok (.astore 6, 2) := dk_58 6 (dk_at dksX4_pageOf_4 8 rfl rfl)
theorem dX4_pageOf_98 : decode cX4_pageOf 98 = .ok (.aload 6, 2) := dk_25 6 (dk_at dksX4_pageOf_4 10 rfl rfl)
theorem dX4_pageOf_100 : decode cX4_pageOf 100 = .ok (.invokevirtual 413, 3) := dk_182 1 157 (dk_at dksX4_pageOf_4 12 rfl rfl)
theorem dX4_pageOf_103 : decode cX4_pageOf 103 = .ok (.invokevirtual 389, 3) := dk_182 1 133 (dk_at dksX4_pageOf_4 15 rfl rfl)
theorem dX4_pageOf_106 : decode cX4_pageOf 106 = .ok (.aload 4, 2) := dk_25 4 (dk_at dksX4_pageOf_4 18 rfl rfl)
theorem dX4_pageOf_108 : decode cX4_pageOf 108 = .ok (.if_acmp .ne 31, 3) := dk_166 0 31 (dk_at dksX4_pageOf_4 20 rfl rfl)
theorem dX4_pageOf_111 : decode cX4_pageOf 111 = .ok (.aload 4, 2) := dk_25 4 (dk_at dksX4_pageOf_5 0 rfl rfl)
theorem dX4_pageOf_113 : decode cX4_pageOf 113 = .ok (.getfield 62, 3) := dk_180 0 62 (dk_at dksX4_pageOf_5 2 rfl rfl)
theorem dX4_pageOf_116 : decode cX4_pageOf 116 = .ok (.bipush 116, 2) := dk_16 116 (dk_at dksX4_pageOf_5 5 rfl rfl)
theorem dX4_pageOf_118 : decode cX4_pageOf 118 = .ok (.if_icmp .ne 15, 3) := dk_160 0 15 (dk_at dksX4_pageOf_5 7 rfl rfl)
theorem dX4_pageOf_121 : decode cX4_pageOf 121 = .ok (.aload 6, 2) := dk_25 6 (dk_at dksX4_pageOf_5 10 rfl rfl)
theorem dX4_pageOf_123 : decode cX4_pageOf 123 = .ok (.invokevirtual 413, 3) := dk_182 1 157 (dk_at dksX4_pageOf_5 12 rfl rfl)
theorem dX4_pageOf_126 : decode cX4_pageOf 126 = .ok (.invokevirtual 393, 3) := dk_182 1 137 (dk_at dksX4_pageOf_5 15 rfl rfl)
theorem dX4_pageOf_129 : decode cX4_pageOf 129 = .ok (.iload_n 3, 1) := dk_29 (dk_at dksX4_pageOf_5 18 rfl rfl)
theorem dX4_pageOf_130 : decode cX4_pageOf 130 = .ok (.if_icmp .ne 9, 3) := dk_160 0 9 (dk_at dksX4_pageOf_5 19 rfl rfl)
theorem dX4_pageOf_133 : decode cX4_pageOf 133 = .ok (.aload 6, 2) := dk_25 6 (dk_at dksX4_pageOf_5 22 rfl rfl)
theorem dX4_pageOf_135 : decode cX4_pageOf 135 = .ok (.invokevirtual 411, 3) := dk_182 1 155 (dk_at dksX4_pageOf_6 0 rfl rfl)
theorem dX4_pageOf_138 : decode cX4_pageOf 138 = .ok (.ireturn, 1) := dk_172 (dk_at dksX4_pageOf_6 3 rfl rfl)
theorem dX4_pageOf_139 : decode cX4_pageOf 139 = .ok (.goto (-63), 3) := dk_167 255 193 (dk_at dksX4_pageOf_6 4 rfl rfl)
theorem dX4_pageOf_142 : decode cX4_pageOf 142 = .ok (.aload_n 0, 1) := dk_42 (dk_at dksX4_pageOf_6 7 rfl rfl)
theorem dX4_pageOf_143 : decode cX4_pageOf 143 = .ok (.iconst 4, 1) := dk_7 (dk_at dksX4_pageOf_6 8 rfl rfl)
theorem dX4_pageOf_144 : decode cX4_pageOf 144 = .ok (.putfield 16, 3) := dk_181 0 16 (dk_at dksX4_pageOf_6 9 rfl rfl)
theorem dX4_pageOf_147 : decode cX4_pageOf 147 = .ok (.iconst 0, 1) := dk_3 (dk_at dksX4_pageOf_6 12 rfl rfl)
theorem dX4_pageOf_148 : decode cX4_pageOf 148 = .ok (.ireturn, 1) := dk_172 (dk_at dksX4_pageOf_6 13 rfl rfl)
abbrev cX4_contexts : ByteArray := prog_14_method_64_code
def yX4_contexts : MethodName := ⟨RX4, "contexts", "()I"⟩
def dkwX4_contexts_0 : List UInt8 := [42, 3, 181, 0, 16, 42, 180, 0, 20, 172]
abbrev dktX4_contexts_0 : List UInt8 := dkwX4_contexts_0 ++ []
theorem dksX4_contexts_0 : cX4_contexts.data.toList.drop 0 = dktX4_contexts_0 := by decide +kernel
theorem dX4_contexts_0 : decode cX4_contexts 0 = .ok (.aload_n 0, 1) := dk_42 (dk_at dksX4_contexts_0 0 rfl rfl)
theorem dX4_contexts_1 : decode cX4_contexts 1 = .ok (.iconst 0, 1) := dk_3 (dk_at dksX4_contexts_0 1 rfl rfl)
theorem dX4_contexts_2 : decode cX4_contexts 2 = .ok (.putfield 16, 3) := dk_181 0 16 (dk_at dksX4_contexts_0 2 rfl rfl)
theorem dX4_contexts_5 : decode cX4_contexts 5 = .ok (.aload_n 0, 1) := dk_42 (dk_at dksX4_contexts_0 5 rfl rfl)
theorem dX4_contexts_6 : decode cX4_contexts 6 = .ok (.getfield 20, 3) := dk_180 0 20 (dk_at dksX4_contexts_0 6 rfl rfl)
theorem dX4_contexts_9 : decode cX4_contexts 9 = .ok (.ireturn, 1) := dk_172 (dk_at dksX4_contexts_0 9 rfl rfl)
abbrev cX4_area : ByteArray := prog_14_method_65_code
def yX4_area : MethodName := ⟨RX4, "area", "()J"⟩
def dkwX4_area_3 : List UInt8 := [158, 0, 7, 9, 167, 0, 4, 31, 173]
abbrev dktX4_area_3 : List UInt8 := dkwX4_area_3 ++ []
def dkwX4_area_2 : List UInt8 := [31, 25, 4, 180, 0, 202, 133, 25, 4, 180, 0, 216, 133, 105, 97, 64, 167, 255, 220, 42, 180, 0, 16]
abbrev dktX4_area_2 : List UInt8 := dkwX4_area_2 ++ dktX4_area_3
def dkwX4_area_1 : List UInt8 := [182, 0, 146, 78, 45, 185, 0, 150, 1, 0, 153, 0, 33, 45, 185, 0, 156, 1, 0, 192, 0, 30, 58, 4]
abbrev dktX4_area_1 : List UInt8 := dkwX4_area_1 ++ dktX4_area_2
def dkwX4_area_0 : List UInt8 := [42, 42, 180, 0, 26, 153, 0, 7, 3, 167, 0, 4, 4, 181, 0, 16, 9, 64, 42, 180, 0, 10]
abbrev dktX4_area_0 : List UInt8 := dkwX4_area_0 ++ dktX4_area_1
theorem dksX4_area_0 : cX4_area.data.toList.drop 0 = dktX4_area_0 := by decide +kernel
theorem dksX4_area_1 : cX4_area.data.toList.drop 22 = dktX4_area_1 := dk_seg dksX4_area_0 22 rfl rfl
theorem dksX4_area_2 : cX4_area.data.toList.drop 46 = dktX4_area_2 := dk_seg dksX4_area_1 24 rfl rfl
theorem dksX4_area_3 : cX4_area.data.toList.drop 69 = dktX4_area_3 := dk_seg dksX4_area_2 23 rfl rfl
theorem dX4_area_0 : decode cX4_area 0 = .ok (.aload_n 0, 1) := dk_42 (dk_at dksX4_area_0 0 rfl rfl)
theorem dX4_area_1 : decode cX4_area 1 = .ok (.aload_n 0, 1) := dk_42 (dk_at dksX4_area_0 1 rfl rfl)
theorem dX4_area_2 : decode cX4_area 2 = .ok (.getfield 26, 3) := dk_180 0 26 (dk_at dksX4_area_0 2 rfl rfl)
theorem dX4_area_5 : decode cX4_area 5 = .ok (.ifCond .eq 7, 3) := dk_153 0 7 (dk_at dksX4_area_0 5 rfl rfl)
theorem dX4_area_8 : decode cX4_area 8 = .ok (.iconst 0, 1) := dk_3 (dk_at dksX4_area_0 8 rfl rfl)
theorem dX4_area_9 : decode cX4_area 9 = .ok (.goto 4, 3) := dk_167 0 4 (dk_at dksX4_area_0 9 rfl rfl)
theorem dX4_area_12 : decode cX4_area 12 = .ok (.iconst 1, 1) := dk_4 (dk_at dksX4_area_0 12 rfl rfl)
theorem dX4_area_13 : decode cX4_area 13 = .ok (.putfield 16, 3) := dk_181 0 16 (dk_at dksX4_area_0 13 rfl rfl)
theorem dX4_area_16 : decode cX4_area 16 = .ok (.lconst 0, 1) := dk_9 (dk_at dksX4_area_0 16 rfl rfl)
theorem dX4_area_17 : decode cX4_area 17 = .ok (.lstore_n 1, 1) := dk_64 (dk_at dksX4_area_0 17 rfl rfl)
theorem dX4_area_18 : decode cX4_area 18 = .ok (.aload_n 0, 1) := dk_42 (dk_at dksX4_area_0 18 rfl rfl)
theorem dX4_area_19 : decode cX4_area 19 = .ok (.getfield 10, 3) := dk_180 0 10 (dk_at dksX4_area_0 19 rfl rfl)
theorem dX4_area_22 : decode cX4_area 22 = .ok (.invokevirtual 146, 3) := dk_182 0 146 (dk_at dksX4_area_1 0 rfl rfl)
theorem dX4_area_25 : decode cX4_area 25 = .ok (.astore_n 3, 1) := dk_78 (dk_at dksX4_area_1 3 rfl rfl)
theorem dX4_area_26 : decode cX4_area 26 = .ok (.aload_n 3, 1) := dk_45 (dk_at dksX4_area_1 4 rfl rfl)
theorem dX4_area_27 : decode cX4_area 27 = .ok (.invokeinterface 150 1, 5) := by decide +kernel
theorem dX4_area_32 : decode cX4_area 32 = .ok (.ifCond .eq 33, 3) := dk_153 0 33 (dk_at dksX4_area_1 10 rfl rfl)
theorem dX4_area_35 : decode cX4_area 35 = .ok (.aload_n 3, 1) := dk_45 (dk_at dksX4_area_1 13 rfl rfl)
theorem dX4_area_36 : decode cX4_area 36 = .ok (.invokeinterface 156 1, 5) := by decide +kernel
theorem dX4_area_41 : decode cX4_area 41 = .ok (.checkcast 30, 3) := dk_192 0 30 (dk_at dksX4_area_1 19 rfl rfl)
theorem dX4_area_44 : decode cX4_area 44 = .ok (.astore 4, 2) := dk_58 4 (dk_at dksX4_area_1 22 rfl rfl)
theorem dX4_area_46 : decode cX4_area 46 = .ok (.lload_n 1, 1) := dk_31 (dk_at dksX4_area_2 0 rfl rfl)
theorem dX4_area_47 : decode cX4_area 47 = .ok (.aload 4, 2) := dk_25 4 (dk_at dksX4_area_2 1 rfl rfl)
theorem dX4_area_49 : decode cX4_area 49 = .ok (.getfield 202, 3) := dk_180 0 202 (dk_at dksX4_area_2 3 rfl rfl)
theorem dX4_area_52 : decode cX4_area 52 = .ok (.i2l, 1) := dk_133 (dk_at dksX4_area_2 6 rfl rfl)
theorem dX4_area_53 : decode cX4_area 53 = .ok (.aload 4, 2) := dk_25 4 (dk_at dksX4_area_2 7 rfl rfl)
theorem dX4_area_55 : decode cX4_area 55 = .ok (.getfield 216, 3) := dk_180 0 216 (dk_at dksX4_area_2 9 rfl rfl)
theorem dX4_area_58 : decode cX4_area 58 = .ok (.i2l, 1) := dk_133 (dk_at dksX4_area_2 12 rfl rfl)
theorem dX4_area_59 : decode cX4_area 59 = .ok (.lmul, 1) := dk_105 (dk_at dksX4_area_2 13 rfl rfl)
theorem dX4_area_60 : decode cX4_area 60 = .ok (.ladd, 1) := dk_97 (dk_at dksX4_area_2 14 rfl rfl)
theorem dX4_area_61 : decode cX4_area 61 = .ok (.lstore_n 1, 1) := dk_64 (dk_at dksX4_area_2 15 rfl rfl)
theorem dX4_area_62 : decode cX4_area 62 = .ok (.goto (-36), 3) := dk_167 255 220 (dk_at dksX4_area_2 16 rfl rfl)
theorem dX4_area_65 : decode cX4_area 65 = .ok (.aload_n 0, 1) := dk_42 (dk_at dksX4_area_2 19 rfl rfl)
theorem dX4_area_66 : decode cX4_area 66 = .ok (.getfield 16, 3) := dk_180 0 16 (dk_at dksX4_area_2 20 rfl rfl)
theorem dX4_area_69 : decode cX4_area 69 = .ok (.ifCond .le 7, 3) := dk_158 0 7 (dk_at dksX4_area_3 0 rfl rfl)
theorem dX4_area_72 : decode cX4_area 72 = .ok (.lconst 0, 1) := dk_9 (dk_at dksX4_area_3 3 rfl rfl)
theorem dX4_area_73 : decode cX4_area 73 = .ok (.goto 4, 3) := dk_167 0 4 (dk_at dksX4_area_3 4 rfl rfl)
theorem dX4_area_76 : decode cX4_area 76 = .ok (.lload_n 1, 1) := dk_31 (dk_at dksX4_area_3 7 rfl rfl)
theorem dX4_area_77 : decode cX4_area 77 = .ok (.lreturn, 1) := dk_173 (dk_at dksX4_area_3 8 rfl rfl)
abbrev cX4_filled : ByteArray := prog_14_method_66_code
def yX4_filled : MethodName := ⟨RX4, "filled", "()F"⟩
def dkwX4_filled_6 : List UInt8 := [28, 16, 10, 104, 134, 27, 134, 110, 174]
abbrev dktX4_filled_6 : List UInt8 := dkwX4_filled_6 ++ []
def dkwX4_filled_5 : List UInt8 := [54, 6, 28, 21, 6, 96, 61, 167, 255, 226, 167, 255, 193, 42, 180, 0, 16, 158, 0, 7, 11, 167, 0, 11]
abbrev dktX4_filled_5 : List UInt8 := dkwX4_filled_5 ++ dktX4_filled_6
def dkwX4_filled_4 : List UInt8 := [25, 5, 185, 0, 150, 1, 0, 153, 0, 26, 25, 5, 185, 0, 156, 1, 0, 192, 0, 87, 182, 0, 160]
abbrev dktX4_filled_4 : List UInt8 := dkwX4_filled_4 ++ dktX4_filled_5
def dkwX4_filled_3 : List UInt8 := [153, 0, 60, 45, 185, 0, 156, 1, 0, 192, 0, 30, 58, 4, 25, 4, 180, 0, 83, 182, 0, 146, 58, 5]
abbrev dktX4_filled_3 : List UInt8 := dkwX4_filled_3 ++ dktX4_filled_4
def dkwX4_filled_2 : List UInt8 := [5, 167, 0, 4, 3, 181, 0, 16, 3, 61, 42, 180, 0, 10, 182, 0, 146, 78, 45, 185, 0, 150, 1, 0]
abbrev dktX4_filled_2 : List UInt8 := dkwX4_filled_2 ++ dktX4_filled_3
def dkwX4_filled_1 : List UInt8 := [192, 0, 30, 180, 0, 216, 104, 60, 42, 42, 180, 0, 26, 154, 0, 7, 4, 167, 0, 12, 27, 154, 0, 7]
abbrev dktX4_filled_1 : List UInt8 := dkwX4_filled_1 ++ dktX4_filled_2
def dkwX4_filled_0 : List UInt8 := [42, 180, 0, 10, 3, 182, 0, 58, 192, 0, 30, 180, 0, 202, 42, 180, 0, 10, 3, 182, 0, 58]
abbrev dktX4_filled_0 : List UInt8 := dkwX4_filled_0 ++ dktX4_filled_1
theorem dksX4_filled_0 : cX4_filled.data.toList.drop 0 = dktX4_filled_0 := by decide +kernel
theorem dksX4_filled_1 : cX4_filled.data.toList.drop 22 = dktX4_filled_1 := dk_seg dksX4_filled_0 22 rfl rfl
theorem dksX4_filled_2 : cX4_filled.data.toList.drop 46 = dktX4_filled_2 := dk_seg dksX4_filled_1 24 rfl rfl
theorem dksX4_filled_3 : cX4_filled.data.toList.drop 70 = dktX4_filled_3 := dk_seg dksX4_filled_2 24 rfl rfl
theorem dksX4_filled_4 : cX4_filled.data.toList.drop 94 = dktX4_filled_4 := dk_seg dksX4_filled_3 24 rfl rfl
theorem dksX4_filled_5 : cX4_filled.data.toList.drop 117 = dktX4_filled_5 := dk_seg dksX4_filled_4 23 rfl rfl
theorem dksX4_filled_6 : cX4_filled.data.toList.drop 141 = dktX4_filled_6 := dk_seg dksX4_filled_5 24 rfl rfl
theorem dX4_filled_0 : decode cX4_filled 0 = .ok (.aload_n 0, 1) := dk_42 (dk_at dksX4_filled_0 0 rfl rfl)
theorem dX4_filled_1 : decode cX4_filled 1 = .ok (.getfield 10, 3) := dk_180 0 10 (dk_at dksX4_filled_0 1 rfl rfl)
theorem dX4_filled_4 : decode cX4_filled 4 = .ok (.iconst 0, 1) := dk_3 (dk_at dksX4_filled_0 4 rfl rfl)
theorem dX4_filled_5 : decode cX4_filled 5 = .ok (.invokevirtual 58, 3) := dk_182 0 58 (dk_at dksX4_filled_0 5 rfl rfl)
theorem dX4_filled_8 : decode cX4_filled 8 = .ok (.checkcast 30, 3) := dk_192 0 30 (dk_at dksX4_filled_0 8 rfl rfl)
theorem dX4_filled_11 : decode cX4_filled 11 = .ok (.getfield 202, 3) := dk_180 0 202 (dk_at dksX4_filled_0 11 rfl rfl)
theorem dX4_filled_14 : decode cX4_filled 14 = .ok (.aload_n 0, 1) := dk_42 (dk_at dksX4_filled_0 14 rfl rfl)
theorem dX4_filled_15 : decode cX4_filled 15 = .ok (.getfield 10, 3) := dk_180 0 10 (dk_at dksX4_filled_0 15 rfl rfl)
theorem dX4_filled_18 : decode cX4_filled 18 = .ok (.iconst 0, 1) := dk_3 (dk_at dksX4_filled_0 18 rfl rfl)
theorem dX4_filled_19 : decode cX4_filled 19 = .ok (.invokevirtual 58, 3) := dk_182 0 58 (dk_at dksX4_filled_0 19 rfl rfl)
theorem dX4_filled_22 : decode cX4_filled 22 = .ok (.checkcast 30, 3) := dk_192 0 30 (dk_at dksX4_filled_1 0 rfl rfl)
theorem dX4_filled_25 : decode cX4_filled 25 = .ok (.getfield 216, 3) := dk_180 0 216 (dk_at dksX4_filled_1 3 rfl rfl)
theorem dX4_filled_28 : decode cX4_filled 28 = .ok (.imul, 1) := dk_104 (dk_at dksX4_filled_1 6 rfl rfl)
theorem dX4_filled_29 : decode cX4_filled 29 = .ok (.istore_n 1, 1) := dk_60 (dk_at dksX4_filled_1 7 rfl rfl)
theorem dX4_filled_30 : decode cX4_filled 30 = .ok (.aload_n 0, 1) := dk_42 (dk_at dksX4_filled_1 8 rfl rfl)
theorem dX4_filled_31 : decode cX4_filled 31 = .ok (.aload_n 0, 1) := dk_42 (dk_at dksX4_filled_1 9 rfl rfl)
theorem dX4_filled_32 : decode cX4_filled 32 = .ok (.getfield 26, 3) := dk_180 0 26 (dk_at dksX4_filled_1 10 rfl rfl)
theorem dX4_filled_35 : decode cX4_filled 35 = .ok (.ifCond .ne 7, 3) := dk_154 0 7 (dk_at dksX4_filled_1 13 rfl rfl)
theorem dX4_filled_38 : decode cX4_filled 38 = .ok (.iconst 1, 1) := dk_4 (dk_at dksX4_filled_1 16 rfl rfl)
theorem dX4_filled_39 : decode cX4_filled 39 = .ok (.goto 12, 3) := dk_167 0 12 (dk_at dksX4_filled_1 17 rfl rfl)
theorem dX4_filled_42 : decode cX4_filled 42 = .ok (.iload_n 1, 1) := dk_27 (dk_at dksX4_filled_1 20 rfl rfl)
theorem dX4_filled_43 : decode cX4_filled 43 = .ok (.ifCond .ne 7, 3) := dk_154 0 7 (dk_at dksX4_filled_1 21 rfl rfl)
theorem dX4_filled_46 : decode cX4_filled 46 = .ok (.iconst 2, 1) := dk_5 (dk_at dksX4_filled_2 0 rfl rfl)
theorem dX4_filled_47 : decode cX4_filled 47 = .ok (.goto 4, 3) := dk_167 0 4 (dk_at dksX4_filled_2 1 rfl rfl)
theorem dX4_filled_50 : decode cX4_filled 50 = .ok (.iconst 0, 1) := dk_3 (dk_at dksX4_filled_2 4 rfl rfl)
theorem dX4_filled_51 : decode cX4_filled 51 = .ok (.putfield 16, 3) := dk_181 0 16 (dk_at dksX4_filled_2 5 rfl rfl)
theorem dX4_filled_54 : decode cX4_filled 54 = .ok (.iconst 0, 1) := dk_3 (dk_at dksX4_filled_2 8 rfl rfl)
theorem dX4_filled_55 : decode cX4_filled 55 = .ok (.istore_n 2, 1) := dk_61 (dk_at dksX4_filled_2 9 rfl rfl)
theorem dX4_filled_56 : decode cX4_filled 56 = .ok (.aload_n 0, 1) := dk_42 (dk_at dksX4_filled_2 10 rfl rfl)
theorem dX4_filled_57 : decode cX4_filled 57 = .ok (.getfield 10, 3) := dk_180 0 10 (dk_at dksX4_filled_2 11 rfl rfl)
theorem dX4_filled_60 : decode cX4_filled 60 = .ok (.invokevirtual 146, 3) := dk_182 0 146 (dk_at dksX4_filled_2 14 rfl rfl)
theorem dX4_filled_63 : decode cX4_filled 63 = .ok (.astore_n 3, 1) := dk_78 (dk_at dksX4_filled_2 17 rfl rfl)
theorem dX4_filled_64 : decode cX4_filled 64 = .ok (.aload_n 3, 1) := dk_45 (dk_at dksX4_filled_2 18 rfl rfl)
theorem dX4_filled_65 : decode cX4_filled 65 = .ok (.invokeinterface 150 1, 5) := by decide +kernel
theorem dX4_filled_70 : decode cX4_filled 70 = .ok (.ifCond .eq 60, 3) := dk_153 0 60 (dk_at dksX4_filled_3 0 rfl rfl)
theorem dX4_filled_73 : decode cX4_filled 73 = .ok (.aload_n 3, 1) := dk_45 (dk_at dksX4_filled_3 3 rfl rfl)
theorem dX4_filled_74 : decode cX4_filled 74 = .ok (.invokeinterface 156 1, 5) := by decide +kernel
theorem dX4_filled_79 : decode cX4_filled 79 = .ok (.checkcast 30, 3) := dk_192 0 30 (dk_at dksX4_filled_3 9 rfl rfl)
theorem dX4_filled_82 : decode cX4_filled 82 = .ok (.astore 4, 2) := dk_58 4 (dk_at dksX4_filled_3 12 rfl rfl)
theorem dX4_filled_84 : decode cX4_filled 84 = .ok (.aload 4, 2) := dk_25 4 (dk_at dksX4_filled_3 14 rfl rfl)
theorem dX4_filled_86 : decode cX4_filled 86 = .ok (.getfield 83, 3) := dk_180 0 83 (dk_at dksX4_filled_3 16 rfl rfl)
theorem dX4_filled_89 : decode cX4_filled 89 = .ok (.invokevirtual 146, 3) := dk_182 0 146 (dk_at dksX4_filled_3 19 rfl rfl)
theorem dX4_filled_92 : decode cX4_filled 92 = .ok (.astore 5, 2) := dk_58 5 (dk_at dksX4_filled_3 22 rfl rfl)
theorem dX4_filled_94 : decode cX4_filled 94 = .ok (.aload 5, 2) := dk_25 5 (dk_at dksX4_filled_4 0 rfl rfl)
theorem dX4_filled_96 : decode cX4_filled 96 = .ok (.invokeinterface 150 1, 5) := by decide +kernel
theorem dX4_filled_101 : decode cX4_filled 101 = .ok (.ifCond .eq 26, 3) := dk_153 0 26 (dk_at dksX4_filled_4 7 rfl rfl)
theorem dX4_filled_104 : decode cX4_filled 104 = .ok (.aload 5, 2) := dk_25 5 (dk_at dksX4_filled_4 10 rfl rfl)
theorem dX4_filled_106 : decode cX4_filled 106 = .ok (.invokeinterface 156 1, 5) := by decide +kernel
theorem dX4_filled_111 : decode cX4_filled 111 = .ok (.checkcast 87, 3) := dk_192 0 87 (dk_at dksX4_filled_4 17 rfl rfl)
theorem dX4_filled_114 : decode cX4_filled 114 = .ok (.invokevirtual 160, 3) := dk_182 0 160 (dk_at dksX4_filled_4 20 rfl rfl)
theorem dX4_filled_117 : decode cX4_filled 117 = .ok (.istore 6, 2) := dk_54 6 (dk_at dksX4_filled_5 0 rfl rfl)
theorem dX4_filled_119 : decode cX4_filled 119 = .ok (.iload_n 2, 1) := dk_28 (dk_at dksX4_filled_5 2 rfl rfl)
theorem dX4_filled_120 : decode cX4_filled 120 = .ok (.iload 6, 2) := dk_21 6 (dk_at dksX4_filled_5 3 rfl rfl)
theorem dX4_filled_122 : decode cX4_filled 122 = .ok (.iadd, 1) := dk_96 (dk_at dksX4_filled_5 5 rfl rfl)
theorem dX4_filled_123 : decode cX4_filled 123 = .ok (.istore_n 2, 1) := dk_61 (dk_at dksX4_filled_5 6 rfl rfl)
theorem dX4_filled_124 : decode cX4_filled 124 = .ok (.goto (-30), 3) := dk_167 255 226 (dk_at dksX4_filled_5 7 rfl rfl)
theorem dX4_filled_127 : decode cX4_filled 127 = .ok (.goto (-63), 3) := dk_167 255 193 (dk_at dksX4_filled_5 10 rfl rfl)
theorem dX4_filled_130 : decode cX4_filled 130 = .ok (.aload_n 0, 1) := dk_42 (dk_at dksX4_filled_5 13 rfl rfl)
theorem dX4_filled_131 : decode cX4_filled 131 = .ok (.getfield 16, 3) := dk_180 0 16 (dk_at dksX4_filled_5 14 rfl rfl)
theorem dX4_filled_134 : decode cX4_filled 134 = .ok (.ifCond .le 7, 3) := dk_158 0 7 (dk_at dksX4_filled_5 17 rfl rfl)
theorem dX4_filled_137 : decode cX4_filled 137 = .ok (.fconst 0, 1) := dk_11 (dk_at dksX4_filled_5 20 rfl rfl)
theorem dX4_filled_138 : decode cX4_filled 138 = .ok (.goto 11, 3) := dk_167 0 11 (dk_at dksX4_filled_5 21 rfl rfl)
theorem dX4_filled_141 : decode cX4_filled 141 = .ok (.iload_n 2, 1) := dk_28 (dk_at dksX4_filled_6 0 rfl rfl)
theorem dX4_filled_142 : decode cX4_filled 142 = .ok (.bipush 10, 2) := dk_16 10 (dk_at dksX4_filled_6 1 rfl rfl)
theorem dX4_filled_144 : decode cX4_filled 144 = .ok (.imul, 1) := dk_104 (dk_at dksX4_filled_6 3 rfl rfl)
theorem dX4_filled_145 : decode cX4_filled 145 = .ok (.i2f, 1) := dk_134 (dk_at dksX4_filled_6 4 rfl rfl)
theorem dX4_filled_146 : decode cX4_filled 146 = .ok (.iload_n 1, 1) := dk_27 (dk_at dksX4_filled_6 5 rfl rfl)
theorem dX4_filled_147 : decode cX4_filled 147 = .ok (.i2f, 1) := dk_134 (dk_at dksX4_filled_6 6 rfl rfl)
theorem dX4_filled_148 : decode cX4_filled 148 = .ok (.fdiv, 1) := dk_110 (dk_at dksX4_filled_6 7 rfl rfl)
theorem dX4_filled_149 : decode cX4_filled 149 = .ok (.freturn, 1) := dk_174 (dk_at dksX4_filled_6 8 rfl rfl)
abbrev cX4_meanLine : ByteArray := prog_14_method_67_code
def yX4_meanLine : MethodName := ⟨RX4, "meanLine", "()D"⟩
def dkwX4_meanLine_4 : List UInt8 := [180, 0, 16, 158, 0, 7, 14, 167, 0, 8, 27, 135, 28, 135, 111, 175]
abbrev dktX4_meanLine_4 : List UInt8 := dkwX4_meanLine_4 ++ []
def dkwX4_meanLine_3 : List UInt8 := [42, 180, 0, 26, 154, 0, 7, 4, 167, 0, 12, 28, 154, 0, 7, 5, 167, 0, 4, 3, 181, 0, 16, 42]
abbrev dktX4_meanLine_3 : List UInt8 := dkwX4_meanLine_3 ++ dktX4_meanLine_4
def dkwX4_meanLine_2 : List UInt8 := [180, 0, 26, 153, 0, 14, 25, 4, 180, 1, 48, 182, 0, 39, 167, 0, 4, 3, 96, 61, 167, 255, 203, 42]
abbrev dktX4_meanLine_2 : List UInt8 := dkwX4_meanLine_2 ++ dktX4_meanLine_3
def dkwX4_meanLine_1 : List UInt8 := [185, 0, 156, 1, 0, 192, 0, 30, 58, 4, 27, 25, 4, 180, 0, 83, 182, 0, 39, 96, 60, 28, 42]
abbrev dktX4_meanLine_1 : List UInt8 := dkwX4_meanLine_1 ++ dktX4_meanLine_2
def dkwX4_meanLine_0 : List UInt8 := [3, 60, 3, 61, 42, 180, 0, 10, 182, 0, 146, 78, 45, 185, 0, 150, 1, 0, 153, 0, 50, 45]
abbrev dktX4_meanLine_0 : List UInt8 := dkwX4_meanLine_0 ++ dktX4_meanLine_1
theorem dksX4_meanLine_0 : cX4_meanLine.data.toList.drop 0 = dktX4_meanLine_0 := by decide +kernel
theorem dksX4_meanLine_1 : cX4_meanLine.data.toList.drop 22 = dktX4_meanLine_1 := dk_seg dksX4_meanLine_0 22 rfl rfl
theorem dksX4_meanLine_2 : cX4_meanLine.data.toList.drop 45 = dktX4_meanLine_2 := dk_seg dksX4_meanLine_1 23 rfl rfl
theorem dksX4_meanLine_3 : cX4_meanLine.data.toList.drop 69 = dktX4_meanLine_3 := dk_seg dksX4_meanLine_2 24 rfl rfl
theorem dksX4_meanLine_4 : cX4_meanLine.data.toList.drop 93 = dktX4_meanLine_4 := dk_seg dksX4_meanLine_3 24 rfl rfl
theorem dX4_meanLine_0 : decode cX4_meanLine 0 = .ok (.iconst 0, 1) := dk_3 (dk_at dksX4_meanLine_0 0 rfl rfl)
theorem dX4_meanLine_1 : decode cX4_meanLine 1 = .ok (.istore_n 1, 1) := dk_60 (dk_at dksX4_meanLine_0 1 rfl rfl)
theorem dX4_meanLine_2 : decode cX4_meanLine 2 = .ok (.iconst 0, 1) := dk_3 (dk_at dksX4_meanLine_0 2 rfl rfl)
theorem dX4_meanLine_3 : decode cX4_meanLine 3 = .ok (.istore_n 2, 1) := dk_61 (dk_at dksX4_meanLine_0 3 rfl rfl)
theorem dX4_meanLine_4 : decode cX4_meanLine 4 = .ok (.aload_n 0, 1) := dk_42 (dk_at dksX4_meanLine_0 4 rfl rfl)
theorem dX4_meanLine_5 : decode cX4_meanLine 5 = .ok (.getfield 10, 3) := dk_180 0 10 (dk_at dksX4_meanLine_0 5 rfl rfl)
theorem dX4_meanLine_8 : decode cX4_meanLine 8 = .ok (.invokevirtual 146, 3) := dk_182 0 146 (dk_at dksX4_meanLine_0 8 rfl rfl)
theorem dX4_meanLine_11 : decode cX4_meanLine 11 = .ok (.astore_n 3, 1) := dk_78 (dk_at dksX4_meanLine_0 11 rfl rfl)
theorem dX4_meanLine_12 : decode cX4_meanLine 12 = .ok (.aload_n 3, 1) := dk_45 (dk_at dksX4_meanLine_0 12 rfl rfl)
theorem dX4_meanLine_13 : decode cX4_meanLine 13 = .ok (.invokeinterface 150 1, 5) := by decide +kernel
theorem dX4_meanLine_18 : decode cX4_meanLine 18 = .ok (.ifCond .eq 50, 3) := dk_153 0 50 (dk_at dksX4_meanLine_0 18 rfl rfl)
theorem dX4_meanLine_21 : decode cX4_meanLine 21 = .ok (.aload_n 3, 1) := dk_45 (dk_at dksX4_meanLine_0 21 rfl rfl)
theorem dX4_meanLine_22 : decode cX4_meanLine 22 = .ok (.invokeinterface 156 1, 5) := by decide +kernel
theorem dX4_meanLine_27 : decode cX4_meanLine 27 = .ok (.checkcast 30, 3) := dk_192 0 30 (dk_at dksX4_meanLine_1 5 rfl rfl)
theorem dX4_meanLine_30 : decode cX4_meanLine 30 = .ok (.astore 4, 2) := dk_58 4 (dk_at dksX4_meanLine_1 8 rfl rfl)
theorem dX4_meanLine_32 : decode cX4_meanLine 32 = .ok (.iload_n 1, 1) := dk_27 (dk_at dksX4_meanLine_1 10 rfl rfl)
theorem dX4_meanLine_33 : decode cX4_meanLine 33 = .ok (.aload 4, 2) := dk_25 4 (dk_at dksX4_meanLine_1 11 rfl rfl)
theorem dX4_meanLine_35 : decode cX4_meanLine 35 = .ok (.getfield 83, 3) := dk_180 0 83 (dk_at dksX4_meanLine_1 13 rfl rfl)
theorem dX4_meanLine_38 : decode cX4_meanLine 38 = .ok (.invokevirtual 39, 3) := dk_182 0 39 (dk_at dksX4_meanLine_1 16 rfl rfl)
theorem dX4_meanLine_41 : decode cX4_meanLine 41 = .ok (.iadd, 1) := dk_96 (dk_at dksX4_meanLine_1 19 rfl rfl)
theorem dX4_meanLine_42 : decode cX4_meanLine 42 = .ok (.istore_n 1, 1) := dk_60 (dk_at dksX4_meanLine_1 20 rfl rfl)
theorem dX4_meanLine_43 : decode cX4_meanLine 43 = .ok (.iload_n 2, 1) := dk_28 (dk_at dksX4_meanLine_1 21 rfl rfl)
theorem dX4_meanLine_44 : decode cX4_meanLine 44 = .ok (.aload_n 0, 1) := dk_42 (dk_at dksX4_meanLine_1 22 rfl rfl)
theorem dX4_meanLine_45 : decode cX4_meanLine 45 = .ok (.getfield 26, 3) := dk_180 0 26 (dk_at dksX4_meanLine_2 0 rfl rfl)
theorem dX4_meanLine_48 : decode cX4_meanLine 48 = .ok (.ifCond .eq 14, 3) := dk_153 0 14 (dk_at dksX4_meanLine_2 3 rfl rfl)
theorem dX4_meanLine_51 : decode cX4_meanLine 51 = .ok (.aload 4, 2) := dk_25 4 (dk_at dksX4_meanLine_2 6 rfl rfl)
theorem dX4_meanLine_53 : decode cX4_meanLine 53 = .ok (.getfield 304, 3) := dk_180 1 48 (dk_at dksX4_meanLine_2 8 rfl rfl)
theorem dX4_meanLine_56 : decode cX4_meanLine 56 = .ok (.invokevirtual 39, 3) := dk_182 0 39 (dk_at dksX4_meanLine_2 11 rfl rfl)
theorem dX4_meanLine_59 : decode cX4_meanLine 59 = .ok (.goto 4, 3) := dk_167 0 4 (dk_at dksX4_meanLine_2 14 rfl rfl)
theorem dX4_meanLine_62 : decode cX4_meanLine 62 = .ok (.iconst 0, 1) := dk_3 (dk_at dksX4_meanLine_2 17 rfl rfl)
theorem dX4_meanLine_63 : decode cX4_meanLine 63 = .ok (.iadd, 1) := dk_96 (dk_at dksX4_meanLine_2 18 rfl rfl)
theorem dX4_meanLine_64 : decode cX4_meanLine 64 = .ok (.istore_n 2, 1) := dk_61 (dk_at dksX4_meanLine_2 19 rfl rfl)
theorem dX4_meanLine_65 : decode cX4_meanLine 65 = .ok (.goto (-53), 3) := dk_167 255 203 (dk_at dksX4_meanLine_2 20 rfl rfl)
theorem dX4_meanLine_68 : decode cX4_meanLine 68 = .ok (.aload_n 0, 1) := dk_42 (dk_at dksX4_meanLine_2 23 rfl rfl)
theorem dX4_meanLine_69 : decode cX4_meanLine 69 = .ok (.aload_n 0, 1) := dk_42 (dk_at dksX4_meanLine_3 0 rfl rfl)
theorem dX4_meanLine_70 : decode cX4_meanLine 70 = .ok (.getfield 26, 3) := dk_180 0 26 (dk_at dksX4_meanLine_3 1 rfl rfl)
theorem dX4_meanLine_73 : decode cX4_meanLine 73 = .ok (.ifCond .ne 7, 3) := dk_154 0 7 (dk_at dksX4_meanLine_3 4 rfl rfl)
theorem dX4_meanLine_76 : decode cX4_meanLine 76 = .ok (.iconst 1, 1) := dk_4 (dk_at dksX4_meanLine_3 7 rfl rfl)
theorem dX4_meanLine_77 : decode cX4_meanLine 77 = .ok (.goto 12, 3) := dk_167 0 12 (dk_at dksX4_meanLine_3 8 rfl rfl)
theorem dX4_meanLine_80 : decode cX4_meanLine 80 = .ok (.iload_n 2, 1) := dk_28 (dk_at dksX4_meanLine_3 11 rfl rfl)
theorem dX4_meanLine_81 : decode cX4_meanLine 81 = .ok (.ifCond .ne 7, 3) := dk_154 0 7 (dk_at dksX4_meanLine_3 12 rfl rfl)
theorem dX4_meanLine_84 : decode cX4_meanLine 84 = .ok (.iconst 2, 1) := dk_5 (dk_at dksX4_meanLine_3 15 rfl rfl)
theorem dX4_meanLine_85 : decode cX4_meanLine 85 = .ok (.goto 4, 3) := dk_167 0 4 (dk_at dksX4_meanLine_3 16 rfl rfl)
theorem dX4_meanLine_88 : decode cX4_meanLine 88 = .ok (.iconst 0, 1) := dk_3 (dk_at dksX4_meanLine_3 19 rfl rfl)
theorem dX4_meanLine_89 : decode cX4_meanLine 89 = .ok (.putfield 16, 3) := dk_181 0 16 (dk_at dksX4_meanLine_3 20 rfl rfl)
theorem dX4_meanLine_92 : decode cX4_meanLine 92 = .ok (.aload_n 0, 1) := dk_42 (dk_at dksX4_meanLine_3 23 rfl rfl)
theorem dX4_meanLine_93 : decode cX4_meanLine 93 = .ok (.getfield 16, 3) := dk_180 0 16 (dk_at dksX4_meanLine_4 0 rfl rfl)
theorem dX4_meanLine_96 : decode cX4_meanLine 96 = .ok (.ifCond .le 7, 3) := dk_158 0 7 (dk_at dksX4_meanLine_4 3 rfl rfl)
theorem dX4_meanLine_99 : decode cX4_meanLine 99 = .ok (.dconst 0, 1) := dk_14 (dk_at dksX4_meanLine_4 6 rfl rfl)
theorem dX4_meanLine_100 : decode cX4_meanLine 100 = .ok (.goto 8, 3) := dk_167 0 8 (dk_at dksX4_meanLine_4 7 rfl rfl)
theorem dX4_meanLine_103 : decode cX4_meanLine 103 = .ok (.iload_n 1, 1) := dk_27 (dk_at dksX4_meanLine_4 10 rfl rfl)
theorem dX4_meanLine_104 : decode cX4_meanLine 104 = .ok (.i2d, 1) := dk_135 (dk_at dksX4_meanLine_4 11 rfl rfl)
theorem dX4_meanLine_105 : decode cX4_meanLine 105 = .ok (.iload_n 2, 1) := dk_28 (dk_at dksX4_meanLine_4 12 rfl rfl)
theorem dX4_meanLine_106 : decode cX4_meanLine 106 = .ok (.i2d, 1) := dk_135 (dk_at dksX4_meanLine_4 13 rfl rfl)
theorem dX4_meanLine_107 : decode cX4_meanLine 107 = .ok (.ddiv, 1) := dk_111 (dk_at dksX4_meanLine_4 14 rfl rfl)
theorem dX4_meanLine_108 : decode cX4_meanLine 108 = .ok (.dreturn, 1) := dk_175 (dk_at dksX4_meanLine_4 15 rfl rfl)
abbrev cX4_isConsistent : ByteArray := prog_14_method_68_code
def yX4_isConsistent : MethodName := ⟨RX4, "isConsistent", "()Z"⟩
def dkwX4_isConsistent_0 : List UInt8 := [42, 3, 181, 0, 16, 4, 172]
abbrev dktX4_isConsistent_0 : List UInt8 := dkwX4_isConsistent_0 ++ []
theorem dksX4_isConsistent_0 : cX4_isConsistent.data.toList.drop 0 = dktX4_isConsistent_0 := by decide +kernel
theorem dX4_isConsistent_0 : decode cX4_isConsistent 0 = .ok (.aload_n 0, 1) := dk_42 (dk_at dksX4_isConsistent_0 0 rfl rfl)
theorem dX4_isConsistent_1 : decode cX4_isConsistent 1 = .ok (.iconst 0, 1) := dk_3 (dk_at dksX4_isConsistent_0 1 rfl rfl)
theorem dX4_isConsistent_2 : decode cX4_isConsistent 2 = .ok (.putfield 16, 3) := dk_181 0 16 (dk_at dksX4_isConsistent_0 2 rfl rfl)
theorem dX4_isConsistent_5 : decode cX4_isConsistent 5 = .ok (.iconst 1, 1) := dk_4 (dk_at dksX4_isConsistent_0 5 rfl rfl)
theorem dX4_isConsistent_6 : decode cX4_isConsistent 6 = .ok (.ireturn, 1) := dk_172 (dk_at dksX4_isConsistent_0 6 rfl rfl)
theorem q77 : (Jvm.Cond.initialized "ColumnarPressModel") ∈ lw_all := lw_g (lw_at lw_m1 25 rfl) rfl
theorem q400 : (Jvm.Cond.selects "ColumnarPressModel" ({ cls := "java/lang/Object", name := "getClass", desc := "()Ljava/lang/Class;" } : Jvm.MethodName) ({ cls := "java/lang/Object", name := "getClass", desc := "()Ljava/lang/Class;" } : Jvm.MethodName)) ∈ lw_all := lw_g (lw_at lw_m2 108 rfl) rfl
theorem q2077 : (Jvm.Cond.instantiable "ColumnarPressModel" (5 : Nat)) ∈ lw_all := lw_g (lw_at lw_m9 105 rfl) rfl
theorem q2079 : (Jvm.Cond.instanceMethod ({ cls := "ColumnarPressModel", name := "<init>", desc := "()V" } : Jvm.MethodName)) ∈ lw_all := lw_g (lw_at lw_m9 107 rfl) rfl
theorem q2080 : (Jvm.Cond.code ({ cls := "ColumnarPressModel", name := "<init>", desc := "()V" } : Jvm.MethodName) prog_14_method_1_code (1 : Nat) (Option.none : Option Jvm.ClassFile.FieldType)) ∈ lw_all := lw_g (lw_at lw_m9 108 rfl) rfl
theorem q2081 : (Jvm.Cond.methodLink "ColumnarPressModel" (1 : Nat) ({ cls := "java/lang/Object", name := "<init>", desc := "()V" } : Jvm.MethodName)) ∈ lw_all := lw_g (lw_at lw_m9 109 rfl) rfl
theorem q2082 : (Jvm.Cond.classLink "ColumnarPressModel" (7 : Nat) "java/util/ArrayList") ∈ lw_all := lw_g (lw_at lw_m9 110 rfl) rfl
theorem q2083 : (Jvm.Cond.methodLink "ColumnarPressModel" (9 : Nat) ({ cls := "java/util/ArrayList", name := "<init>", desc := "()V" } : Jvm.MethodName)) ∈ lw_all := lw_g (lw_at lw_m9 111 rfl) rfl
theorem q2084 : (Jvm.Cond.classLink "ColumnarPressModel" (30 : Nat) "ColumnarPressModel$Box") ∈ lw_all := lw_g (lw_at lw_m9 112 rfl) rfl
theorem q2086 : (Jvm.Cond.methodLink "ColumnarPressModel" (32 : Nat) ({ cls := "ColumnarPressModel$Box", name := "<init>", desc := "(ICLColumnarPressModel$Box;)V" } : Jvm.MethodName)) ∈ lw_all := lw_g (lw_at lw_m9 114 rfl) rfl
theorem q2093 : (Jvm.Cond.fieldLink "ColumnarPressModel" (76 : Nat) "ColumnarPressModel$Box" "number" "I") ∈ lw_all := lw_g (lw_at lw_m9 121 rfl) rfl
theorem q2095 : (Jvm.Cond.fieldLink "ColumnarPressModel" (62 : Nat) "ColumnarPressModel$Box" "kind" "C") ∈ lw_all := lw_g (lw_at lw_m9 123 rfl) rfl
theorem q2097 : (Jvm.Cond.fieldLink "ColumnarPressModel" (54 : Nat) "ColumnarPressModel$Box" "parent" "LColumnarPressModel$Box;") ∈ lw_all := lw_g (lw_at lw_m9 125 rfl) rfl
theorem q2099 : (Jvm.Cond.fieldLink "ColumnarPressModel" (66 : Nat) "ColumnarPressModel$Box" "deep" "I") ∈ lw_all := lw_g (lw_at lw_m9 127 rfl) rfl
theorem q2101 : (Jvm.Cond.fieldLink "ColumnarPressModel" (69 : Nat) "ColumnarPressModel$Box" "children" "Ljava/util/ArrayList;") ∈ lw_all := lw_g (lw_at lw_m9 129 rfl) rfl
theorem q2103 : (Jvm.Cond.fieldLink "ColumnarPressModel" (83 : Nat) "ColumnarPressModel$Box" "words" "Ljava/util/ArrayList;") ∈ lw_all := lw_g (lw_at lw_m9 131 rfl) rfl
theorem q2105 : (Jvm.Cond.fieldLink "ColumnarPressModel" (304 : Nat) "ColumnarPressModel$Box" "lines" "Ljava/util/ArrayList;") ∈ lw_all := lw_g (lw_at lw_m9 133 rfl) rfl
theorem q2107 : (Jvm.Cond.fieldLink "ColumnarPressModel" (92 : Nat) "ColumnarPressModel$Box" "width" "I") ∈ lw_all := lw_g (lw_at lw_m9 135 rfl) rfl
theorem q2109 : (Jvm.Cond.fieldLink "ColumnarPressModel" (95 : Nat) "ColumnarPressModel$Box" "height" "I") ∈ lw_all := lw_g (lw_at lw_m9 137 rfl) rfl
theorem q2111 : (Jvm.Cond.fieldLink "ColumnarPressModel" (98 : Nat) "ColumnarPressModel$Box" "top" "I") ∈ lw_all := lw_g (lw_at lw_m9 139 rfl) rfl
theorem q2113 : (Jvm.Cond.fieldLink "ColumnarPressModel" (101 : Nat) "ColumnarPressModel$Box" "bottom" "I") ∈ lw_all := lw_g (lw_at lw_m9 141 rfl) rfl
theorem q2115 : (Jvm.Cond.fieldLink "ColumnarPressModel" (104 : Nat) "ColumnarPressModel$Box" "left" "I") ∈ lw_all := lw_g (lw_at lw_m9 143 rfl) rfl
theorem q2117 : (Jvm.Cond.fieldLink "ColumnarPressModel" (107 : Nat) "ColumnarPressModel$Box" "right" "I") ∈ lw_all := lw_g (lw_at lw_m9 145 rfl) rfl
theorem q2119 : (Jvm.Cond.fieldLink "ColumnarPressModel" (110 : Nat) "ColumnarPressModel$Box" "padding" "I") ∈ lw_all := lw_g (lw_at lw_m9 147 rfl) rfl
theorem q2121 : (Jvm.Cond.fieldLink "ColumnarPressModel" (113 : Nat) "ColumnarPressModel$Box" "grow" "I") ∈ lw_all := lw_g (lw_at lw_m9 149 rfl) rfl
theorem q2123 : (Jvm.Cond.fieldLink "ColumnarPressModel" (116 : Nat) "ColumnarPressModel$Box" "shrink" "I") ∈ lw_all := lw_g (lw_at lw_m9 151 rfl) rfl
theorem q2125 : (Jvm.Cond.fieldLink "ColumnarPressModel" (119 : Nat) "ColumnarPressModel$Box" "columns" "I") ∈ lw_all := lw_g (lw_at lw_m9 153 rfl) rfl
theorem q2127 : (Jvm.Cond.fieldLink "ColumnarPressModel" (128 : Nat) "ColumnarPressModel$Box" "dx" "I") ∈ lw_all := lw_g (lw_at lw_m9 155 rfl) rfl
theorem q2129 : (Jvm.Cond.fieldLink "ColumnarPressModel" (131 : Nat) "ColumnarPressModel$Box" "dy" "I") ∈ lw_all := lw_g (lw_at lw_m9 157 rfl) rfl
theorem q2131 : (Jvm.Cond.fieldLink "ColumnarPressModel" (134 : Nat) "ColumnarPressModel$Box" "depth" "I") ∈ lw_all := lw_g (lw_at lw_m9 159 rfl) rfl
theorem q2133 : (Jvm.Cond.fieldLink "ColumnarPressModel" (122 : Nat) "ColumnarPressModel$Box" "side" "C") ∈ lw_all := lw_g (lw_at lw_m9 161 rfl) rfl
theorem q2135 : (Jvm.Cond.fieldLink "ColumnarPressModel" (125 : Nat) "ColumnarPressModel$Box" "place" "C") ∈ lw_all := lw_g (lw_at lw_m9 163 rfl) rfl
theorem q2137 : (Jvm.Cond.fieldLink "ColumnarPressModel" (140 : Nat) "ColumnarPressModel$Box" "pause" "C") ∈ lw_all := lw_g (lw_at lw_m9 165 rfl) rfl
theorem q2139 : (Jvm.Cond.fieldLink "ColumnarPressModel" (143 : Nat) "ColumnarPressModel$Box" "alignment" "C") ∈ lw_all := lw_g (lw_at lw_m9 167 rfl) rfl
theorem q2141 : (Jvm.Cond.fieldLink "ColumnarPressModel" (137 : Nat) "ColumnarPressModel$Box" "clears" "Z") ∈ lw_all := lw_g (lw_at lw_m9 169 rfl) rfl
theorem q2143 : (Jvm.Cond.fieldLink "ColumnarPressModel" (51 : Nat) "ColumnarPressModel$Box" "isMarked" "Z") ∈ lw_all := lw_g (lw_at lw_m9 171 rfl) rfl
theorem q2145 : (Jvm.Cond.fieldLink "ColumnarPressModel" (199 : Nat) "ColumnarPressModel$Box" "lastWidth" "I") ∈ lw_all := lw_g (lw_at lw_m9 173 rfl) rfl
theorem q2147 : (Jvm.Cond.fieldLink "ColumnarPressModel" (247 : Nat) "ColumnarPressModel$Box" "x" "I") ∈ lw_all := lw_g (lw_at lw_m9 175 rfl) rfl
theorem q2149 : (Jvm.Cond.fieldLink "ColumnarPressModel" (250 : Nat) "ColumnarPressModel$Box" "y" "I") ∈ lw_all := lw_g (lw_at lw_m9 177 rfl) rfl
theorem q2151 : (Jvm.Cond.fieldLink "ColumnarPressModel" (202 : Nat) "ColumnarPressModel$Box" "w" "I") ∈ lw_all := lw_g (lw_at lw_m9 179 rfl) rfl
theorem q2153 : (Jvm.Cond.fieldLink "ColumnarPressModel" (216 : Nat) "ColumnarPressModel$Box" "h" "I") ∈ lw_all := lw_g (lw_at lw_m9 181 rfl) rfl
theorem q2217 : (Jvm.Cond.methodLink "ColumnarPressModel" (35 : Nat) ({ cls := "java/util/ArrayList", name := "add", desc := "(Ljava/lang/Object;)Z" } : Jvm.MethodName)) ∈ lw_all := lw_g (lw_at lw_m10 5 rfl) rfl
theorem q2218 : (Jvm.Cond.fieldLink "ColumnarPressModel" (10 : Nat) "ColumnarPressModel" "boxes" "Ljava/util/ArrayList;") ∈ lw_all := lw_g (lw_at lw_m10 6 rfl) rfl
theorem q2219 : (Jvm.Cond.fieldLink "ColumnarPressModel" (16 : Nat) "ColumnarPressModel" "thrown" "I") ∈ lw_all := lw_g (lw_at lw_m10 7 rfl) rfl
theorem q2220 : (Jvm.Cond.fieldLink "ColumnarPressModel" (20 : Nat) "ColumnarPressModel" "contexts" "I") ∈ lw_all := lw_g (lw_at lw_m10 8 rfl) rfl
theorem q2221 : (Jvm.Cond.fieldLink "ColumnarPressModel" (23 : Nat) "ColumnarPressModel" "counted" "I") ∈ lw_all := lw_g (lw_at lw_m10 9 rfl) rfl
theorem q2222 : (Jvm.Cond.fieldLink "ColumnarPressModel" (26 : Nat) "ColumnarPressModel" "isCurrent" "Z") ∈ lw_all := lw_g (lw_at lw_m10 10 rfl) rfl
theorem q2223 : (Jvm.Cond.laysFinal "ColumnarPressModel" "ColumnarPressModel" "boxes" "Ljava/util/ArrayList;") ∈ lw_all := lw_g (lw_at lw_m10 11 rfl) rfl
theorem q2224 : (Jvm.Cond.soleField "ColumnarPressModel" "boxes") ∈ lw_all := lw_g (lw_at lw_m10 12 rfl) rfl
theorem q2225 : (Jvm.Cond.lays "ColumnarPressModel" "ColumnarPressModel" "thrown" "I") ∈ lw_all := lw_g (lw_at lw_m10 13 rfl) rfl
theorem q2226 : (Jvm.Cond.soleField "ColumnarPressModel" "thrown") ∈ lw_all := lw_g (lw_at lw_m10 14 rfl) rfl
theorem q2227 : (Jvm.Cond.lays "ColumnarPressModel" "ColumnarPressModel" "contexts" "I") ∈ lw_all := lw_g (lw_at lw_m10 15 rfl) rfl
theorem q2228 : (Jvm.Cond.soleField "ColumnarPressModel" "contexts") ∈ lw_all := lw_g (lw_at lw_m10 16 rfl) rfl
theorem q2229 : (Jvm.Cond.lays "ColumnarPressModel" "ColumnarPressModel" "counted" "I") ∈ lw_all := lw_g (lw_at lw_m10 17 rfl) rfl
theorem q2230 : (Jvm.Cond.soleField "ColumnarPressModel" "counted") ∈ lw_all := lw_g (lw_at lw_m10 18 rfl) rfl
theorem q2231 : (Jvm.Cond.lays "ColumnarPressModel" "ColumnarPressModel" "isCurrent" "Z") ∈ lw_all := lw_g (lw_at lw_m10 19 rfl) rfl
theorem q2232 : (Jvm.Cond.soleField "ColumnarPressModel" "isCurrent") ∈ lw_all := lw_g (lw_at lw_m10 20 rfl) rfl
theorem q2233 : (Jvm.Cond.superclass "ColumnarPressModel" "java/lang/Object") ∈ lw_all := lw_g (lw_at lw_m10 21 rfl) rfl
theorem q2235 : (Jvm.Cond.instanceMethod ({ cls := "ColumnarPressModel", name := "thrown", desc := "()I" } : Jvm.MethodName)) ∈ lw_all := lw_g (lw_at lw_m10 23 rfl) rfl
theorem q2236 : (Jvm.Cond.selects "ColumnarPressModel" ({ cls := "ColumnarPressModel", name := "thrown", desc := "()I" } : Jvm.MethodName) ({ cls := "ColumnarPressModel", name := "thrown", desc := "()I" } : Jvm.MethodName)) ∈ lw_all := lw_g (lw_at lw_m10 24 rfl) rfl
theorem q2237 : (Jvm.Cond.code ({ cls := "ColumnarPressModel", name := "thrown", desc := "()I" } : Jvm.MethodName) prog_14_method_2_code (1 : Nat) (Option.some Jvm.ClassFile.FieldType.int)) ∈ lw_all := lw_g (lw_at lw_m10 25 rfl) rfl
theorem q2239 : (Jvm.Cond.instanceMethod ({ cls := "ColumnarPressModel", name := "add", desc := "(IC)I" } : Jvm.MethodName)) ∈ lw_all := lw_g (lw_at lw_m10 27 rfl) rfl
theorem q2240 : (Jvm.Cond.selects "ColumnarPressModel" ({ cls := "ColumnarPressModel", name := "add", desc := "(IC)I" } : Jvm.MethodName) ({ cls := "ColumnarPressModel", name := "add", desc := "(IC)I" } : Jvm.MethodName)) ∈ lw_all := lw_g (lw_at lw_m10 28 rfl) rfl
theorem q2241 : (Jvm.Cond.code ({ cls := "ColumnarPressModel", name := "add", desc := "(IC)I" } : Jvm.MethodName) prog_14_method_7_code (6 : Nat) (Option.some Jvm.ClassFile.FieldType.int)) ∈ lw_all := lw_g (lw_at lw_m10 29 rfl) rfl
theorem q2242 : (Jvm.Cond.methodLink "ColumnarPressModel" (47 : Nat) ({ cls := "ColumnarPressModel", name := "isBox", desc := "(I)Z" } : Jvm.MethodName)) ∈ lw_all := lw_g (lw_at lw_m10 30 rfl) rfl
theorem q2243 : (Jvm.Cond.privateMethod ({ cls := "ColumnarPressModel", name := "isBox", desc := "(I)Z" } : Jvm.MethodName)) ∈ lw_tbl := lw_at lw_m10 31 rfl
theorem q2244 : (Jvm.Cond.instanceMethod ({ cls := "ColumnarPressModel", name := "isBox", desc := "(I)Z" } : Jvm.MethodName)) ∈ lw_all := lw_g (lw_at lw_m10 32 rfl) rfl
theorem q2245 : (Jvm.Cond.code ({ cls := "ColumnarPressModel", name := "isBox", desc := "(I)Z" } : Jvm.MethodName) prog_14_method_4_code (2 : Nat) (Option.some Jvm.ClassFile.FieldType.boolean)) ∈ lw_all := lw_g (lw_at lw_m10 33 rfl) rfl
theorem q2246 : (Jvm.Cond.methodLink "ColumnarPressModel" (39 : Nat) ({ cls := "java/util/ArrayList", name := "size", desc := "()I" } : Jvm.MethodName)) ∈ lw_all := lw_g (lw_at lw_m10 34 rfl) rfl
theorem q2247 : (Jvm.Cond.methodLink "ColumnarPressModel" (43 : Nat) ({ cls := "ColumnarPressModel", name := "in", desc := "(III)Z" } : Jvm.MethodName)) ∈ lw_all := lw_g (lw_at lw_m10 35 rfl) rfl
theorem q2248 : (Jvm.Cond.static ({ cls := "ColumnarPressModel", name := "in", desc := "(III)Z" } : Jvm.MethodName)) ∈ lw_all := lw_g (lw_at lw_m10 36 rfl) rfl
theorem q2249 : (Jvm.Cond.code ({ cls := "ColumnarPressModel", name := "in", desc := "(III)Z" } : Jvm.MethodName) prog_14_method_3_code (3 : Nat) (Option.some Jvm.ClassFile.FieldType.boolean)) ∈ lw_all := lw_g (lw_at lw_m10 37 rfl) rfl
theorem q2250 : (Jvm.Cond.methodLink "ColumnarPressModel" (58 : Nat) ({ cls := "java/util/ArrayList", name := "get", desc := "(I)Ljava/lang/Object;" } : Jvm.MethodName)) ∈ lw_all := lw_g (lw_at lw_m10 38 rfl) rfl
theorem q2251 : (Jvm.Cond.methodLink "ColumnarPressModel" (72 : Nat) ({ cls := "ColumnarPressModel", name := "mark", desc := "(LColumnarPressModel$Box;)V" } : Jvm.MethodName)) ∈ lw_all := lw_g (lw_at lw_m10 39 rfl) rfl
theorem q2252 : (Jvm.Cond.privateMethod ({ cls := "ColumnarPressModel", name := "mark", desc := "(LColumnarPressModel$Box;)V" } : Jvm.MethodName)) ∈ lw_tbl := lw_at lw_m10 40 rfl
theorem q2253 : (Jvm.Cond.instanceMethod ({ cls := "ColumnarPressModel", name := "mark", desc := "(LColumnarPressModel$Box;)V" } : Jvm.MethodName)) ∈ lw_all := lw_g (lw_at lw_m10 41 rfl) rfl
theorem q2254 : (Jvm.Cond.code ({ cls := "ColumnarPressModel", name := "mark", desc := "(LColumnarPressModel$Box;)V" } : Jvm.MethodName) prog_14_method_6_code (3 : Nat) (Option.none : Option Jvm.ClassFile.FieldType)) ∈ lw_all := lw_g (lw_at lw_m10 42 rfl) rfl
theorem q2256 : (Jvm.Cond.instanceMethod ({ cls := "ColumnarPressModel", name := "addWord", desc := "(II)I" } : Jvm.MethodName)) ∈ lw_all := lw_g (lw_at lw_m10 44 rfl) rfl
theorem q2257 : (Jvm.Cond.selects "ColumnarPressModel" ({ cls := "ColumnarPressModel", name := "addWord", desc := "(II)I" } : Jvm.MethodName) ({ cls := "ColumnarPressModel", name := "addWord", desc := "(II)I" } : Jvm.MethodName)) ∈ lw_all := lw_g (lw_at lw_m10 45 rfl) rfl
theorem q2258 : (Jvm.Cond.code ({ cls := "ColumnarPressModel", name := "addWord", desc := "(II)I" } : Jvm.MethodName) prog_14_method_8_code (4 : Nat) (Option.some Jvm.ClassFile.FieldType.int)) ∈ lw_all := lw_g (lw_at lw_m10 46 rfl) rfl
theorem q2259 : (Jvm.Cond.methodLink "ColumnarPressModel" (79 : Nat) ({ cls := "ColumnarPressModel", name := "wrong", desc := "(IZ)I" } : Jvm.MethodName)) ∈ lw_all := lw_g (lw_at lw_m10 47 rfl) rfl
theorem q2260 : (Jvm.Cond.privateMethod ({ cls := "ColumnarPressModel", name := "wrong", desc := "(IZ)I" } : Jvm.MethodName)) ∈ lw_tbl := lw_at lw_m10 48 rfl
theorem q2261 : (Jvm.Cond.instanceMethod ({ cls := "ColumnarPressModel", name := "wrong", desc := "(IZ)I" } : Jvm.MethodName)) ∈ lw_all := lw_g (lw_at lw_m10 49 rfl) rfl
theorem q2262 : (Jvm.Cond.code ({ cls := "ColumnarPressModel", name := "wrong", desc := "(IZ)I" } : Jvm.MethodName) prog_14_method_5_code (3 : Nat) (Option.some Jvm.ClassFile.FieldType.int)) ∈ lw_all := lw_g (lw_at lw_m10 50 rfl) rfl
theorem q2263 : (Jvm.Cond.methodLink "ColumnarPressModel" (86 : Nat) ({ cls := "java/lang/Integer", name := "valueOf", desc := "(I)Ljava/lang/Integer;" } : Jvm.MethodName)) ∈ lw_all := lw_g (lw_at lw_m10 51 rfl) rfl
theorem q2265 : (Jvm.Cond.instanceMethod ({ cls := "ColumnarPressModel", name := "setSize", desc := "(III)I" } : Jvm.MethodName)) ∈ lw_all := lw_g (lw_at lw_m10 53 rfl) rfl
theorem q2266 : (Jvm.Cond.selects "ColumnarPressModel" ({ cls := "ColumnarPressModel", name := "setSize", desc := "(III)I" } : Jvm.MethodName) ({ cls := "ColumnarPressModel", name := "setSize", desc := "(III)I" } : Jvm.MethodName)) ∈ lw_all := lw_g (lw_at lw_m10 54 rfl) rfl
theorem q2267 : (Jvm.Cond.code ({ cls := "ColumnarPressModel", name := "setSize", desc := "(III)I" } : Jvm.MethodName) prog_14_method_9_code (6 : Nat) (Option.some Jvm.ClassFile.FieldType.int)) ∈ lw_all := lw_g (lw_at lw_m10 55 rfl) rfl
theorem q2269 : (Jvm.Cond.instanceMethod ({ cls := "ColumnarPressModel", name := "setMargins", desc := "(IIIII)I" } : Jvm.MethodName)) ∈ lw_all := lw_g (lw_at lw_m10 57 rfl) rfl
theorem q2270 : (Jvm.Cond.selects "ColumnarPressModel" ({ cls := "ColumnarPressModel", name := "setMargins", desc := "(IIIII)I" } : Jvm.MethodName) ({ cls := "ColumnarPressModel", name := "setMargins", desc := "(IIIII)I" } : Jvm.MethodName)) ∈ lw_all := lw_g (lw_at lw_m10 58 rfl) rfl
theorem q2271 : (Jvm.Cond.code ({ cls := "ColumnarPressModel", name := "setMargins", desc := "(IIIII)I" } : Jvm.MethodName) prog_14_method_10_code (8 : Nat) (Option.some Jvm.ClassFile.FieldType.int)) ∈ lw_all := lw_g (lw_at lw_m10 59 rfl) rfl
theorem q2273 : (Jvm.Cond.instanceMethod ({ cls := "ColumnarPressModel", name := "setPadding", desc := "(II)I" } : Jvm.MethodName)) ∈ lw_all := lw_g (lw_at lw_m10 61 rfl) rfl
theorem q2274 : (Jvm.Cond.selects "ColumnarPressModel" ({ cls := "ColumnarPressModel", name := "setPadding", desc := "(II)I" } : Jvm.MethodName) ({ cls := "ColumnarPressModel", name := "setPadding", desc := "(II)I" } : Jvm.MethodName)) ∈ lw_all := lw_g (lw_at lw_m10 62 rfl) rfl
theorem q2275 : (Jvm.Cond.code ({ cls := "ColumnarPressModel", name := "setPadding", desc := "(II)I" } : Jvm.MethodName) prog_14_method_11_code (5 : Nat) (Option.some Jvm.ClassFile.FieldType.int)) ∈ lw_all := lw_g (lw_at lw_m10 63 rfl) rfl
theorem q2277 : (Jvm.Cond.instanceMethod ({ cls := "ColumnarPressModel", name := "setFactors", desc := "(III)I" } : Jvm.MethodName)) ∈ lw_all := lw_g (lw_at lw_m10 65 rfl) rfl
theorem q2278 : (Jvm.Cond.selects "ColumnarPressModel" ({ cls := "ColumnarPressModel", name := "setFactors", desc := "(III)I" } : Jvm.MethodName) ({ cls := "ColumnarPressModel", name := "setFactors", desc := "(III)I" } : Jvm.MethodName)) ∈ lw_all := lw_g (lw_at lw_m10 66 rfl) rfl
theorem q2279 : (Jvm.Cond.code ({ cls := "ColumnarPressModel", name := "setFactors", desc := "(III)I" } : Jvm.MethodName) prog_14_method_12_code (6 : Nat) (Option.some Jvm.ClassFile.FieldType.int)) ∈ lw_all := lw_g (lw_at lw_m10 67 rfl) rfl
theorem q2281 : (Jvm.Cond.instanceMethod ({ cls := "ColumnarPressModel", name := "setColumns", desc := "(II)I" } : Jvm.MethodName)) ∈ lw_all := lw_g (lw_at lw_m10 69 rfl) rfl
theorem q2282 : (Jvm.Cond.selects "ColumnarPressModel" ({ cls := "ColumnarPressModel", name := "setColumns", desc := "(II)I" } : Jvm.MethodName) ({ cls := "ColumnarPressModel", name := "setColumns", desc := "(II)I" } : Jvm.MethodName)) ∈ lw_all := lw_g (lw_at lw_m10 70 rfl) rfl
theorem q2283 : (Jvm.Cond.code ({ cls := "ColumnarPressModel", name := "setColumns", desc := "(II)I" } : Jvm.MethodName) prog_14_method_13_code (5 : Nat) (Option.some Jvm.ClassFile.FieldType.int)) ∈ lw_all := lw_g (lw_at lw_m10 71 rfl) rfl
theorem q2285 : (Jvm.Cond.instanceMethod ({ cls := "ColumnarPressModel", name := "setFloat", desc := "(IC)C" } : Jvm.MethodName)) ∈ lw_all := lw_g (lw_at lw_m10 73 rfl) rfl
theorem q2286 : (Jvm.Cond.selects "ColumnarPressModel" ({ cls := "ColumnarPressModel", name := "setFloat", desc := "(IC)C" } : Jvm.MethodName) ({ cls := "ColumnarPressModel", name := "setFloat", desc := "(IC)C" } : Jvm.MethodName)) ∈ lw_all := lw_g (lw_at lw_m10 74 rfl) rfl
theorem q2287 : (Jvm.Cond.code ({ cls := "ColumnarPressModel", name := "setFloat", desc := "(IC)C" } : Jvm.MethodName) prog_14_method_14_code (5 : Nat) (Option.some Jvm.ClassFile.FieldType.char)) ∈ lw_all := lw_g (lw_at lw_m10 75 rfl) rfl
theorem q2289 : (Jvm.Cond.instanceMethod ({ cls := "ColumnarPressModel", name := "setPlace", desc := "(ICII)C" } : Jvm.MethodName)) ∈ lw_all := lw_g (lw_at lw_m10 77 rfl) rfl
theorem q2290 : (Jvm.Cond.selects "ColumnarPressModel" ({ cls := "ColumnarPressModel", name := "setPlace", desc := "(ICII)C" } : Jvm.MethodName) ({ cls := "ColumnarPressModel", name := "setPlace", desc := "(ICII)C" } : Jvm.MethodName)) ∈ lw_all := lw_g (lw_at lw_m10 78 rfl) rfl
theorem q2291 : (Jvm.Cond.code ({ cls := "ColumnarPressModel", name := "setPlace", desc := "(ICII)C" } : Jvm.MethodName) prog_14_method_15_code (7 : Nat) (Option.some Jvm.ClassFile.FieldType.char)) ∈ lw_all := lw_g (lw_at lw_m10 79 rfl) rfl
theorem q2293 : (Jvm.Cond.instanceMethod ({ cls := "ColumnarPressModel", name := "setDepth", desc := "(II)I" } : Jvm.MethodName)) ∈ lw_all := lw_g (lw_at lw_m10 81 rfl) rfl
theorem q2294 : (Jvm.Cond.selects "ColumnarPressModel" ({ cls := "ColumnarPressModel", name := "setDepth", desc := "(II)I" } : Jvm.MethodName) ({ cls := "ColumnarPressModel", name := "setDepth", desc := "(II)I" } : Jvm.MethodName)) ∈ lw_all := lw_g (lw_at lw_m10 82 rfl) rfl
theorem q2295 : (Jvm.Cond.code ({ cls := "ColumnarPressModel", name := "setDepth", desc := "(II)I" } : Jvm.MethodName) prog_14_method_16_code (4 : Nat) (Option.some Jvm.ClassFile.FieldType.int)) ∈ lw_all := lw_g (lw_at lw_m10 83 rfl) rfl
theorem q2297 : (Jvm.Cond.instanceMethod ({ cls := "ColumnarPressModel", name := "setClear", desc := "(IZ)Z" } : Jvm.MethodName)) ∈ lw_all := lw_g (lw_at lw_m10 85 rfl) rfl
theorem q2298 : (Jvm.Cond.selects "ColumnarPressModel" ({ cls := "ColumnarPressModel", name := "setClear", desc := "(IZ)Z" } : Jvm.MethodName) ({ cls := "ColumnarPressModel", name := "setClear", desc := "(IZ)Z" } : Jvm.MethodName)) ∈ lw_all := lw_g (lw_at lw_m10 86 rfl) rfl
theorem q2299 : (Jvm.Cond.code ({ cls := "ColumnarPressModel", name := "setClear", desc := "(IZ)Z" } : Jvm.MethodName) prog_14_method_17_code (5 : Nat) (Option.some Jvm.ClassFile.FieldType.boolean)) ∈ lw_all := lw_g (lw_at lw_m10 87 rfl) rfl
theorem q2301 : (Jvm.Cond.instanceMethod ({ cls := "ColumnarPressModel", name := "setBreak", desc := "(IC)C" } : Jvm.MethodName)) ∈ lw_all := lw_g (lw_at lw_m10 89 rfl) rfl
theorem q2302 : (Jvm.Cond.selects "ColumnarPressModel" ({ cls := "ColumnarPressModel", name := "setBreak", desc := "(IC)C" } : Jvm.MethodName) ({ cls := "ColumnarPressModel", name := "setBreak", desc := "(IC)C" } : Jvm.MethodName)) ∈ lw_all := lw_g (lw_at lw_m10 90 rfl) rfl
theorem q2303 : (Jvm.Cond.code ({ cls := "ColumnarPressModel", name := "setBreak", desc := "(IC)C" } : Jvm.MethodName) prog_14_method_18_code (4 : Nat) (Option.some Jvm.ClassFile.FieldType.char)) ∈ lw_all := lw_g (lw_at lw_m10 91 rfl) rfl
theorem q2305 : (Jvm.Cond.instanceMethod ({ cls := "ColumnarPressModel", name := "setAlignment", desc := "(IC)C" } : Jvm.MethodName)) ∈ lw_all := lw_g (lw_at lw_m10 93 rfl) rfl
theorem q2306 : (Jvm.Cond.selects "ColumnarPressModel" ({ cls := "ColumnarPressModel", name := "setAlignment", desc := "(IC)C" } : Jvm.MethodName) ({ cls := "ColumnarPressModel", name := "setAlignment", desc := "(IC)C" } : Jvm.MethodName)) ∈ lw_all := lw_g (lw_at lw_m10 94 rfl) rfl
theorem q2307 : (Jvm.Cond.code ({ cls := "ColumnarPressModel", name := "setAlignment", desc := "(IC)C" } : Jvm.MethodName) prog_14_method_19_code (5 : Nat) (Option.some Jvm.ClassFile.FieldType.char)) ∈ lw_all := lw_g (lw_at lw_m10 95 rfl) rfl
theorem q2309 : (Jvm.Cond.instanceMethod ({ cls := "ColumnarPressModel", name := "leastWidth", desc := "(I)I" } : Jvm.MethodName)) ∈ lw_all := lw_g (lw_at lw_m10 97 rfl) rfl
theorem q2310 : (Jvm.Cond.selects "ColumnarPressModel" ({ cls := "ColumnarPressModel", name := "leastWidth", desc := "(I)I" } : Jvm.MethodName) ({ cls := "ColumnarPressModel", name := "leastWidth", desc := "(I)I" } : Jvm.MethodName)) ∈ lw_all := lw_g (lw_at lw_m10 98 rfl) rfl
theorem q2311 : (Jvm.Cond.code ({ cls := "ColumnarPressModel", name := "leastWidth", desc := "(I)I" } : Jvm.MethodName) prog_14_method_24_code (2 : Nat) (Option.some Jvm.ClassFile.FieldType.int)) ∈ lw_all := lw_g (lw_at lw_m10 99 rfl) rfl
theorem q2312 : (Jvm.Cond.methodLink "ColumnarPressModel" (172 : Nat) ({ cls := "ColumnarPressModel", name := "bound", desc := "(LColumnarPressModel$Box;Z)I" } : Jvm.MethodName)) ∈ lw_all := lw_g (lw_at lw_m10 100 rfl) rfl
theorem q2313 : (Jvm.Cond.static ({ cls := "ColumnarPressModel", name := "bound", desc := "(LColumnarPressModel$Box;Z)I" } : Jvm.MethodName)) ∈ lw_all := lw_g (lw_at lw_m10 101 rfl) rfl
theorem q2314 : (Jvm.Cond.code ({ cls := "ColumnarPressModel", name := "bound", desc := "(LColumnarPressModel$Box;Z)I" } : Jvm.MethodName) prog_14_method_22_code (2 : Nat) (Option.some Jvm.ClassFile.FieldType.int)) ∈ lw_all := lw_g (lw_at lw_m10 102 rfl) rfl
theorem q2315 : (Jvm.Cond.methodLink "ColumnarPressModel" (179 : Nat) ({ cls := "ColumnarPressModel$Box", name := "told", desc := "()I" } : Jvm.MethodName)) ∈ lw_all := lw_g (lw_at lw_m10 103 rfl) rfl
theorem q2319 : (Jvm.Cond.methodLink "ColumnarPressModel" (182 : Nat) ({ cls := "ColumnarPressModel", name := "ofText", desc := "(LColumnarPressModel$Box;Z)I" } : Jvm.MethodName)) ∈ lw_all := lw_g (lw_at lw_m10 107 rfl) rfl
theorem q2320 : (Jvm.Cond.static ({ cls := "ColumnarPressModel", name := "ofText", desc := "(LColumnarPressModel$Box;Z)I" } : Jvm.MethodName)) ∈ lw_all := lw_g (lw_at lw_m10 108 rfl) rfl
theorem q2321 : (Jvm.Cond.code ({ cls := "ColumnarPressModel", name := "ofText", desc := "(LColumnarPressModel$Box;Z)I" } : Jvm.MethodName) prog_14_method_20_code (6 : Nat) (Option.some Jvm.ClassFile.FieldType.int)) ∈ lw_all := lw_g (lw_at lw_m10 109 rfl) rfl
theorem q2322 : (Jvm.Cond.methodLink "ColumnarPressModel" (146 : Nat) ({ cls := "java/util/ArrayList", name := "iterator", desc := "()Ljava/util/Iterator;" } : Jvm.MethodName)) ∈ lw_all := lw_g (lw_at lw_m10 110 rfl) rfl
theorem q2323 : (Jvm.Cond.interfaceEntry "ColumnarPressModel" (150 : Nat)) ∈ lw_tbl := lw_at lw_m10 111 rfl
theorem q2324 : (Jvm.Cond.methodLink "ColumnarPressModel" (150 : Nat) ({ cls := "java/util/Iterator", name := "hasNext", desc := "()Z" } : Jvm.MethodName)) ∈ lw_all := lw_g (lw_at lw_m10 112 rfl) rfl
theorem q2325 : (Jvm.Cond.interfaceEntry "ColumnarPressModel" (156 : Nat)) ∈ lw_tbl := lw_at lw_m10 113 rfl
theorem q2326 : (Jvm.Cond.methodLink "ColumnarPressModel" (156 : Nat) ({ cls := "java/util/Iterator", name := "next", desc := "()Ljava/lang/Object;" } : Jvm.MethodName)) ∈ lw_all := lw_g (lw_at lw_m10 114 rfl) rfl
theorem q2327 : (Jvm.Cond.classLink "ColumnarPressModel" (87 : Nat) "java/lang/Integer") ∈ lw_all := lw_g (lw_at lw_m10 115 rfl) rfl
theorem q2328 : (Jvm.Cond.methodLink "ColumnarPressModel" (160 : Nat) ({ cls := "java/lang/Integer", name := "intValue", desc := "()I" } : Jvm.MethodName)) ∈ lw_all := lw_g (lw_at lw_m10 116 rfl) rfl
theorem q2329 : (Jvm.Cond.methodLink "ColumnarPressModel" (163 : Nat) ({ cls := "java/lang/Math", name := "max", desc := "(II)I" } : Jvm.MethodName)) ∈ lw_all := lw_g (lw_at lw_m10 117 rfl) rfl
theorem q2330 : (Jvm.Cond.methodLink "ColumnarPressModel" (185 : Nat) ({ cls := "ColumnarPressModel", name := "ofChildren", desc := "(LColumnarPressModel$Box;Z)I" } : Jvm.MethodName)) ∈ lw_all := lw_g (lw_at lw_m10 118 rfl) rfl
theorem q2331 : (Jvm.Cond.static ({ cls := "ColumnarPressModel", name := "ofChildren", desc := "(LColumnarPressModel$Box;Z)I" } : Jvm.MethodName)) ∈ lw_all := lw_g (lw_at lw_m10 119 rfl) rfl
theorem q2332 : (Jvm.Cond.code ({ cls := "ColumnarPressModel", name := "ofChildren", desc := "(LColumnarPressModel$Box;Z)I" } : Jvm.MethodName) prog_14_method_21_code (10 : Nat) (Option.some Jvm.ClassFile.FieldType.int)) ∈ lw_all := lw_g (lw_at lw_m10 120 rfl) rfl
theorem q2333 : (Jvm.Cond.methodLink "ColumnarPressModel" (169 : Nat) ({ cls := "ColumnarPressModel$Box", name := "isLifted", desc := "()Z" } : Jvm.MethodName)) ∈ lw_all := lw_g (lw_at lw_m10 121 rfl) rfl
theorem q2337 : (Jvm.Cond.methodLink "ColumnarPressModel" (176 : Nat) ({ cls := "ColumnarPressModel$Box", name := "sides", desc := "()I" } : Jvm.MethodName)) ∈ lw_all := lw_g (lw_at lw_m10 125 rfl) rfl
theorem q2342 : (Jvm.Cond.instanceMethod ({ cls := "ColumnarPressModel", name := "greatestWidth", desc := "(I)I" } : Jvm.MethodName)) ∈ lw_all := lw_g (lw_at lw_m10 130 rfl) rfl
theorem q2343 : (Jvm.Cond.selects "ColumnarPressModel" ({ cls := "ColumnarPressModel", name := "greatestWidth", desc := "(I)I" } : Jvm.MethodName) ({ cls := "ColumnarPressModel", name := "greatestWidth", desc := "(I)I" } : Jvm.MethodName)) ∈ lw_all := lw_g (lw_at lw_m10 131 rfl) rfl
theorem q2344 : (Jvm.Cond.code ({ cls := "ColumnarPressModel", name := "greatestWidth", desc := "(I)I" } : Jvm.MethodName) prog_14_method_25_code (2 : Nat) (Option.some Jvm.ClassFile.FieldType.int)) ∈ lw_all := lw_g (lw_at lw_m10 132 rfl) rfl
theorem q2346 : (Jvm.Cond.instanceMethod ({ cls := "ColumnarPressModel", name := "layOut", desc := "(I)I" } : Jvm.MethodName)) ∈ lw_all := lw_g (lw_at lw_m10 134 rfl) rfl
theorem q2347 : (Jvm.Cond.selects "ColumnarPressModel" ({ cls := "ColumnarPressModel", name := "layOut", desc := "(I)I" } : Jvm.MethodName) ({ cls := "ColumnarPressModel", name := "layOut", desc := "(I)I" } : Jvm.MethodName)) ∈ lw_all := lw_g (lw_at lw_m10 135 rfl) rfl
theorem q2348 : (Jvm.Cond.code ({ cls := "ColumnarPressModel", name := "layOut", desc := "(I)I" } : Jvm.MethodName) prog_14_method_44_code (4 : Nat) (Option.some Jvm.ClassFile.FieldType.int)) ∈ lw_all := lw_g (lw_at lw_m10 136 rfl) rfl
theorem q2349 : (Jvm.Cond.methodLink "ColumnarPressModel" (256 : Nat) ({ cls := "ColumnarPressModel", name := "lays", desc := "(LColumnarPressModel$Box;IZ)V" } : Jvm.MethodName)) ∈ lw_all := lw_g (lw_at lw_m10 137 rfl) rfl
theorem q2350 : (Jvm.Cond.privateMethod ({ cls := "ColumnarPressModel", name := "lays", desc := "(LColumnarPressModel$Box;IZ)V" } : Jvm.MethodName)) ∈ lw_tbl := lw_at lw_m10 138 rfl
theorem q2351 : (Jvm.Cond.instanceMethod ({ cls := "ColumnarPressModel", name := "lays", desc := "(LColumnarPressModel$Box;IZ)V" } : Jvm.MethodName)) ∈ lw_all := lw_g (lw_at lw_m10 139 rfl) rfl
theorem q2352 : (Jvm.Cond.code ({ cls := "ColumnarPressModel", name := "lays", desc := "(LColumnarPressModel$Box;IZ)V" } : Jvm.MethodName) prog_14_method_27_code (8 : Nat) (Option.none : Option Jvm.ClassFile.FieldType)) ∈ lw_all := lw_g (lw_at lw_m10 140 rfl) rfl
theorem q2353 : (Jvm.Cond.methodLink "ColumnarPressModel" (205 : Nat) ({ cls := "ColumnarPressModel", name := "contents", desc := "(LColumnarPressModel$Box;IILjava/util/List;Z)I" } : Jvm.MethodName)) ∈ lw_all := lw_g (lw_at lw_m10 141 rfl) rfl
theorem q2354 : (Jvm.Cond.privateMethod ({ cls := "ColumnarPressModel", name := "contents", desc := "(LColumnarPressModel$Box;IILjava/util/List;Z)I" } : Jvm.MethodName)) ∈ lw_tbl := lw_at lw_m10 142 rfl
theorem q2355 : (Jvm.Cond.instanceMethod ({ cls := "ColumnarPressModel", name := "contents", desc := "(LColumnarPressModel$Box;IILjava/util/List;Z)I" } : Jvm.MethodName)) ∈ lw_all := lw_g (lw_at lw_m10 143 rfl) rfl
theorem q2356 : (Jvm.Cond.code ({ cls := "ColumnarPressModel", name := "contents", desc := "(LColumnarPressModel$Box;IILjava/util/List;Z)I" } : Jvm.MethodName) prog_14_method_28_code (6 : Nat) (Option.some Jvm.ClassFile.FieldType.int)) ∈ lw_all := lw_g (lw_at lw_m10 144 rfl) rfl
theorem q2357 : (Jvm.Cond.methodLink "ColumnarPressModel" (219 : Nat) ({ cls := "ColumnarPressModel", name := "block", desc := "(LColumnarPressModel$Box;IILjava/util/List;Z)I" } : Jvm.MethodName)) ∈ lw_all := lw_g (lw_at lw_m10 145 rfl) rfl
theorem q2358 : (Jvm.Cond.privateMethod ({ cls := "ColumnarPressModel", name := "block", desc := "(LColumnarPressModel$Box;IILjava/util/List;Z)I" } : Jvm.MethodName)) ∈ lw_tbl := lw_at lw_m10 146 rfl
theorem q2359 : (Jvm.Cond.instanceMethod ({ cls := "ColumnarPressModel", name := "block", desc := "(LColumnarPressModel$Box;IILjava/util/List;Z)I" } : Jvm.MethodName)) ∈ lw_all := lw_g (lw_at lw_m10 147 rfl) rfl
theorem q2360 : (Jvm.Cond.code ({ cls := "ColumnarPressModel", name := "block", desc := "(LColumnarPressModel$Box;IILjava/util/List;Z)I" } : Jvm.MethodName) prog_14_method_30_code (15 : Nat) (Option.some Jvm.ClassFile.FieldType.int)) ∈ lw_all := lw_g (lw_at lw_m10 148 rfl) rfl
theorem q2361 : (Jvm.Cond.methodLink "ColumnarPressModel" (232 : Nat) ({ cls := "ColumnarPressModel", name := "inner", desc := "(LColumnarPressModel$Box;)I" } : Jvm.MethodName)) ∈ lw_all := lw_g (lw_at lw_m10 149 rfl) rfl
theorem q2362 : (Jvm.Cond.static ({ cls := "ColumnarPressModel", name := "inner", desc := "(LColumnarPressModel$Box;)I" } : Jvm.MethodName)) ∈ lw_all := lw_g (lw_at lw_m10 150 rfl) rfl
theorem q2363 : (Jvm.Cond.code ({ cls := "ColumnarPressModel", name := "inner", desc := "(LColumnarPressModel$Box;)I" } : Jvm.MethodName) prog_14_method_29_code (1 : Nat) (Option.some Jvm.ClassFile.FieldType.int)) ∈ lw_all := lw_g (lw_at lw_m10 151 rfl) rfl
theorem q2364 : (Jvm.Cond.methodLink "ColumnarPressModel" (236 : Nat) ({ cls := "ColumnarPressModel$Box", name := "isFloat", desc := "()Z" } : Jvm.MethodName)) ∈ lw_all := lw_g (lw_at lw_m10 152 rfl) rfl
theorem q2369 : (Jvm.Cond.methodLink "ColumnarPressModel" (239 : Nat) ({ cls := "ColumnarPressModel", name := "floats", desc := "(LColumnarPressModel$Box;IIILjava/util/List;Z)V" } : Jvm.MethodName)) ∈ lw_all := lw_g (lw_at lw_m10 157 rfl) rfl
theorem q2370 : (Jvm.Cond.privateMethod ({ cls := "ColumnarPressModel", name := "floats", desc := "(LColumnarPressModel$Box;IIILjava/util/List;Z)V" } : Jvm.MethodName)) ∈ lw_tbl := lw_at lw_m10 158 rfl
theorem q2371 : (Jvm.Cond.instanceMethod ({ cls := "ColumnarPressModel", name := "floats", desc := "(LColumnarPressModel$Box;IIILjava/util/List;Z)V" } : Jvm.MethodName)) ∈ lw_all := lw_g (lw_at lw_m10 159 rfl) rfl
theorem q2372 : (Jvm.Cond.code ({ cls := "ColumnarPressModel", name := "floats", desc := "(LColumnarPressModel$Box;IIILjava/util/List;Z)V" } : Jvm.MethodName) prog_14_method_35_code (12 : Nat) (Option.none : Option Jvm.ClassFile.FieldType)) ∈ lw_all := lw_g (lw_at lw_m10 160 rfl) rfl
theorem q2373 : (Jvm.Cond.methodLink "ColumnarPressModel" (275 : Nat) ({ cls := "ColumnarPressModel", name := "fits", desc := "(LColumnarPressModel$Box;I)I" } : Jvm.MethodName)) ∈ lw_all := lw_g (lw_at lw_m10 161 rfl) rfl
theorem q2374 : (Jvm.Cond.static ({ cls := "ColumnarPressModel", name := "fits", desc := "(LColumnarPressModel$Box;I)I" } : Jvm.MethodName)) ∈ lw_all := lw_g (lw_at lw_m10 162 rfl) rfl
theorem q2375 : (Jvm.Cond.code ({ cls := "ColumnarPressModel", name := "fits", desc := "(LColumnarPressModel$Box;I)I" } : Jvm.MethodName) prog_14_method_23_code (2 : Nat) (Option.some Jvm.ClassFile.FieldType.int)) ∈ lw_all := lw_g (lw_at lw_m10 163 rfl) rfl
theorem q2376 : (Jvm.Cond.methodLink "ColumnarPressModel" (188 : Nat) ({ cls := "java/lang/Math", name := "min", desc := "(II)I" } : Jvm.MethodName)) ∈ lw_all := lw_g (lw_at lw_m10 164 rfl) rfl
theorem q2377 : (Jvm.Cond.methodLink "ColumnarPressModel" (279 : Nat) ({ cls := "ColumnarPressModel$Box", name := "over", desc := "()I" } : Jvm.MethodName)) ∈ lw_all := lw_g (lw_at lw_m10 165 rfl) rfl
theorem q2381 : (Jvm.Cond.methodLink "ColumnarPressModel" (282 : Nat) ({ cls := "ColumnarPressModel$Box", name := "under", desc := "()I" } : Jvm.MethodName)) ∈ lw_all := lw_g (lw_at lw_m10 169 rfl) rfl
theorem q2385 : (Jvm.Cond.interfaceEntry "ColumnarPressModel" (243 : Nat)) ∈ lw_tbl := lw_at lw_m10 173 rfl
theorem q2386 : (Jvm.Cond.methodLink "ColumnarPressModel" (243 : Nat) ({ cls := "java/util/List", name := "isEmpty", desc := "()Z" } : Jvm.MethodName)) ∈ lw_all := lw_g (lw_at lw_m10 174 rfl) rfl
theorem q2387 : (Jvm.Cond.interfaceEntry "ColumnarPressModel" (285 : Nat)) ∈ lw_tbl := lw_at lw_m10 175 rfl
theorem q2388 : (Jvm.Cond.methodLink "ColumnarPressModel" (285 : Nat) ({ cls := "java/util/List", name := "size", desc := "()I" } : Jvm.MethodName)) ∈ lw_all := lw_g (lw_at lw_m10 176 rfl) rfl
theorem q2389 : (Jvm.Cond.interfaceEntry "ColumnarPressModel" (286 : Nat)) ∈ lw_tbl := lw_at lw_m10 177 rfl
theorem q2390 : (Jvm.Cond.methodLink "ColumnarPressModel" (286 : Nat) ({ cls := "java/util/List", name := "get", desc := "(I)Ljava/lang/Object;" } : Jvm.MethodName)) ∈ lw_all := lw_g (lw_at lw_m10 178 rfl) rfl
theorem q2391 : (Jvm.Cond.classLink "ColumnarPressModel" (195 : Nat) "ColumnarPressModel$Push") ∈ lw_all := lw_g (lw_at lw_m10 179 rfl) rfl
theorem q2392 : (Jvm.Cond.methodLink "ColumnarPressModel" (287 : Nat) ({ cls := "ColumnarPressModel$Push", name := "top", desc := "()I" } : Jvm.MethodName)) ∈ lw_all := lw_g (lw_at lw_m10 180 rfl) rfl
theorem q2396 : (Jvm.Cond.methodLink "ColumnarPressModel" (289 : Nat) ({ cls := "ColumnarPressModel", name := "rightEdge", desc := "(Ljava/util/List;III)I" } : Jvm.MethodName)) ∈ lw_all := lw_g (lw_at lw_m10 184 rfl) rfl
theorem q2397 : (Jvm.Cond.static ({ cls := "ColumnarPressModel", name := "rightEdge", desc := "(Ljava/util/List;III)I" } : Jvm.MethodName)) ∈ lw_all := lw_g (lw_at lw_m10 185 rfl) rfl
theorem q2398 : (Jvm.Cond.code ({ cls := "ColumnarPressModel", name := "rightEdge", desc := "(Ljava/util/List;III)I" } : Jvm.MethodName) prog_14_method_33_code (7 : Nat) (Option.some Jvm.ClassFile.FieldType.int)) ∈ lw_all := lw_g (lw_at lw_m10 186 rfl) rfl
theorem q2399 : (Jvm.Cond.interfaceEntry "ColumnarPressModel" (192 : Nat)) ∈ lw_tbl := lw_at lw_m10 187 rfl
theorem q2400 : (Jvm.Cond.methodLink "ColumnarPressModel" (192 : Nat) ({ cls := "java/util/List", name := "iterator", desc := "()Ljava/util/Iterator;" } : Jvm.MethodName)) ∈ lw_all := lw_g (lw_at lw_m10 188 rfl) rfl
theorem q2401 : (Jvm.Cond.methodLink "ColumnarPressModel" (260 : Nat) ({ cls := "ColumnarPressModel$Push", name := "side", desc := "()C" } : Jvm.MethodName)) ∈ lw_all := lw_g (lw_at lw_m10 189 rfl) rfl
theorem q2405 : (Jvm.Cond.methodLink "ColumnarPressModel" (263 : Nat) ({ cls := "ColumnarPressModel$Push", name := "lies", desc := "(II)Z" } : Jvm.MethodName)) ∈ lw_all := lw_g (lw_at lw_m10 193 rfl) rfl
theorem q2414 : (Jvm.Cond.methodLink "ColumnarPressModel" (269 : Nat) ({ cls := "ColumnarPressModel$Push", name := "left", desc := "()I" } : Jvm.MethodName)) ∈ lw_all := lw_g (lw_at lw_m10 202 rfl) rfl
theorem q2418 : (Jvm.Cond.methodLink "ColumnarPressModel" (293 : Nat) ({ cls := "ColumnarPressModel", name := "leftEdge", desc := "(Ljava/util/List;III)I" } : Jvm.MethodName)) ∈ lw_all := lw_g (lw_at lw_m10 206 rfl) rfl
theorem q2419 : (Jvm.Cond.static ({ cls := "ColumnarPressModel", name := "leftEdge", desc := "(Ljava/util/List;III)I" } : Jvm.MethodName)) ∈ lw_all := lw_g (lw_at lw_m10 207 rfl) rfl
theorem q2420 : (Jvm.Cond.code ({ cls := "ColumnarPressModel", name := "leftEdge", desc := "(Ljava/util/List;III)I" } : Jvm.MethodName) prog_14_method_32_code (7 : Nat) (Option.some Jvm.ClassFile.FieldType.int)) ∈ lw_all := lw_g (lw_at lw_m10 208 rfl) rfl
theorem q2421 : (Jvm.Cond.methodLink "ColumnarPressModel" (267 : Nat) ({ cls := "ColumnarPressModel$Push", name := "right", desc := "()I" } : Jvm.MethodName)) ∈ lw_all := lw_g (lw_at lw_m10 209 rfl) rfl
theorem q2425 : (Jvm.Cond.methodLink "ColumnarPressModel" (296 : Nat) ({ cls := "ColumnarPressModel", name := "below", desc := "(Ljava/util/List;II)I" } : Jvm.MethodName)) ∈ lw_all := lw_g (lw_at lw_m10 213 rfl) rfl
theorem q2426 : (Jvm.Cond.static ({ cls := "ColumnarPressModel", name := "below", desc := "(Ljava/util/List;II)I" } : Jvm.MethodName)) ∈ lw_all := lw_g (lw_at lw_m10 214 rfl) rfl
theorem q2427 : (Jvm.Cond.code ({ cls := "ColumnarPressModel", name := "below", desc := "(Ljava/util/List;II)I" } : Jvm.MethodName) prog_14_method_34_code (6 : Nat) (Option.some Jvm.ClassFile.FieldType.int)) ∈ lw_all := lw_g (lw_at lw_m10 215 rfl) rfl
theorem q2428 : (Jvm.Cond.constant "ColumnarPressModel" (271 : Nat) (2147483647 : Int32)) ∈ lw_all := lw_g (lw_at lw_m10 216 rfl) rfl
theorem q2429 : (Jvm.Cond.methodLink "ColumnarPressModel" (272 : Nat) ({ cls := "ColumnarPressModel$Push", name := "low", desc := "()I" } : Jvm.MethodName)) ∈ lw_all := lw_g (lw_at lw_m10 217 rfl) rfl
theorem q2431 : (Jvm.Cond.methodLinkNest "ColumnarPressModel" (300 : Nat) ({ cls := "ColumnarPressModel$Push", name := "<init>", desc := "(CIIII)V" } : Jvm.MethodName) "ColumnarPressModel") ∈ lw_tbl := lw_at lw_m10 219 rfl
theorem q2451 : (Jvm.Cond.interfaceEntry "ColumnarPressModel" (303 : Nat)) ∈ lw_tbl := lw_at lw_m10 239 rfl
theorem q2452 : (Jvm.Cond.methodLink "ColumnarPressModel" (303 : Nat) ({ cls := "java/util/List", name := "add", desc := "(Ljava/lang/Object;)Z" } : Jvm.MethodName)) ∈ lw_all := lw_g (lw_at lw_m11 0 rfl) rfl
theorem q2453 : (Jvm.Cond.methodLink "ColumnarPressModel" (212 : Nat) ({ cls := "ColumnarPressModel", name := "lowest", desc := "(Ljava/util/List;)I" } : Jvm.MethodName)) ∈ lw_all := lw_g (lw_at lw_m11 1 rfl) rfl
theorem q2454 : (Jvm.Cond.static ({ cls := "ColumnarPressModel", name := "lowest", desc := "(Ljava/util/List;)I" } : Jvm.MethodName)) ∈ lw_all := lw_g (lw_at lw_m11 2 rfl) rfl
theorem q2455 : (Jvm.Cond.code ({ cls := "ColumnarPressModel", name := "lowest", desc := "(Ljava/util/List;)I" } : Jvm.MethodName) prog_14_method_26_code (4 : Nat) (Option.some Jvm.ClassFile.FieldType.int)) ∈ lw_all := lw_g (lw_at lw_m11 3 rfl) rfl
theorem q2456 : (Jvm.Cond.constant "ColumnarPressModel" (191 : Nat) (-2147483648 : Int32)) ∈ lw_all := lw_g (lw_at lw_m11 4 rfl) rfl
theorem q2457 : (Jvm.Cond.methodLink "ColumnarPressModel" (197 : Nat) ({ cls := "ColumnarPressModel$Push", name := "bottom", desc := "()I" } : Jvm.MethodName)) ∈ lw_all := lw_g (lw_at lw_m11 5 rfl) rfl
theorem q2461 : (Jvm.Cond.methodLink "ColumnarPressModel" (244 : Nat) ({ cls := "ColumnarPressModel", name := "flows", desc := "(LColumnarPressModel$Box;IIILjava/util/List;Z)V" } : Jvm.MethodName)) ∈ lw_all := lw_g (lw_at lw_m11 9 rfl) rfl
theorem q2462 : (Jvm.Cond.privateMethod ({ cls := "ColumnarPressModel", name := "flows", desc := "(LColumnarPressModel$Box;IIILjava/util/List;Z)V" } : Jvm.MethodName)) ∈ lw_tbl := lw_at lw_m11 10 rfl
theorem q2463 : (Jvm.Cond.instanceMethod ({ cls := "ColumnarPressModel", name := "flows", desc := "(LColumnarPressModel$Box;IIILjava/util/List;Z)V" } : Jvm.MethodName)) ∈ lw_all := lw_g (lw_at lw_m11 11 rfl) rfl
theorem q2464 : (Jvm.Cond.code ({ cls := "ColumnarPressModel", name := "flows", desc := "(LColumnarPressModel$Box;IIILjava/util/List;Z)V" } : Jvm.MethodName) prog_14_method_31_code (8 : Nat) (Option.none : Option Jvm.ClassFile.FieldType)) ∈ lw_all := lw_g (lw_at lw_m11 12 rfl) rfl
theorem q2465 : (Jvm.Cond.methodLink "ColumnarPressModel" (253 : Nat) ({ cls := "ColumnarPressModel$Box", name := "isContext", desc := "()Z" } : Jvm.MethodName)) ∈ lw_all := lw_g (lw_at lw_m11 13 rfl) rfl
theorem q2474 : (Jvm.Cond.methodLink "ColumnarPressModel" (222 : Nat) ({ cls := "ColumnarPressModel", name := "text", desc := "(LColumnarPressModel$Box;IILjava/util/List;)I" } : Jvm.MethodName)) ∈ lw_all := lw_g (lw_at lw_m11 22 rfl) rfl
theorem q2475 : (Jvm.Cond.static ({ cls := "ColumnarPressModel", name := "text", desc := "(LColumnarPressModel$Box;IILjava/util/List;)I" } : Jvm.MethodName)) ∈ lw_all := lw_g (lw_at lw_m11 23 rfl) rfl
theorem q2476 : (Jvm.Cond.code ({ cls := "ColumnarPressModel", name := "text", desc := "(LColumnarPressModel$Box;IILjava/util/List;)I" } : Jvm.MethodName) prog_14_method_36_code (15 : Nat) (Option.some Jvm.ClassFile.FieldType.int)) ∈ lw_all := lw_g (lw_at lw_m11 24 rfl) rfl
theorem q2477 : (Jvm.Cond.methodLink "ColumnarPressModel" (307 : Nat) ({ cls := "java/util/ArrayList", name := "clear", desc := "()V" } : Jvm.MethodName)) ∈ lw_all := lw_g (lw_at lw_m11 25 rfl) rfl
theorem q2481 : (Jvm.Cond.classLink "ColumnarPressModel" (310 : Nat) "ColumnarPressModel$Line") ∈ lw_all := lw_g (lw_at lw_m11 29 rfl) rfl
theorem q2483 : (Jvm.Cond.methodLinkNest "ColumnarPressModel" (312 : Nat) ({ cls := "ColumnarPressModel$Line", name := "<init>", desc := "(III)V" } : Jvm.MethodName) "ColumnarPressModel") ∈ lw_tbl := lw_at lw_m11 31 rfl
theorem q2497 : (Jvm.Cond.methodLink "ColumnarPressModel" (226 : Nat) ({ cls := "ColumnarPressModel", name := "row", desc := "(LColumnarPressModel$Box;Z)I" } : Jvm.MethodName)) ∈ lw_all := lw_g (lw_at lw_m11 45 rfl) rfl
theorem q2498 : (Jvm.Cond.privateMethod ({ cls := "ColumnarPressModel", name := "row", desc := "(LColumnarPressModel$Box;Z)I" } : Jvm.MethodName)) ∈ lw_tbl := lw_at lw_m11 46 rfl
theorem q2499 : (Jvm.Cond.instanceMethod ({ cls := "ColumnarPressModel", name := "row", desc := "(LColumnarPressModel$Box;Z)I" } : Jvm.MethodName)) ∈ lw_all := lw_g (lw_at lw_m11 47 rfl) rfl
theorem q2500 : (Jvm.Cond.code ({ cls := "ColumnarPressModel", name := "row", desc := "(LColumnarPressModel$Box;Z)I" } : Jvm.MethodName) prog_14_method_41_code (11 : Nat) (Option.some Jvm.ClassFile.FieldType.int)) ∈ lw_all := lw_g (lw_at lw_m11 48 rfl) rfl
theorem q2501 : (Jvm.Cond.methodLink "ColumnarPressModel" (320 : Nat) ({ cls := "ColumnarPressModel", name := "items", desc := "(LColumnarPressModel$Box;)Ljava/util/ArrayList;" } : Jvm.MethodName)) ∈ lw_all := lw_g (lw_at lw_m11 49 rfl) rfl
theorem q2502 : (Jvm.Cond.static ({ cls := "ColumnarPressModel", name := "items", desc := "(LColumnarPressModel$Box;)Ljava/util/ArrayList;" } : Jvm.MethodName)) ∈ lw_all := lw_g (lw_at lw_m11 50 rfl) rfl
theorem q2503 : (Jvm.Cond.code ({ cls := "ColumnarPressModel", name := "items", desc := "(LColumnarPressModel$Box;)Ljava/util/ArrayList;" } : Jvm.MethodName) prog_14_method_37_code (4 : Nat) (Option.some (Jvm.ClassFile.FieldType.object "java/util/ArrayList"))) ∈ lw_all := lw_g (lw_at lw_m11 51 rfl) rfl
theorem q2504 : (Jvm.Cond.methodLink "ColumnarPressModel" (324 : Nat) ({ cls := "ColumnarPressModel", name := "grown", desc := "(Ljava/util/List;[II)[I" } : Jvm.MethodName)) ∈ lw_all := lw_g (lw_at lw_m11 52 rfl) rfl
theorem q2505 : (Jvm.Cond.static ({ cls := "ColumnarPressModel", name := "grown", desc := "(Ljava/util/List;[II)[I" } : Jvm.MethodName)) ∈ lw_all := lw_g (lw_at lw_m11 53 rfl) rfl
theorem q2506 : (Jvm.Cond.code ({ cls := "ColumnarPressModel", name := "grown", desc := "(Ljava/util/List;[II)[I" } : Jvm.MethodName) prog_14_method_38_code (7 : Nat) (Option.some (Jvm.ClassFile.FieldType.array Jvm.ClassFile.FieldType.int))) ∈ lw_all := lw_g (lw_at lw_m11 54 rfl) rfl
theorem q2507 : (Jvm.Cond.methodLink "ColumnarPressModel" (315 : Nat) ({ cls := "[I", name := "clone", desc := "()Ljava/lang/Object;" } : Jvm.MethodName)) ∈ lw_all := lw_g (lw_at lw_m11 55 rfl) rfl
theorem q2511 : (Jvm.Cond.classLink "ColumnarPressModel" (316 : Nat) "[I") ∈ lw_all := lw_g (lw_at lw_m11 59 rfl) rfl
theorem q2512 : (Jvm.Cond.methodLink "ColumnarPressModel" (328 : Nat) ({ cls := "ColumnarPressModel", name := "shrunk", desc := "(Ljava/util/List;[II)[I" } : Jvm.MethodName)) ∈ lw_all := lw_g (lw_at lw_m11 60 rfl) rfl
theorem q2513 : (Jvm.Cond.static ({ cls := "ColumnarPressModel", name := "shrunk", desc := "(Ljava/util/List;[II)[I" } : Jvm.MethodName)) ∈ lw_all := lw_g (lw_at lw_m11 61 rfl) rfl
theorem q2514 : (Jvm.Cond.code ({ cls := "ColumnarPressModel", name := "shrunk", desc := "(Ljava/util/List;[II)[I" } : Jvm.MethodName) prog_14_method_39_code (13 : Nat) (Option.some (Jvm.ClassFile.FieldType.array Jvm.ClassFile.FieldType.int))) ∈ lw_all := lw_g (lw_at lw_m11 62 rfl) rfl
theorem q2515 : (Jvm.Cond.methodLink "ColumnarPressModel" (331 : Nat) ({ cls := "ColumnarPressModel", name := "inRow", desc := "(Ljava/util/List;[IIIZ)I" } : Jvm.MethodName)) ∈ lw_all := lw_g (lw_at lw_m11 63 rfl) rfl
theorem q2516 : (Jvm.Cond.privateMethod ({ cls := "ColumnarPressModel", name := "inRow", desc := "(Ljava/util/List;[IIIZ)I" } : Jvm.MethodName)) ∈ lw_tbl := lw_at lw_m11 64 rfl
theorem q2517 : (Jvm.Cond.instanceMethod ({ cls := "ColumnarPressModel", name := "inRow", desc := "(Ljava/util/List;[IIIZ)I" } : Jvm.MethodName)) ∈ lw_all := lw_g (lw_at lw_m11 65 rfl) rfl
theorem q2518 : (Jvm.Cond.code ({ cls := "ColumnarPressModel", name := "inRow", desc := "(Ljava/util/List;[IIIZ)I" } : Jvm.MethodName) prog_14_method_40_code (9 : Nat) (Option.some Jvm.ClassFile.FieldType.int)) ∈ lw_all := lw_g (lw_at lw_m11 66 rfl) rfl
theorem q2519 : (Jvm.Cond.methodLink "ColumnarPressModel" (229 : Nat) ({ cls := "ColumnarPressModel", name := "grid", desc := "(LColumnarPressModel$Box;Z)I" } : Jvm.MethodName)) ∈ lw_all := lw_g (lw_at lw_m11 67 rfl) rfl
theorem q2520 : (Jvm.Cond.privateMethod ({ cls := "ColumnarPressModel", name := "grid", desc := "(LColumnarPressModel$Box;Z)I" } : Jvm.MethodName)) ∈ lw_tbl := lw_at lw_m11 68 rfl
theorem q2521 : (Jvm.Cond.instanceMethod ({ cls := "ColumnarPressModel", name := "grid", desc := "(LColumnarPressModel$Box;Z)I" } : Jvm.MethodName)) ∈ lw_all := lw_g (lw_at lw_m11 69 rfl) rfl
theorem q2522 : (Jvm.Cond.code ({ cls := "ColumnarPressModel", name := "grid", desc := "(LColumnarPressModel$Box;Z)I" } : Jvm.MethodName) prog_14_method_42_code (13 : Nat) (Option.some Jvm.ClassFile.FieldType.int)) ∈ lw_all := lw_g (lw_at lw_m11 70 rfl) rfl
theorem q2523 : (Jvm.Cond.methodLink "ColumnarPressModel" (209 : Nat) ({ cls := "java/util/ArrayList", name := "isEmpty", desc := "()Z" } : Jvm.MethodName)) ∈ lw_all := lw_g (lw_at lw_m11 71 rfl) rfl
theorem q2524 : (Jvm.Cond.methodLink "ColumnarPressModel" (335 : Nat) ({ cls := "ColumnarPressModel", name := "around", desc := "(LColumnarPressModel$Box;)LColumnarPressModel$Box;" } : Jvm.MethodName)) ∈ lw_all := lw_g (lw_at lw_m11 72 rfl) rfl
theorem q2525 : (Jvm.Cond.static ({ cls := "ColumnarPressModel", name := "around", desc := "(LColumnarPressModel$Box;)LColumnarPressModel$Box;" } : Jvm.MethodName)) ∈ lw_all := lw_g (lw_at lw_m11 73 rfl) rfl
theorem q2526 : (Jvm.Cond.code ({ cls := "ColumnarPressModel", name := "around", desc := "(LColumnarPressModel$Box;)LColumnarPressModel$Box;" } : Jvm.MethodName) prog_14_method_43_code (2 : Nat) (Option.some (Jvm.ClassFile.FieldType.object "ColumnarPressModel$Box"))) ∈ lw_all := lw_g (lw_at lw_m11 74 rfl) rfl
theorem q2528 : (Jvm.Cond.instanceMethod ({ cls := "ColumnarPressModel", name := "xOf", desc := "(I)I" } : Jvm.MethodName)) ∈ lw_all := lw_g (lw_at lw_m11 76 rfl) rfl
theorem q2529 : (Jvm.Cond.selects "ColumnarPressModel" ({ cls := "ColumnarPressModel", name := "xOf", desc := "(I)I" } : Jvm.MethodName) ({ cls := "ColumnarPressModel", name := "xOf", desc := "(I)I" } : Jvm.MethodName)) ∈ lw_all := lw_g (lw_at lw_m11 77 rfl) rfl
theorem q2530 : (Jvm.Cond.code ({ cls := "ColumnarPressModel", name := "xOf", desc := "(I)I" } : Jvm.MethodName) prog_14_method_47_code (2 : Nat) (Option.some Jvm.ClassFile.FieldType.int)) ∈ lw_all := lw_g (lw_at lw_m11 78 rfl) rfl
theorem q2531 : (Jvm.Cond.methodLink "ColumnarPressModel" (352 : Nat) ({ cls := "ColumnarPressModel", name := "wrongNow", desc := "(I)I" } : Jvm.MethodName)) ∈ lw_all := lw_g (lw_at lw_m11 79 rfl) rfl
theorem q2532 : (Jvm.Cond.privateMethod ({ cls := "ColumnarPressModel", name := "wrongNow", desc := "(I)I" } : Jvm.MethodName)) ∈ lw_tbl := lw_at lw_m11 80 rfl
theorem q2533 : (Jvm.Cond.instanceMethod ({ cls := "ColumnarPressModel", name := "wrongNow", desc := "(I)I" } : Jvm.MethodName)) ∈ lw_all := lw_g (lw_at lw_m11 81 rfl) rfl
theorem q2534 : (Jvm.Cond.code ({ cls := "ColumnarPressModel", name := "wrongNow", desc := "(I)I" } : Jvm.MethodName) prog_14_method_46_code (2 : Nat) (Option.some Jvm.ClassFile.FieldType.int)) ∈ lw_all := lw_g (lw_at lw_m11 82 rfl) rfl
theorem q2535 : (Jvm.Cond.methodLink "ColumnarPressModel" (344 : Nat) ({ cls := "ColumnarPressModel", name := "point", desc := "(LColumnarPressModel$Box;)LColumnarPressModel$Point;" } : Jvm.MethodName)) ∈ lw_all := lw_g (lw_at lw_m11 83 rfl) rfl
theorem q2536 : (Jvm.Cond.static ({ cls := "ColumnarPressModel", name := "point", desc := "(LColumnarPressModel$Box;)LColumnarPressModel$Point;" } : Jvm.MethodName)) ∈ lw_all := lw_g (lw_at lw_m11 84 rfl) rfl
theorem q2537 : (Jvm.Cond.code ({ cls := "ColumnarPressModel", name := "point", desc := "(LColumnarPressModel$Box;)LColumnarPressModel$Point;" } : Jvm.MethodName) prog_14_method_45_code (6 : Nat) (Option.some (Jvm.ClassFile.FieldType.object "ColumnarPressModel$Point"))) ∈ lw_all := lw_g (lw_at lw_m11 85 rfl) rfl
theorem q2538 : (Jvm.Cond.classLink "ColumnarPressModel" (339 : Nat) "ColumnarPressModel$Point") ∈ lw_all := lw_g (lw_at lw_m11 86 rfl) rfl
theorem q2540 : (Jvm.Cond.methodLinkNest "ColumnarPressModel" (341 : Nat) ({ cls := "ColumnarPressModel$Point", name := "<init>", desc := "(II)V" } : Jvm.MethodName) "ColumnarPressModel") ∈ lw_tbl := lw_at lw_m11 88 rfl
theorem q2551 : (Jvm.Cond.methodLink "ColumnarPressModel" (348 : Nat) ({ cls := "ColumnarPressModel$Point", name := "x", desc := "()I" } : Jvm.MethodName)) ∈ lw_all := lw_g (lw_at lw_m11 99 rfl) rfl
theorem q2555 : (Jvm.Cond.methodLink "ColumnarPressModel" (350 : Nat) ({ cls := "ColumnarPressModel$Point", name := "y", desc := "()I" } : Jvm.MethodName)) ∈ lw_all := lw_g (lw_at lw_m11 103 rfl) rfl
theorem q2560 : (Jvm.Cond.instanceMethod ({ cls := "ColumnarPressModel", name := "yOf", desc := "(I)I" } : Jvm.MethodName)) ∈ lw_all := lw_g (lw_at lw_m11 108 rfl) rfl
theorem q2561 : (Jvm.Cond.selects "ColumnarPressModel" ({ cls := "ColumnarPressModel", name := "yOf", desc := "(I)I" } : Jvm.MethodName) ({ cls := "ColumnarPressModel", name := "yOf", desc := "(I)I" } : Jvm.MethodName)) ∈ lw_all := lw_g (lw_at lw_m11 109 rfl) rfl
theorem q2562 : (Jvm.Cond.code ({ cls := "ColumnarPressModel", name := "yOf", desc := "(I)I" } : Jvm.MethodName) prog_14_method_48_code (2 : Nat) (Option.some Jvm.ClassFile.FieldType.int)) ∈ lw_all := lw_g (lw_at lw_m11 110 rfl) rfl
theorem q2564 : (Jvm.Cond.instanceMethod ({ cls := "ColumnarPressModel", name := "widthOf", desc := "(I)I" } : Jvm.MethodName)) ∈ lw_all := lw_g (lw_at lw_m11 112 rfl) rfl
theorem q2565 : (Jvm.Cond.selects "ColumnarPressModel" ({ cls := "ColumnarPressModel", name := "widthOf", desc := "(I)I" } : Jvm.MethodName) ({ cls := "ColumnarPressModel", name := "widthOf", desc := "(I)I" } : Jvm.MethodName)) ∈ lw_all := lw_g (lw_at lw_m11 113 rfl) rfl
theorem q2566 : (Jvm.Cond.code ({ cls := "ColumnarPressModel", name := "widthOf", desc := "(I)I" } : Jvm.MethodName) prog_14_method_49_code (2 : Nat) (Option.some Jvm.ClassFile.FieldType.int)) ∈ lw_all := lw_g (lw_at lw_m11 114 rfl) rfl
theorem q2568 : (Jvm.Cond.instanceMethod ({ cls := "ColumnarPressModel", name := "heightOf", desc := "(I)I" } : Jvm.MethodName)) ∈ lw_all := lw_g (lw_at lw_m11 116 rfl) rfl
theorem q2569 : (Jvm.Cond.selects "ColumnarPressModel" ({ cls := "ColumnarPressModel", name := "heightOf", desc := "(I)I" } : Jvm.MethodName) ({ cls := "ColumnarPressModel", name := "heightOf", desc := "(I)I" } : Jvm.MethodName)) ∈ lw_all := lw_g (lw_at lw_m11 117 rfl) rfl
theorem q2570 : (Jvm.Cond.code ({ cls := "ColumnarPressModel", name := "heightOf", desc := "(I)I" } : Jvm.MethodName) prog_14_method_50_code (2 : Nat) (Option.some Jvm.ClassFile.FieldType.int)) ∈ lw_all := lw_g (lw_at lw_m11 118 rfl) rfl
theorem q2572 : (Jvm.Cond.instanceMethod ({ cls := "ColumnarPressModel", name := "lines", desc := "(I)I" } : Jvm.MethodName)) ∈ lw_all := lw_g (lw_at lw_m11 120 rfl) rfl
theorem q2573 : (Jvm.Cond.selects "ColumnarPressModel" ({ cls := "ColumnarPressModel", name := "lines", desc := "(I)I" } : Jvm.MethodName) ({ cls := "ColumnarPressModel", name := "lines", desc := "(I)I" } : Jvm.MethodName)) ∈ lw_all := lw_g (lw_at lw_m11 121 rfl) rfl
theorem q2574 : (Jvm.Cond.code ({ cls := "ColumnarPressModel", name := "lines", desc := "(I)I" } : Jvm.MethodName) prog_14_method_52_code (2 : Nat) (Option.some Jvm.ClassFile.FieldType.int)) ∈ lw_all := lw_g (lw_at lw_m11 122 rfl) rfl
theorem q2575 : (Jvm.Cond.methodLink "ColumnarPressModel" (356 : Nat) ({ cls := "ColumnarPressModel", name := "wrongText", desc := "(I)I" } : Jvm.MethodName)) ∈ lw_all := lw_g (lw_at lw_m11 123 rfl) rfl
theorem q2576 : (Jvm.Cond.privateMethod ({ cls := "ColumnarPressModel", name := "wrongText", desc := "(I)I" } : Jvm.MethodName)) ∈ lw_tbl := lw_at lw_m11 124 rfl
theorem q2577 : (Jvm.Cond.instanceMethod ({ cls := "ColumnarPressModel", name := "wrongText", desc := "(I)I" } : Jvm.MethodName)) ∈ lw_all := lw_g (lw_at lw_m11 125 rfl) rfl
theorem q2578 : (Jvm.Cond.code ({ cls := "ColumnarPressModel", name := "wrongText", desc := "(I)I" } : Jvm.MethodName) prog_14_method_51_code (2 : Nat) (Option.some Jvm.ClassFile.FieldType.int)) ∈ lw_all := lw_g (lw_at lw_m11 126 rfl) rfl
theorem q2580 : (Jvm.Cond.instanceMethod ({ cls := "ColumnarPressModel", name := "wordsIn", desc := "(II)I" } : Jvm.MethodName)) ∈ lw_all := lw_g (lw_at lw_m11 128 rfl) rfl
theorem q2581 : (Jvm.Cond.selects "ColumnarPressModel" ({ cls := "ColumnarPressModel", name := "wordsIn", desc := "(II)I" } : Jvm.MethodName) ({ cls := "ColumnarPressModel", name := "wordsIn", desc := "(II)I" } : Jvm.MethodName)) ∈ lw_all := lw_g (lw_at lw_m11 129 rfl) rfl
theorem q2582 : (Jvm.Cond.code ({ cls := "ColumnarPressModel", name := "wordsIn", desc := "(II)I" } : Jvm.MethodName) prog_14_method_54_code (3 : Nat) (Option.some Jvm.ClassFile.FieldType.int)) ∈ lw_all := lw_g (lw_at lw_m11 130 rfl) rfl
theorem q2583 : (Jvm.Cond.methodLink "ColumnarPressModel" (359 : Nat) ({ cls := "ColumnarPressModel", name := "wrongLine", desc := "(II)I" } : Jvm.MethodName)) ∈ lw_all := lw_g (lw_at lw_m11 131 rfl) rfl
theorem q2584 : (Jvm.Cond.privateMethod ({ cls := "ColumnarPressModel", name := "wrongLine", desc := "(II)I" } : Jvm.MethodName)) ∈ lw_tbl := lw_at lw_m11 132 rfl
theorem q2585 : (Jvm.Cond.instanceMethod ({ cls := "ColumnarPressModel", name := "wrongLine", desc := "(II)I" } : Jvm.MethodName)) ∈ lw_all := lw_g (lw_at lw_m11 133 rfl) rfl
theorem q2586 : (Jvm.Cond.code ({ cls := "ColumnarPressModel", name := "wrongLine", desc := "(II)I" } : Jvm.MethodName) prog_14_method_53_code (3 : Nat) (Option.some Jvm.ClassFile.FieldType.int)) ∈ lw_all := lw_g (lw_at lw_m11 134 rfl) rfl
theorem q2587 : (Jvm.Cond.methodLink "ColumnarPressModel" (362 : Nat) ({ cls := "ColumnarPressModel$Line", name := "words", desc := "()I" } : Jvm.MethodName)) ∈ lw_all := lw_g (lw_at lw_m11 135 rfl) rfl
theorem q2592 : (Jvm.Cond.instanceMethod ({ cls := "ColumnarPressModel", name := "lineX", desc := "(II)I" } : Jvm.MethodName)) ∈ lw_all := lw_g (lw_at lw_m11 140 rfl) rfl
theorem q2593 : (Jvm.Cond.selects "ColumnarPressModel" ({ cls := "ColumnarPressModel", name := "lineX", desc := "(II)I" } : Jvm.MethodName) ({ cls := "ColumnarPressModel", name := "lineX", desc := "(II)I" } : Jvm.MethodName)) ∈ lw_all := lw_g (lw_at lw_m11 141 rfl) rfl
theorem q2594 : (Jvm.Cond.code ({ cls := "ColumnarPressModel", name := "lineX", desc := "(II)I" } : Jvm.MethodName) prog_14_method_55_code (3 : Nat) (Option.some Jvm.ClassFile.FieldType.int)) ∈ lw_all := lw_g (lw_at lw_m11 142 rfl) rfl
theorem q2595 : (Jvm.Cond.methodLink "ColumnarPressModel" (364 : Nat) ({ cls := "ColumnarPressModel$Line", name := "x", desc := "()I" } : Jvm.MethodName)) ∈ lw_all := lw_g (lw_at lw_m11 143 rfl) rfl
theorem q2600 : (Jvm.Cond.instanceMethod ({ cls := "ColumnarPressModel", name := "lineY", desc := "(II)I" } : Jvm.MethodName)) ∈ lw_all := lw_g (lw_at lw_m11 148 rfl) rfl
theorem q2601 : (Jvm.Cond.selects "ColumnarPressModel" ({ cls := "ColumnarPressModel", name := "lineY", desc := "(II)I" } : Jvm.MethodName) ({ cls := "ColumnarPressModel", name := "lineY", desc := "(II)I" } : Jvm.MethodName)) ∈ lw_all := lw_g (lw_at lw_m11 149 rfl) rfl
theorem q2602 : (Jvm.Cond.code ({ cls := "ColumnarPressModel", name := "lineY", desc := "(II)I" } : Jvm.MethodName) prog_14_method_56_code (3 : Nat) (Option.some Jvm.ClassFile.FieldType.int)) ∈ lw_all := lw_g (lw_at lw_m11 150 rfl) rfl
theorem q2603 : (Jvm.Cond.methodLink "ColumnarPressModel" (365 : Nat) ({ cls := "ColumnarPressModel$Line", name := "y", desc := "()I" } : Jvm.MethodName)) ∈ lw_all := lw_g (lw_at lw_m11 151 rfl) rfl
theorem q2608 : (Jvm.Cond.instanceMethod ({ cls := "ColumnarPressModel", name := "hit", desc := "(II)I" } : Jvm.MethodName)) ∈ lw_all := lw_g (lw_at lw_m11 156 rfl) rfl
theorem q2609 : (Jvm.Cond.selects "ColumnarPressModel" ({ cls := "ColumnarPressModel", name := "hit", desc := "(II)I" } : Jvm.MethodName) ({ cls := "ColumnarPressModel", name := "hit", desc := "(II)I" } : Jvm.MethodName)) ∈ lw_all := lw_g (lw_at lw_m11 157 rfl) rfl
theorem q2610 : (Jvm.Cond.code ({ cls := "ColumnarPressModel", name := "hit", desc := "(II)I" } : Jvm.MethodName) prog_14_method_57_code (8 : Nat) (Option.some Jvm.ClassFile.FieldType.int)) ∈ lw_all := lw_g (lw_at lw_m11 158 rfl) rfl
theorem q2612 : (Jvm.Cond.instanceMethod ({ cls := "ColumnarPressModel", name := "pages", desc := "(I)I" } : Jvm.MethodName)) ∈ lw_all := lw_g (lw_at lw_m11 160 rfl) rfl
theorem q2613 : (Jvm.Cond.selects "ColumnarPressModel" ({ cls := "ColumnarPressModel", name := "pages", desc := "(I)I" } : Jvm.MethodName) ({ cls := "ColumnarPressModel", name := "pages", desc := "(I)I" } : Jvm.MethodName)) ∈ lw_all := lw_g (lw_at lw_m11 161 rfl) rfl
theorem q2614 : (Jvm.Cond.code ({ cls := "ColumnarPressModel", name := "pages", desc := "(I)I" } : Jvm.MethodName) prog_14_method_62_code (3 : Nat) (Option.some Jvm.ClassFile.FieldType.int)) ∈ lw_all := lw_g (lw_at lw_m11 162 rfl) rfl
theorem q2615 : (Jvm.Cond.methodLink "ColumnarPressModel" (407 : Nat) ({ cls := "ColumnarPressModel", name := "paged", desc := "(I)Ljava/util/ArrayList;" } : Jvm.MethodName)) ∈ lw_all := lw_g (lw_at lw_m11 163 rfl) rfl
theorem q2616 : (Jvm.Cond.privateMethod ({ cls := "ColumnarPressModel", name := "paged", desc := "(I)Ljava/util/ArrayList;" } : Jvm.MethodName)) ∈ lw_tbl := lw_at lw_m11 164 rfl
theorem q2617 : (Jvm.Cond.instanceMethod ({ cls := "ColumnarPressModel", name := "paged", desc := "(I)Ljava/util/ArrayList;" } : Jvm.MethodName)) ∈ lw_all := lw_g (lw_at lw_m11 165 rfl) rfl
theorem q2618 : (Jvm.Cond.code ({ cls := "ColumnarPressModel", name := "paged", desc := "(I)Ljava/util/ArrayList;" } : Jvm.MethodName) prog_14_method_61_code (9 : Nat) (Option.some (Jvm.ClassFile.FieldType.object "java/util/ArrayList"))) ∈ lw_all := lw_g (lw_at lw_m11 166 rfl) rfl
theorem q2619 : (Jvm.Cond.methodLink "ColumnarPressModel" (370 : Nat) ({ cls := "ColumnarPressModel", name := "units", desc := "(LColumnarPressModel$Box;Ljava/util/ArrayList;Ljava/util/ArrayList;)V" } : Jvm.MethodName)) ∈ lw_all := lw_g (lw_at lw_m11 167 rfl) rfl
theorem q2620 : (Jvm.Cond.static ({ cls := "ColumnarPressModel", name := "units", desc := "(LColumnarPressModel$Box;Ljava/util/ArrayList;Ljava/util/ArrayList;)V" } : Jvm.MethodName)) ∈ lw_all := lw_g (lw_at lw_m11 168 rfl) rfl
theorem q2621 : (Jvm.Cond.code ({ cls := "ColumnarPressModel", name := "units", desc := "(LColumnarPressModel$Box;Ljava/util/ArrayList;Ljava/util/ArrayList;)V" } : Jvm.MethodName) prog_14_method_58_code (6 : Nat) (Option.none : Option Jvm.ClassFile.FieldType)) ∈ lw_all := lw_g (lw_at lw_m11 169 rfl) rfl
theorem q2622 : (Jvm.Cond.methodLink "ColumnarPressModel" (366 : Nat) ({ cls := "ColumnarPressModel", name := "unit", desc := "(LColumnarPressModel$Box;IIILjava/util/ArrayList;Ljava/util/ArrayList;)V" } : Jvm.MethodName)) ∈ lw_all := lw_g (lw_at lw_m11 170 rfl) rfl
theorem q2623 : (Jvm.Cond.static ({ cls := "ColumnarPressModel", name := "unit", desc := "(LColumnarPressModel$Box;IIILjava/util/ArrayList;Ljava/util/ArrayList;)V" } : Jvm.MethodName)) ∈ lw_all := lw_g (lw_at lw_m11 171 rfl) rfl
theorem q2624 : (Jvm.Cond.code ({ cls := "ColumnarPressModel", name := "unit", desc := "(LColumnarPressModel$Box;IIILjava/util/ArrayList;Ljava/util/ArrayList;)V" } : Jvm.MethodName) prog_14_method_59_code (6 : Nat) (Option.none : Option Jvm.ClassFile.FieldType)) ∈ lw_all := lw_g (lw_at lw_m11 172 rfl) rfl
theorem q2625 : (Jvm.Cond.classLink "ColumnarPressModel" (377 : Nat) "ColumnarPressModel$Unit") ∈ lw_all := lw_g (lw_at lw_m11 173 rfl) rfl
theorem q2627 : (Jvm.Cond.methodLink "ColumnarPressModel" (379 : Nat) ({ cls := "java/util/ArrayList", name := "<init>", desc := "(Ljava/util/Collection;)V" } : Jvm.MethodName)) ∈ lw_all := lw_g (lw_at lw_m11 175 rfl) rfl
theorem q2664 : (Jvm.Cond.methodLinkNest "ColumnarPressModel" (382 : Nat) ({ cls := "ColumnarPressModel$Unit", name := "<init>", desc := "(LColumnarPressModel$Box;IIILjava/util/ArrayList;)V" } : Jvm.MethodName) "ColumnarPressModel") ∈ lw_tbl := lw_at lw_m11 212 rfl
theorem q2684 : (Jvm.Cond.methodLink "ColumnarPressModel" (374 : Nat) ({ cls := "java/util/ArrayList", name := "remove", desc := "(Ljava/lang/Object;)Z" } : Jvm.MethodName)) ∈ lw_all := lw_g (lw_at lw_m11 232 rfl) rfl
theorem q2734 : (Jvm.Cond.selects "ColumnarPressModel" ({ cls := "java/lang/Object", name := "equals", desc := "(Ljava/lang/Object;)Z" } : Jvm.MethodName) ({ cls := "java/lang/Object", name := "equals", desc := "(Ljava/lang/Object;)Z" } : Jvm.MethodName)) ∈ lw_all := lw_g (lw_at lw_m12 42 rfl) rfl
theorem q2755 : (Jvm.Cond.methodLink "ColumnarPressModel" (397 : Nat) ({ cls := "ColumnarPressModel", name := "isBreaking", desc := "(LColumnarPressModel$Unit;II)Z" } : Jvm.MethodName)) ∈ lw_all := lw_g (lw_at lw_m12 63 rfl) rfl
theorem q2756 : (Jvm.Cond.static ({ cls := "ColumnarPressModel", name := "isBreaking", desc := "(LColumnarPressModel$Unit;II)Z" } : Jvm.MethodName)) ∈ lw_all := lw_g (lw_at lw_m12 64 rfl) rfl
theorem q2757 : (Jvm.Cond.code ({ cls := "ColumnarPressModel", name := "isBreaking", desc := "(LColumnarPressModel$Unit;II)Z" } : Jvm.MethodName) prog_14_method_60_code (5 : Nat) (Option.some Jvm.ClassFile.FieldType.boolean)) ∈ lw_all := lw_g (lw_at lw_m12 65 rfl) rfl
theorem q2758 : (Jvm.Cond.methodLink "ColumnarPressModel" (385 : Nat) ({ cls := "ColumnarPressModel$Unit", name := "firsts", desc := "()Ljava/util/ArrayList;" } : Jvm.MethodName)) ∈ lw_all := lw_g (lw_at lw_m12 66 rfl) rfl
theorem q2762 : (Jvm.Cond.methodLink "ColumnarPressModel" (389 : Nat) ({ cls := "ColumnarPressModel$Unit", name := "box", desc := "()LColumnarPressModel$Box;" } : Jvm.MethodName)) ∈ lw_all := lw_g (lw_at lw_m12 70 rfl) rfl
theorem q2766 : (Jvm.Cond.methodLink "ColumnarPressModel" (393 : Nat) ({ cls := "ColumnarPressModel$Unit", name := "line", desc := "()I" } : Jvm.MethodName)) ∈ lw_all := lw_g (lw_at lw_m12 74 rfl) rfl
theorem q2770 : (Jvm.Cond.methodLink "ColumnarPressModel" (396 : Nat) ({ cls := "ColumnarPressModel$Unit", name := "bottom", desc := "()I" } : Jvm.MethodName)) ∈ lw_all := lw_g (lw_at lw_m12 78 rfl) rfl
theorem q2774 : (Jvm.Cond.methodLink "ColumnarPressModel" (401 : Nat) ({ cls := "ColumnarPressModel$Unit", name := "top", desc := "()I" } : Jvm.MethodName)) ∈ lw_all := lw_g (lw_at lw_m12 82 rfl) rfl
theorem q2778 : (Jvm.Cond.classLink "ColumnarPressModel" (402 : Nat) "ColumnarPressModel$Page") ∈ lw_all := lw_g (lw_at lw_m12 86 rfl) rfl
theorem q2780 : (Jvm.Cond.methodLinkNest "ColumnarPressModel" (404 : Nat) ({ cls := "ColumnarPressModel$Page", name := "<init>", desc := "(LColumnarPressModel$Unit;I)V" } : Jvm.MethodName) "ColumnarPressModel") ∈ lw_tbl := lw_at lw_m12 88 rfl
theorem q2791 : (Jvm.Cond.methodLink "ColumnarPressModel" (411 : Nat) ({ cls := "ColumnarPressModel$Page", name := "number", desc := "()I" } : Jvm.MethodName)) ∈ lw_all := lw_g (lw_at lw_m12 99 rfl) rfl
theorem q2796 : (Jvm.Cond.instanceMethod ({ cls := "ColumnarPressModel", name := "pageOf", desc := "(III)I" } : Jvm.MethodName)) ∈ lw_all := lw_g (lw_at lw_m12 104 rfl) rfl
theorem q2797 : (Jvm.Cond.selects "ColumnarPressModel" ({ cls := "ColumnarPressModel", name := "pageOf", desc := "(III)I" } : Jvm.MethodName) ({ cls := "ColumnarPressModel", name := "pageOf", desc := "(III)I" } : Jvm.MethodName)) ∈ lw_all := lw_g (lw_at lw_m12 105 rfl) rfl
theorem q2798 : (Jvm.Cond.code ({ cls := "ColumnarPressModel", name := "pageOf", desc := "(III)I" } : Jvm.MethodName) prog_14_method_63_code (7 : Nat) (Option.some Jvm.ClassFile.FieldType.int)) ∈ lw_all := lw_g (lw_at lw_m12 106 rfl) rfl
theorem q2799 : (Jvm.Cond.methodLink "ColumnarPressModel" (413 : Nat) ({ cls := "ColumnarPressModel$Page", name := "unit", desc := "()LColumnarPressModel$Unit;" } : Jvm.MethodName)) ∈ lw_all := lw_g (lw_at lw_m12 107 rfl) rfl
theorem q2804 : (Jvm.Cond.instanceMethod ({ cls := "ColumnarPressModel", name := "contexts", desc := "()I" } : Jvm.MethodName)) ∈ lw_all := lw_g (lw_at lw_m12 112 rfl) rfl
theorem q2805 : (Jvm.Cond.selects "ColumnarPressModel" ({ cls := "ColumnarPressModel", name := "contexts", desc := "()I" } : Jvm.MethodName) ({ cls := "ColumnarPressModel", name := "contexts", desc := "()I" } : Jvm.MethodName)) ∈ lw_all := lw_g (lw_at lw_m12 113 rfl) rfl
theorem q2806 : (Jvm.Cond.code ({ cls := "ColumnarPressModel", name := "contexts", desc := "()I" } : Jvm.MethodName) prog_14_method_64_code (1 : Nat) (Option.some Jvm.ClassFile.FieldType.int)) ∈ lw_all := lw_g (lw_at lw_m12 114 rfl) rfl
theorem q2808 : (Jvm.Cond.instanceMethod ({ cls := "ColumnarPressModel", name := "area", desc := "()J" } : Jvm.MethodName)) ∈ lw_all := lw_g (lw_at lw_m12 116 rfl) rfl
theorem q2809 : (Jvm.Cond.selects "ColumnarPressModel" ({ cls := "ColumnarPressModel", name := "area", desc := "()J" } : Jvm.MethodName) ({ cls := "ColumnarPressModel", name := "area", desc := "()J" } : Jvm.MethodName)) ∈ lw_all := lw_g (lw_at lw_m12 117 rfl) rfl
theorem q2810 : (Jvm.Cond.code ({ cls := "ColumnarPressModel", name := "area", desc := "()J" } : Jvm.MethodName) prog_14_method_65_code (5 : Nat) (Option.some Jvm.ClassFile.FieldType.long)) ∈ lw_all := lw_g (lw_at lw_m12 118 rfl) rfl
theorem q2812 : (Jvm.Cond.instanceMethod ({ cls := "ColumnarPressModel", name := "filled", desc := "()F" } : Jvm.MethodName)) ∈ lw_all := lw_g (lw_at lw_m12 120 rfl) rfl
theorem q2813 : (Jvm.Cond.selects "ColumnarPressModel" ({ cls := "ColumnarPressModel", name := "filled", desc := "()F" } : Jvm.MethodName) ({ cls := "ColumnarPressModel", name := "filled", desc := "()F" } : Jvm.MethodName)) ∈ lw_all := lw_g (lw_at lw_m12 121 rfl) rfl
theorem q2814 : (Jvm.Cond.code ({ cls := "ColumnarPressModel", name := "filled", desc := "()F" } : Jvm.MethodName) prog_14_method_66_code (7 : Nat) (Option.some Jvm.ClassFile.FieldType.float)) ∈ lw_all := lw_g (lw_at lw_m12 122 rfl) rfl
theorem q2816 : (Jvm.Cond.instanceMethod ({ cls := "ColumnarPressModel", name := "meanLine", desc := "()D" } : Jvm.MethodName)) ∈ lw_all := lw_g (lw_at lw_m12 124 rfl) rfl
theorem q2817 : (Jvm.Cond.selects "ColumnarPressModel" ({ cls := "ColumnarPressModel", name := "meanLine", desc := "()D" } : Jvm.MethodName) ({ cls := "ColumnarPressModel", name := "meanLine", desc := "()D" } : Jvm.MethodName)) ∈ lw_all := lw_g (lw_at lw_m12 125 rfl) rfl
theorem q2818 : (Jvm.Cond.code ({ cls := "ColumnarPressModel", name := "meanLine", desc := "()D" } : Jvm.MethodName) prog_14_method_67_code (5 : Nat) (Option.some Jvm.ClassFile.FieldType.double)) ∈ lw_all := lw_g (lw_at lw_m12 126 rfl) rfl
theorem q2820 : (Jvm.Cond.instanceMethod ({ cls := "ColumnarPressModel", name := "isConsistent", desc := "()Z" } : Jvm.MethodName)) ∈ lw_all := lw_g (lw_at lw_m12 128 rfl) rfl
theorem q2821 : (Jvm.Cond.selects "ColumnarPressModel" ({ cls := "ColumnarPressModel", name := "isConsistent", desc := "()Z" } : Jvm.MethodName) ({ cls := "ColumnarPressModel", name := "isConsistent", desc := "()Z" } : Jvm.MethodName)) ∈ lw_all := lw_g (lw_at lw_m12 129 rfl) rfl
theorem q2822 : (Jvm.Cond.code ({ cls := "ColumnarPressModel", name := "isConsistent", desc := "()Z" } : Jvm.MethodName) prog_14_method_68_code (1 : Nat) (Option.some Jvm.ClassFile.FieldType.boolean)) ∈ lw_all := lw_g (lw_at lw_m12 130 rfl) rfl
theorem q2849 : (Jvm.Cond.castable "ColumnarPressModel" "java/lang/Object") ∈ lw_tbl := lw_at lw_m12 157 rfl
theorem in_X4 : ∀ w ∈ wsX40, w ∈ lw_all := lw_in wsX40 [2223, 2225, 2227, 2229, 2231] (by decide +kernel) (by decide +kernel)
