/-! ColumnarPress$Box -/
set_option maxRecDepth 100000
def RX2 : String := "ColumnarPress$Box"
def TX2 : u_T := fun k => match k with
  | 0 => ("ColumnarPress$Box", "number", "I", true)
  | 1 => ("ColumnarPress$Box", "parent", "LColumnarPress$Box;", true)
  | 2 => ("ColumnarPress$Box", "kind", "C", true)
  | 3 => ("ColumnarPress$Box", "deep", "I", true)
  | 4 => ("ColumnarPress$Box", "children", "Ljava/util/List;", true)
  | 5 => ("ColumnarPress$Box", "words", "Ljava/util/List;", true)
  | 6 => ("ColumnarPress$Box", "width", "I", false)
  | 7 => ("ColumnarPress$Box", "height", "I", false)
  | 8 => ("ColumnarPress$Box", "top", "I", false)
  | 9 => ("ColumnarPress$Box", "bottom", "I", false)
  | 10 => ("ColumnarPress$Box", "left", "I", false)
  | 11 => ("ColumnarPress$Box", "right", "I", false)
  | 12 => ("ColumnarPress$Box", "padding", "I", false)
  | 13 => ("ColumnarPress$Box", "grow", "I", false)
  | 14 => ("ColumnarPress$Box", "shrink", "I", false)
  | 15 => ("ColumnarPress$Box", "columns", "I", false)
  | 16 => ("ColumnarPress$Box", "side", "C", false)
  | 17 => ("ColumnarPress$Box", "place", "C", false)
  | 18 => ("ColumnarPress$Box", "offsetX", "I", false)
  | 19 => ("ColumnarPress$Box", "offsetY", "I", false)
  | 20 => ("ColumnarPress$Box", "depth", "I", false)
  | 21 => ("ColumnarPress$Box", "clears", "Z", false)
  | 22 => ("ColumnarPress$Box", "breaks", "C", false)
  | 23 => ("ColumnarPress$Box", "alignment", "C", false)
  | 24 => ("ColumnarPress$Box", "placed", "LColumnarPress$Placed;", false)
  | 25 => ("ColumnarPress$Box", "keptWidth", "I", false)
  | _ => ("ColumnarPress$Box", "this$0", "LColumnarPress;", true)
def tyX2 : Nat → FieldType := fun k => match k with
  | 0 => .int
  | 1 => .object "ColumnarPress$Box"
  | 2 => .char
  | 3 => .int
  | 4 => .object "java/util/List"
  | 5 => .object "java/util/List"
  | 6 => .int
  | 7 => .int
  | 8 => .int
  | 9 => .int
  | 10 => .int
  | 11 => .int
  | 12 => .int
  | 13 => .int
  | 14 => .int
  | 15 => .int
  | 16 => .char
  | 17 => .char
  | 18 => .int
  | 19 => .int
  | 20 => .int
  | 21 => .boolean
  | 22 => .char
  | 23 => .char
  | 24 => .object "ColumnarPress$Placed"
  | 25 => .int
  | _ => .object "ColumnarPress"
abbrev wsX20 : List Cond := u_ws RX2 TX2 27
set_option maxRecDepth 100000 in
theorem nmX2 : ∀ a, a < 27 → ∀ b, b < 27 → a ≠ b → (TX2 a).2.1 ≠ (TX2 b).2.1 := by decide +kernel
set_option maxRecDepth 100000 in
theorem tyX2_ok : ∀ k, k < 27 → parseFieldDescriptor (TX2 k).2.2.1 = some (tyX2 k) := by decide +kernel
abbrev cX2_init : ByteArray := prog_2_method_1_code
def yX2_init : MethodName := ⟨RX2, "<init>", "(LColumnarPress;LColumnarPress$Box;C)V"⟩
def dkwX2_init_5 : List UInt8 := [181, 0, 77, 42, 44, 199, 0, 7, 3, 167, 0, 9, 44, 180, 0, 80, 4, 96, 181, 0, 80, 177]
abbrev dktX2_init_5 : List UInt8 := dkwX2_init_5 ++ []
def dkwX2_init_4 : List UInt8 := [187, 0, 63, 89, 183, 0, 65, 181, 0, 66, 42, 2, 181, 0, 70, 42, 44, 181, 0, 73, 42, 29]
abbrev dktX2_init_4 : List UInt8 := dkwX2_init_4 ++ dktX2_init_5
def dkwX2_init_3 : List UInt8 := [16, 110, 181, 0, 50, 42, 16, 115, 181, 0, 54, 42, 16, 97, 181, 0, 57, 42, 16, 108, 181, 0, 60, 42]
abbrev dktX2_init_3 : List UInt8 := dkwX2_init_3 ++ dktX2_init_4
def dkwX2_init_2 : List UInt8 := [181, 0, 35, 42, 2, 181, 0, 38, 42, 2, 181, 0, 41, 42, 4, 181, 0, 44, 42, 4, 181, 0, 47, 42]
abbrev dktX2_init_2 : List UInt8 := dkwX2_init_2 ++ dktX2_init_3
def dkwX2_init_1 : List UInt8 := [181, 0, 25, 42, 187, 0, 29, 89, 183, 0, 31, 181, 0, 32, 42, 187, 0, 29, 89, 183, 0, 31]
abbrev dktX2_init_1 : List UInt8 := dkwX2_init_1 ++ dktX2_init_2
def dkwX2_init_0 : List UInt8 := [42, 43, 181, 0, 3, 42, 183, 0, 9, 42, 42, 180, 0, 3, 180, 0, 15, 185, 0, 19, 1, 0]
abbrev dktX2_init_0 : List UInt8 := dkwX2_init_0 ++ dktX2_init_1
theorem dksX2_init_0 : cX2_init.data.toList.drop 0 = dktX2_init_0 := by decide +kernel
theorem dksX2_init_1 : cX2_init.data.toList.drop 22 = dktX2_init_1 := dk_seg dksX2_init_0 22 rfl rfl
theorem dksX2_init_2 : cX2_init.data.toList.drop 44 = dktX2_init_2 := dk_seg dksX2_init_1 22 rfl rfl
theorem dksX2_init_3 : cX2_init.data.toList.drop 68 = dktX2_init_3 := dk_seg dksX2_init_2 24 rfl rfl
theorem dksX2_init_4 : cX2_init.data.toList.drop 92 = dktX2_init_4 := dk_seg dksX2_init_3 24 rfl rfl
theorem dksX2_init_5 : cX2_init.data.toList.drop 114 = dktX2_init_5 := dk_seg dksX2_init_4 22 rfl rfl
theorem dX2_init_0 : decode cX2_init 0 = .ok (.aload_n 0, 1) := dk_42 (dk_at dksX2_init_0 0 rfl rfl)
theorem dX2_init_1 : decode cX2_init 1 = .ok (.aload_n 1, 1) := dk_43 (dk_at dksX2_init_0 1 rfl rfl)
theorem dX2_init_2 : decode cX2_init 2 = .ok (.putfield 3, 3) := dk_181 0 3 (dk_at dksX2_init_0 2 rfl rfl)
theorem dX2_init_5 : decode cX2_init 5 = .ok (.aload_n 0, 1) := dk_42 (dk_at dksX2_init_0 5 rfl rfl)
theorem dX2_init_6 : decode cX2_init 6 = .ok (.invokespecial 9, 3) := dk_183 0 9 (dk_at dksX2_init_0 6 rfl rfl)
theorem dX2_init_9 : decode cX2_init 9 = .ok (.aload_n 0, 1) := dk_42 (dk_at dksX2_init_0 9 rfl rfl)
theorem dX2_init_10 : decode cX2_init 10 = .ok (.aload_n 0, 1) := dk_42 (dk_at dksX2_init_0 10 rfl rfl)
theorem dX2_init_11 : decode cX2_init 11 = .ok (.getfield 3, 3) := dk_180 0 3 (dk_at dksX2_init_0 11 rfl rfl)
theorem dX2_init_14 : decode cX2_init 14 = .ok (.getfield 15, 3) := dk_180 0 15 (dk_at dksX2_init_0 14 rfl rfl)
theorem dX2_init_17 : decode cX2_init 17 = .ok (.invokeinterface 19 1, 5) := by decide +kernel
theorem dX2_init_22 : decode cX2_init 22 = .ok (.putfield 25, 3) := dk_181 0 25 (dk_at dksX2_init_1 0 rfl rfl)
theorem dX2_init_25 : decode cX2_init 25 = .ok (.aload_n 0, 1) := dk_42 (dk_at dksX2_init_1 3 rfl rfl)
theorem dX2_init_26 : decode cX2_init 26 = .ok (.new 29, 3) := dk_187 0 29 (dk_at dksX2_init_1 4 rfl rfl)
theorem dX2_init_29 : decode cX2_init 29 = .ok (.dup, 1) := dk_89 (dk_at dksX2_init_1 7 rfl rfl)
theorem dX2_init_30 : decode cX2_init 30 = .ok (.invokespecial 31, 3) := dk_183 0 31 (dk_at dksX2_init_1 8 rfl rfl)
theorem dX2_init_33 : decode cX2_init 33 = .ok (.putfield 32, 3) := dk_181 0 32 (dk_at dksX2_init_1 11 rfl rfl)
theorem dX2_init_36 : decode cX2_init 36 = .ok (.aload_n 0, 1) := dk_42 (dk_at dksX2_init_1 14 rfl rfl)
theorem dX2_init_37 : decode cX2_init 37 = .ok (.new 29, 3) := dk_187 0 29 (dk_at dksX2_init_1 15 rfl rfl)
theorem dX2_init_40 : decode cX2_init 40 = .ok (.dup, 1) := dk_89 (dk_at dksX2_init_1 18 rfl rfl)
theorem dX2_init_41 : decode cX2_init 41 = .ok (.invokespecial 31, 3) := dk_183 0 31 (dk_at dksX2_init_1 19 rfl rfl)
theorem dX2_init_44 : decode cX2_init 44 = .ok (.putfield 35, 3) := dk_181 0 35 (dk_at dksX2_init_2 0 rfl rfl)
theorem dX2_init_47 : decode cX2_init 47 = .ok (.aload_n 0, 1) := dk_42 (dk_at dksX2_init_2 3 rfl rfl)
theorem dX2_init_48 : decode cX2_init 48 = .ok (.iconst (-1), 1) := dk_2 (dk_at dksX2_init_2 4 rfl rfl)
theorem dX2_init_49 : decode cX2_init 49 = .ok (.putfield 38, 3) := dk_181 0 38 (dk_at dksX2_init_2 5 rfl rfl)
theorem dX2_init_52 : decode cX2_init 52 = .ok (.aload_n 0, 1) := dk_42 (dk_at dksX2_init_2 8 rfl rfl)
theorem dX2_init_53 : decode cX2_init 53 = .ok (.iconst (-1), 1) := dk_2 (dk_at dksX2_init_2 9 rfl rfl)
theorem dX2_init_54 : decode cX2_init 54 = .ok (.putfield 41, 3) := dk_181 0 41 (dk_at dksX2_init_2 10 rfl rfl)
theorem dX2_init_57 : decode cX2_init 57 = .ok (.aload_n 0, 1) := dk_42 (dk_at dksX2_init_2 13 rfl rfl)
theorem dX2_init_58 : decode cX2_init 58 = .ok (.iconst 1, 1) := dk_4 (dk_at dksX2_init_2 14 rfl rfl)
theorem dX2_init_59 : decode cX2_init 59 = .ok (.putfield 44, 3) := dk_181 0 44 (dk_at dksX2_init_2 15 rfl rfl)
theorem dX2_init_62 : decode cX2_init 62 = .ok (.aload_n 0, 1) := dk_42 (dk_at dksX2_init_2 18 rfl rfl)
theorem dX2_init_63 : decode cX2_init 63 = .ok (.iconst 1, 1) := dk_4 (dk_at dksX2_init_2 19 rfl rfl)
theorem dX2_init_64 : decode cX2_init 64 = .ok (.putfield 47, 3) := dk_181 0 47 (dk_at dksX2_init_2 20 rfl rfl)
theorem dX2_init_67 : decode cX2_init 67 = .ok (.aload_n 0, 1) := dk_42 (dk_at dksX2_init_2 23 rfl rfl)
theorem dX2_init_68 : decode cX2_init 68 = .ok (.bipush 110, 2) := dk_16 110 (dk_at dksX2_init_3 0 rfl rfl)
theorem dX2_init_70 : decode cX2_init 70 = .ok (.putfield 50, 3) := dk_181 0 50 (dk_at dksX2_init_3 2 rfl rfl)
theorem dX2_init_73 : decode cX2_init 73 = .ok (.aload_n 0, 1) := dk_42 (dk_at dksX2_init_3 5 rfl rfl)
theorem dX2_init_74 : decode cX2_init 74 = .ok (.bipush 115, 2) := dk_16 115 (dk_at dksX2_init_3 6 rfl rfl)
theorem dX2_init_76 : decode cX2_init 76 = .ok (.putfield 54, 3) := dk_181 0 54 (dk_at dksX2_init_3 8 rfl rfl)
theorem dX2_init_79 : decode cX2_init 79 = .ok (.aload_n 0, 1) := dk_42 (dk_at dksX2_init_3 11 rfl rfl)
theorem dX2_init_80 : decode cX2_init 80 = .ok (.bipush 97, 2) := dk_16 97 (dk_at dksX2_init_3 12 rfl rfl)
theorem dX2_init_82 : decode cX2_init 82 = .ok (.putfield 57, 3) := dk_181 0 57 (dk_at dksX2_init_3 14 rfl rfl)
theorem dX2_init_85 : decode cX2_init 85 = .ok (.aload_n 0, 1) := dk_42 (dk_at dksX2_init_3 17 rfl rfl)
theorem dX2_init_86 : decode cX2_init 86 = .ok (.bipush 108, 2) := dk_16 108 (dk_at dksX2_init_3 18 rfl rfl)
theorem dX2_init_88 : decode cX2_init 88 = .ok (.putfield 60, 3) := dk_181 0 60 (dk_at dksX2_init_3 20 rfl rfl)
theorem dX2_init_91 : decode cX2_init 91 = .ok (.aload_n 0, 1) := dk_42 (dk_at dksX2_init_3 23 rfl rfl)
theorem dX2_init_92 : decode cX2_init 92 = .ok (.new 63, 3) := dk_187 0 63 (dk_at dksX2_init_4 0 rfl rfl)
theorem dX2_init_95 : decode cX2_init 95 = .ok (.dup, 1) := dk_89 (dk_at dksX2_init_4 3 rfl rfl)
theorem dX2_init_96 : decode cX2_init 96 = .ok (.invokespecial 65, 3) := dk_183 0 65 (dk_at dksX2_init_4 4 rfl rfl)
theorem dX2_init_99 : decode cX2_init 99 = .ok (.putfield 66, 3) := dk_181 0 66 (dk_at dksX2_init_4 7 rfl rfl)
theorem dX2_init_102 : decode cX2_init 102 = .ok (.aload_n 0, 1) := dk_42 (dk_at dksX2_init_4 10 rfl rfl)
theorem dX2_init_103 : decode cX2_init 103 = .ok (.iconst (-1), 1) := dk_2 (dk_at dksX2_init_4 11 rfl rfl)
theorem dX2_init_104 : decode cX2_init 104 = .ok (.putfield 70, 3) := dk_181 0 70 (dk_at dksX2_init_4 12 rfl rfl)
theorem dX2_init_107 : decode cX2_init 107 = .ok (.aload_n 0, 1) := dk_42 (dk_at dksX2_init_4 15 rfl rfl)
theorem dX2_init_108 : decode cX2_init 108 = .ok (.aload_n 2, 1) := dk_44 (dk_at dksX2_init_4 16 rfl rfl)
theorem dX2_init_109 : decode cX2_init 109 = .ok (.putfield 73, 3) := dk_181 0 73 (dk_at dksX2_init_4 17 rfl rfl)
theorem dX2_init_112 : decode cX2_init 112 = .ok (.aload_n 0, 1) := dk_42 (dk_at dksX2_init_4 20 rfl rfl)
theorem dX2_init_113 : decode cX2_init 113 = .ok (.iload_n 3, 1) := dk_29 (dk_at dksX2_init_4 21 rfl rfl)
theorem dX2_init_114 : decode cX2_init 114 = .ok (.putfield 77, 3) := dk_181 0 77 (dk_at dksX2_init_5 0 rfl rfl)
theorem dX2_init_117 : decode cX2_init 117 = .ok (.aload_n 0, 1) := dk_42 (dk_at dksX2_init_5 3 rfl rfl)
theorem dX2_init_118 : decode cX2_init 118 = .ok (.aload_n 2, 1) := dk_44 (dk_at dksX2_init_5 4 rfl rfl)
theorem dX2_init_119 : decode cX2_init 119 = .ok (.ifnonnull 7, 3) := dk_199 0 7 (dk_at dksX2_init_5 5 rfl rfl)
theorem dX2_init_122 : decode cX2_init 122 = .ok (.iconst 0, 1) := dk_3 (dk_at dksX2_init_5 8 rfl rfl)
theorem dX2_init_123 : decode cX2_init 123 = .ok (.goto 9, 3) := dk_167 0 9 (dk_at dksX2_init_5 9 rfl rfl)
theorem dX2_init_126 : decode cX2_init 126 = .ok (.aload_n 2, 1) := dk_44 (dk_at dksX2_init_5 12 rfl rfl)
theorem dX2_init_127 : decode cX2_init 127 = .ok (.getfield 80, 3) := dk_180 0 80 (dk_at dksX2_init_5 13 rfl rfl)
theorem dX2_init_130 : decode cX2_init 130 = .ok (.iconst 1, 1) := dk_4 (dk_at dksX2_init_5 16 rfl rfl)
theorem dX2_init_131 : decode cX2_init 131 = .ok (.iadd, 1) := dk_96 (dk_at dksX2_init_5 17 rfl rfl)
theorem dX2_init_132 : decode cX2_init 132 = .ok (.putfield 80, 3) := dk_181 0 80 (dk_at dksX2_init_5 18 rfl rfl)
theorem dX2_init_135 : decode cX2_init 135 = .ok (.return_, 1) := dk_177 (dk_at dksX2_init_5 21 rfl rfl)
abbrev cX2_isLifted : ByteArray := prog_2_method_5_code
def yX2_isLifted : MethodName := ⟨RX2, "isLifted", "()Z"⟩
def dkwX2_isLifted_0 : List UInt8 := [42, 182, 0, 83, 154, 0, 16, 42, 180, 0, 54, 16, 97, 160, 0, 7, 4, 167, 0, 4, 3, 172]
abbrev dktX2_isLifted_0 : List UInt8 := dkwX2_isLifted_0 ++ []
theorem dksX2_isLifted_0 : cX2_isLifted.data.toList.drop 0 = dktX2_isLifted_0 := by decide +kernel
theorem dX2_isLifted_0 : decode cX2_isLifted 0 = .ok (.aload_n 0, 1) := dk_42 (dk_at dksX2_isLifted_0 0 rfl rfl)
theorem dX2_isLifted_1 : decode cX2_isLifted 1 = .ok (.invokevirtual 83, 3) := dk_182 0 83 (dk_at dksX2_isLifted_0 1 rfl rfl)
theorem dX2_isLifted_4 : decode cX2_isLifted 4 = .ok (.ifCond .ne 16, 3) := dk_154 0 16 (dk_at dksX2_isLifted_0 4 rfl rfl)
theorem dX2_isLifted_7 : decode cX2_isLifted 7 = .ok (.aload_n 0, 1) := dk_42 (dk_at dksX2_isLifted_0 7 rfl rfl)
theorem dX2_isLifted_8 : decode cX2_isLifted 8 = .ok (.getfield 54, 3) := dk_180 0 54 (dk_at dksX2_isLifted_0 8 rfl rfl)
theorem dX2_isLifted_11 : decode cX2_isLifted 11 = .ok (.bipush 97, 2) := dk_16 97 (dk_at dksX2_isLifted_0 11 rfl rfl)
theorem dX2_isLifted_13 : decode cX2_isLifted 13 = .ok (.if_icmp .ne 7, 3) := dk_160 0 7 (dk_at dksX2_isLifted_0 13 rfl rfl)
theorem dX2_isLifted_16 : decode cX2_isLifted 16 = .ok (.iconst 1, 1) := dk_4 (dk_at dksX2_isLifted_0 16 rfl rfl)
theorem dX2_isLifted_17 : decode cX2_isLifted 17 = .ok (.goto 4, 3) := dk_167 0 4 (dk_at dksX2_isLifted_0 17 rfl rfl)
theorem dX2_isLifted_20 : decode cX2_isLifted 20 = .ok (.iconst 0, 1) := dk_3 (dk_at dksX2_isLifted_0 20 rfl rfl)
theorem dX2_isLifted_21 : decode cX2_isLifted 21 = .ok (.ireturn, 1) := dk_172 (dk_at dksX2_isLifted_0 21 rfl rfl)
abbrev cX2_isRoot : ByteArray := prog_2_method_2_code
def yX2_isRoot : MethodName := ⟨RX2, "isRoot", "()Z"⟩
def dkwX2_isRoot_0 : List UInt8 := [42, 180, 0, 73, 199, 0, 7, 4, 167, 0, 4, 3, 172]
abbrev dktX2_isRoot_0 : List UInt8 := dkwX2_isRoot_0 ++ []
theorem dksX2_isRoot_0 : cX2_isRoot.data.toList.drop 0 = dktX2_isRoot_0 := by decide +kernel
theorem dX2_isRoot_0 : decode cX2_isRoot 0 = .ok (.aload_n 0, 1) := dk_42 (dk_at dksX2_isRoot_0 0 rfl rfl)
theorem dX2_isRoot_1 : decode cX2_isRoot 1 = .ok (.getfield 73, 3) := dk_180 0 73 (dk_at dksX2_isRoot_0 1 rfl rfl)
theorem dX2_isRoot_4 : decode cX2_isRoot 4 = .ok (.ifnonnull 7, 3) := dk_199 0 7 (dk_at dksX2_isRoot_0 4 rfl rfl)
theorem dX2_isRoot_7 : decode cX2_isRoot 7 = .ok (.iconst 1, 1) := dk_4 (dk_at dksX2_isRoot_0 7 rfl rfl)
theorem dX2_isRoot_8 : decode cX2_isRoot 8 = .ok (.goto 4, 3) := dk_167 0 4 (dk_at dksX2_isRoot_0 8 rfl rfl)
theorem dX2_isRoot_11 : decode cX2_isRoot 11 = .ok (.iconst 0, 1) := dk_3 (dk_at dksX2_isRoot_0 11 rfl rfl)
theorem dX2_isRoot_12 : decode cX2_isRoot 12 = .ok (.ireturn, 1) := dk_172 (dk_at dksX2_isRoot_0 12 rfl rfl)
abbrev cX2_inner : ByteArray := prog_2_method_16_code
def yX2_inner : MethodName := ⟨RX2, "inner", "()I"⟩
def dkwX2_inner_0 : List UInt8 := [3, 42, 180, 0, 66, 180, 0, 129, 5, 42, 180, 0, 130, 104, 100, 184, 0, 108, 172]
abbrev dktX2_inner_0 : List UInt8 := dkwX2_inner_0 ++ []
theorem dksX2_inner_0 : cX2_inner.data.toList.drop 0 = dktX2_inner_0 := by decide +kernel
theorem dX2_inner_0 : decode cX2_inner 0 = .ok (.iconst 0, 1) := dk_3 (dk_at dksX2_inner_0 0 rfl rfl)
theorem dX2_inner_1 : decode cX2_inner 1 = .ok (.aload_n 0, 1) := dk_42 (dk_at dksX2_inner_0 1 rfl rfl)
theorem dX2_inner_2 : decode cX2_inner 2 = .ok (.getfield 66, 3) := dk_180 0 66 (dk_at dksX2_inner_0 2 rfl rfl)
theorem dX2_inner_5 : decode cX2_inner 5 = .ok (.getfield 129, 3) := dk_180 0 129 (dk_at dksX2_inner_0 5 rfl rfl)
theorem dX2_inner_8 : decode cX2_inner 8 = .ok (.iconst 2, 1) := dk_5 (dk_at dksX2_inner_0 8 rfl rfl)
theorem dX2_inner_9 : decode cX2_inner 9 = .ok (.aload_n 0, 1) := dk_42 (dk_at dksX2_inner_0 9 rfl rfl)
theorem dX2_inner_10 : decode cX2_inner 10 = .ok (.getfield 130, 3) := dk_180 0 130 (dk_at dksX2_inner_0 10 rfl rfl)
theorem dX2_inner_13 : decode cX2_inner 13 = .ok (.imul, 1) := dk_104 (dk_at dksX2_inner_0 13 rfl rfl)
theorem dX2_inner_14 : decode cX2_inner 14 = .ok (.isub, 1) := dk_100 (dk_at dksX2_inner_0 14 rfl rfl)
theorem dX2_inner_15 : decode cX2_inner 15 = .ok (.invokestatic 108, 3) := dk_184 0 108 (dk_at dksX2_inner_0 15 rfl rfl)
theorem dX2_inner_18 : decode cX2_inner 18 = .ok (.ireturn, 1) := dk_172 (dk_at dksX2_inner_0 18 rfl rfl)
abbrev cX2_told : ByteArray := prog_2_method_13_code
def yX2_told : MethodName := ⟨RX2, "told", "()I"⟩
def dkwX2_told_0 : List UInt8 := [42, 182, 0, 83, 153, 0, 7, 2, 167, 0, 7, 42, 180, 0, 38, 172]
abbrev dktX2_told_0 : List UInt8 := dkwX2_told_0 ++ []
theorem dksX2_told_0 : cX2_told.data.toList.drop 0 = dktX2_told_0 := by decide +kernel
theorem dX2_told_0 : decode cX2_told 0 = .ok (.aload_n 0, 1) := dk_42 (dk_at dksX2_told_0 0 rfl rfl)
theorem dX2_told_1 : decode cX2_told 1 = .ok (.invokevirtual 83, 3) := dk_182 0 83 (dk_at dksX2_told_0 1 rfl rfl)
theorem dX2_told_4 : decode cX2_told 4 = .ok (.ifCond .eq 7, 3) := dk_153 0 7 (dk_at dksX2_told_0 4 rfl rfl)
theorem dX2_told_7 : decode cX2_told 7 = .ok (.iconst (-1), 1) := dk_2 (dk_at dksX2_told_0 7 rfl rfl)
theorem dX2_told_8 : decode cX2_told 8 = .ok (.goto 7, 3) := dk_167 0 7 (dk_at dksX2_told_0 8 rfl rfl)
theorem dX2_told_11 : decode cX2_told 11 = .ok (.aload_n 0, 1) := dk_42 (dk_at dksX2_told_0 11 rfl rfl)
theorem dX2_told_12 : decode cX2_told 12 = .ok (.getfield 38, 3) := dk_180 0 38 (dk_at dksX2_told_0 12 rfl rfl)
theorem dX2_told_15 : decode cX2_told 15 = .ok (.ireturn, 1) := dk_172 (dk_at dksX2_told_0 15 rfl rfl)
abbrev cX2_isText : ByteArray := prog_2_method_3_code
def yX2_isText : MethodName := ⟨RX2, "isText", "()Z"⟩
def dkwX2_isText_0 : List UInt8 := [42, 180, 0, 77, 16, 116, 160, 0, 7, 4, 167, 0, 4, 3, 172]
abbrev dktX2_isText_0 : List UInt8 := dkwX2_isText_0 ++ []
theorem dksX2_isText_0 : cX2_isText.data.toList.drop 0 = dktX2_isText_0 := by decide +kernel
theorem dX2_isText_0 : decode cX2_isText 0 = .ok (.aload_n 0, 1) := dk_42 (dk_at dksX2_isText_0 0 rfl rfl)
theorem dX2_isText_1 : decode cX2_isText 1 = .ok (.getfield 77, 3) := dk_180 0 77 (dk_at dksX2_isText_0 1 rfl rfl)
theorem dX2_isText_4 : decode cX2_isText 4 = .ok (.bipush 116, 2) := dk_16 116 (dk_at dksX2_isText_0 4 rfl rfl)
theorem dX2_isText_6 : decode cX2_isText 6 = .ok (.if_icmp .ne 7, 3) := dk_160 0 7 (dk_at dksX2_isText_0 6 rfl rfl)
theorem dX2_isText_9 : decode cX2_isText 9 = .ok (.iconst 1, 1) := dk_4 (dk_at dksX2_isText_0 9 rfl rfl)
theorem dX2_isText_10 : decode cX2_isText 10 = .ok (.goto 4, 3) := dk_167 0 4 (dk_at dksX2_isText_0 10 rfl rfl)
theorem dX2_isText_13 : decode cX2_isText 13 = .ok (.iconst 0, 1) := dk_3 (dk_at dksX2_isText_0 13 rfl rfl)
theorem dX2_isText_14 : decode cX2_isText 14 = .ok (.ireturn, 1) := dk_172 (dk_at dksX2_isText_0 14 rfl rfl)
abbrev cX2_sides : ByteArray := prog_2_method_14_code
def yX2_sides : MethodName := ⟨RX2, "sides", "()I"⟩
def dkwX2_sides_0 : List UInt8 := [42, 180, 0, 117, 42, 180, 0, 120, 96, 172]
abbrev dktX2_sides_0 : List UInt8 := dkwX2_sides_0 ++ []
theorem dksX2_sides_0 : cX2_sides.data.toList.drop 0 = dktX2_sides_0 := by decide +kernel
theorem dX2_sides_0 : decode cX2_sides 0 = .ok (.aload_n 0, 1) := dk_42 (dk_at dksX2_sides_0 0 rfl rfl)
theorem dX2_sides_1 : decode cX2_sides 1 = .ok (.getfield 117, 3) := dk_180 0 117 (dk_at dksX2_sides_0 1 rfl rfl)
theorem dX2_sides_4 : decode cX2_sides 4 = .ok (.aload_n 0, 1) := dk_42 (dk_at dksX2_sides_0 4 rfl rfl)
theorem dX2_sides_5 : decode cX2_sides 5 = .ok (.getfield 120, 3) := dk_180 0 120 (dk_at dksX2_sides_0 5 rfl rfl)
theorem dX2_sides_8 : decode cX2_sides 8 = .ok (.iadd, 1) := dk_96 (dk_at dksX2_sides_0 8 rfl rfl)
theorem dX2_sides_9 : decode cX2_sides 9 = .ok (.ireturn, 1) := dk_172 (dk_at dksX2_sides_0 9 rfl rfl)
abbrev cX2_upper : ByteArray := prog_2_method_11_code
def yX2_upper : MethodName := ⟨RX2, "upper", "()I"⟩
def dkwX2_upper_0 : List UInt8 := [42, 182, 0, 102, 153, 0, 14, 3, 42, 180, 0, 105, 184, 0, 108, 167, 0, 7, 42, 180, 0, 105, 172]
abbrev dktX2_upper_0 : List UInt8 := dkwX2_upper_0 ++ []
theorem dksX2_upper_0 : cX2_upper.data.toList.drop 0 = dktX2_upper_0 := by decide +kernel
theorem dX2_upper_0 : decode cX2_upper 0 = .ok (.aload_n 0, 1) := dk_42 (dk_at dksX2_upper_0 0 rfl rfl)
theorem dX2_upper_1 : decode cX2_upper 1 = .ok (.invokevirtual 102, 3) := dk_182 0 102 (dk_at dksX2_upper_0 1 rfl rfl)
theorem dX2_upper_4 : decode cX2_upper 4 = .ok (.ifCond .eq 14, 3) := dk_153 0 14 (dk_at dksX2_upper_0 4 rfl rfl)
theorem dX2_upper_7 : decode cX2_upper 7 = .ok (.iconst 0, 1) := dk_3 (dk_at dksX2_upper_0 7 rfl rfl)
theorem dX2_upper_8 : decode cX2_upper 8 = .ok (.aload_n 0, 1) := dk_42 (dk_at dksX2_upper_0 8 rfl rfl)
theorem dX2_upper_9 : decode cX2_upper 9 = .ok (.getfield 105, 3) := dk_180 0 105 (dk_at dksX2_upper_0 9 rfl rfl)
theorem dX2_upper_12 : decode cX2_upper 12 = .ok (.invokestatic 108, 3) := dk_184 0 108 (dk_at dksX2_upper_0 12 rfl rfl)
theorem dX2_upper_15 : decode cX2_upper 15 = .ok (.goto 7, 3) := dk_167 0 7 (dk_at dksX2_upper_0 15 rfl rfl)
theorem dX2_upper_18 : decode cX2_upper 18 = .ok (.aload_n 0, 1) := dk_42 (dk_at dksX2_upper_0 18 rfl rfl)
theorem dX2_upper_19 : decode cX2_upper 19 = .ok (.getfield 105, 3) := dk_180 0 105 (dk_at dksX2_upper_0 19 rfl rfl)
theorem dX2_upper_22 : decode cX2_upper 22 = .ok (.ireturn, 1) := dk_172 (dk_at dksX2_upper_0 22 rfl rfl)
abbrev cX2_isApart : ByteArray := prog_2_method_10_code
def yX2_isApart : MethodName := ⟨RX2, "isApart", "()Z"⟩
def dkwX2_isApart_0 : List UInt8 := [42, 182, 0, 99, 154, 0, 7, 4, 167, 0, 4, 3, 172]
abbrev dktX2_isApart_0 : List UInt8 := dkwX2_isApart_0 ++ []
theorem dksX2_isApart_0 : cX2_isApart.data.toList.drop 0 = dktX2_isApart_0 := by decide +kernel
theorem dX2_isApart_0 : decode cX2_isApart 0 = .ok (.aload_n 0, 1) := dk_42 (dk_at dksX2_isApart_0 0 rfl rfl)
theorem dX2_isApart_1 : decode cX2_isApart 1 = .ok (.invokevirtual 99, 3) := dk_182 0 99 (dk_at dksX2_isApart_0 1 rfl rfl)
theorem dX2_isApart_4 : decode cX2_isApart 4 = .ok (.ifCond .ne 7, 3) := dk_154 0 7 (dk_at dksX2_isApart_0 4 rfl rfl)
theorem dX2_isApart_7 : decode cX2_isApart 7 = .ok (.iconst 1, 1) := dk_4 (dk_at dksX2_isApart_0 7 rfl rfl)
theorem dX2_isApart_8 : decode cX2_isApart 8 = .ok (.goto 4, 3) := dk_167 0 4 (dk_at dksX2_isApart_0 8 rfl rfl)
theorem dX2_isApart_11 : decode cX2_isApart 11 = .ok (.iconst 0, 1) := dk_3 (dk_at dksX2_isApart_0 11 rfl rfl)
theorem dX2_isApart_12 : decode cX2_isApart 12 = .ok (.ireturn, 1) := dk_172 (dk_at dksX2_isApart_0 12 rfl rfl)
abbrev cX2_isInFlow : ByteArray := prog_2_method_8_code
def yX2_isInFlow : MethodName := ⟨RX2, "isInFlow", "()Z"⟩
def dkwX2_isInFlow_1 : List UInt8 := [182, 0, 96, 154, 0, 7, 4, 167, 0, 4, 3, 172]
abbrev dktX2_isInFlow_1 : List UInt8 := dkwX2_isInFlow_1 ++ []
def dkwX2_isInFlow_0 : List UInt8 := [42, 182, 0, 83, 154, 0, 28, 42, 182, 0, 90, 154, 0, 21, 42, 182, 0, 93, 154, 0, 14, 42]
abbrev dktX2_isInFlow_0 : List UInt8 := dkwX2_isInFlow_0 ++ dktX2_isInFlow_1
theorem dksX2_isInFlow_0 : cX2_isInFlow.data.toList.drop 0 = dktX2_isInFlow_0 := by decide +kernel
theorem dksX2_isInFlow_1 : cX2_isInFlow.data.toList.drop 22 = dktX2_isInFlow_1 := dk_seg dksX2_isInFlow_0 22 rfl rfl
theorem dX2_isInFlow_0 : decode cX2_isInFlow 0 = .ok (.aload_n 0, 1) := dk_42 (dk_at dksX2_isInFlow_0 0 rfl rfl)
theorem dX2_isInFlow_1 : decode cX2_isInFlow 1 = .ok (.invokevirtual 83, 3) := dk_182 0 83 (dk_at dksX2_isInFlow_0 1 rfl rfl)
theorem dX2_isInFlow_4 : decode cX2_isInFlow 4 = .ok (.ifCond .ne 28, 3) := dk_154 0 28 (dk_at dksX2_isInFlow_0 4 rfl rfl)
theorem dX2_isInFlow_7 : decode cX2_isInFlow 7 = .ok (.aload_n 0, 1) := dk_42 (dk_at dksX2_isInFlow_0 7 rfl rfl)
theorem dX2_isInFlow_8 : decode cX2_isInFlow 8 = .ok (.invokevirtual 90, 3) := dk_182 0 90 (dk_at dksX2_isInFlow_0 8 rfl rfl)
theorem dX2_isInFlow_11 : decode cX2_isInFlow 11 = .ok (.ifCond .ne 21, 3) := dk_154 0 21 (dk_at dksX2_isInFlow_0 11 rfl rfl)
theorem dX2_isInFlow_14 : decode cX2_isInFlow 14 = .ok (.aload_n 0, 1) := dk_42 (dk_at dksX2_isInFlow_0 14 rfl rfl)
theorem dX2_isInFlow_15 : decode cX2_isInFlow 15 = .ok (.invokevirtual 93, 3) := dk_182 0 93 (dk_at dksX2_isInFlow_0 15 rfl rfl)
theorem dX2_isInFlow_18 : decode cX2_isInFlow 18 = .ok (.ifCond .ne 14, 3) := dk_154 0 14 (dk_at dksX2_isInFlow_0 18 rfl rfl)
theorem dX2_isInFlow_21 : decode cX2_isInFlow 21 = .ok (.aload_n 0, 1) := dk_42 (dk_at dksX2_isInFlow_0 21 rfl rfl)
theorem dX2_isInFlow_22 : decode cX2_isInFlow 22 = .ok (.invokevirtual 96, 3) := dk_182 0 96 (dk_at dksX2_isInFlow_1 0 rfl rfl)
theorem dX2_isInFlow_25 : decode cX2_isInFlow 25 = .ok (.ifCond .ne 7, 3) := dk_154 0 7 (dk_at dksX2_isInFlow_1 3 rfl rfl)
theorem dX2_isInFlow_28 : decode cX2_isInFlow 28 = .ok (.iconst 1, 1) := dk_4 (dk_at dksX2_isInFlow_1 6 rfl rfl)
theorem dX2_isInFlow_29 : decode cX2_isInFlow 29 = .ok (.goto 4, 3) := dk_167 0 4 (dk_at dksX2_isInFlow_1 7 rfl rfl)
theorem dX2_isInFlow_32 : decode cX2_isInFlow 32 = .ok (.iconst 0, 1) := dk_3 (dk_at dksX2_isInFlow_1 10 rfl rfl)
theorem dX2_isInFlow_33 : decode cX2_isInFlow 33 = .ok (.ireturn, 1) := dk_172 (dk_at dksX2_isInFlow_1 11 rfl rfl)
abbrev cX2_isItem : ByteArray := prog_2_method_6_code
def yX2_isItem : MethodName := ⟨RX2, "isItem", "()Z"⟩
def dkwX2_isItem_1 : List UInt8 := [4, 167, 0, 4, 3, 172]
abbrev dktX2_isItem_1 : List UInt8 := dkwX2_isItem_1 ++ []
def dkwX2_isItem_0 : List UInt8 := [42, 182, 0, 83, 154, 0, 24, 42, 180, 0, 73, 182, 0, 87, 153, 0, 14, 42, 182, 0, 90, 154, 0, 7]
abbrev dktX2_isItem_0 : List UInt8 := dkwX2_isItem_0 ++ dktX2_isItem_1
theorem dksX2_isItem_0 : cX2_isItem.data.toList.drop 0 = dktX2_isItem_0 := by decide +kernel
theorem dksX2_isItem_1 : cX2_isItem.data.toList.drop 24 = dktX2_isItem_1 := dk_seg dksX2_isItem_0 24 rfl rfl
theorem dX2_isItem_0 : decode cX2_isItem 0 = .ok (.aload_n 0, 1) := dk_42 (dk_at dksX2_isItem_0 0 rfl rfl)
theorem dX2_isItem_1 : decode cX2_isItem 1 = .ok (.invokevirtual 83, 3) := dk_182 0 83 (dk_at dksX2_isItem_0 1 rfl rfl)
theorem dX2_isItem_4 : decode cX2_isItem 4 = .ok (.ifCond .ne 24, 3) := dk_154 0 24 (dk_at dksX2_isItem_0 4 rfl rfl)
theorem dX2_isItem_7 : decode cX2_isItem 7 = .ok (.aload_n 0, 1) := dk_42 (dk_at dksX2_isItem_0 7 rfl rfl)
theorem dX2_isItem_8 : decode cX2_isItem 8 = .ok (.getfield 73, 3) := dk_180 0 73 (dk_at dksX2_isItem_0 8 rfl rfl)
theorem dX2_isItem_11 : decode cX2_isItem 11 = .ok (.invokevirtual 87, 3) := dk_182 0 87 (dk_at dksX2_isItem_0 11 rfl rfl)
theorem dX2_isItem_14 : decode cX2_isItem 14 = .ok (.ifCond .eq 14, 3) := dk_153 0 14 (dk_at dksX2_isItem_0 14 rfl rfl)
theorem dX2_isItem_17 : decode cX2_isItem 17 = .ok (.aload_n 0, 1) := dk_42 (dk_at dksX2_isItem_0 17 rfl rfl)
theorem dX2_isItem_18 : decode cX2_isItem 18 = .ok (.invokevirtual 90, 3) := dk_182 0 90 (dk_at dksX2_isItem_0 18 rfl rfl)
theorem dX2_isItem_21 : decode cX2_isItem 21 = .ok (.ifCond .ne 7, 3) := dk_154 0 7 (dk_at dksX2_isItem_0 21 rfl rfl)
theorem dX2_isItem_24 : decode cX2_isItem 24 = .ok (.iconst 1, 1) := dk_4 (dk_at dksX2_isItem_1 0 rfl rfl)
theorem dX2_isItem_25 : decode cX2_isItem 25 = .ok (.goto 4, 3) := dk_167 0 4 (dk_at dksX2_isItem_1 1 rfl rfl)
theorem dX2_isItem_28 : decode cX2_isItem 28 = .ok (.iconst 0, 1) := dk_3 (dk_at dksX2_isItem_1 4 rfl rfl)
theorem dX2_isItem_29 : decode cX2_isItem 29 = .ok (.ireturn, 1) := dk_172 (dk_at dksX2_isItem_1 5 rfl rfl)
abbrev cX2_isItems : ByteArray := prog_2_method_4_code
def yX2_isItems : MethodName := ⟨RX2, "isItems", "()Z"⟩
def dkwX2_isItems_0 : List UInt8 := [42, 180, 0, 77, 16, 102, 159, 0, 12, 42, 180, 0, 77, 16, 103, 160, 0, 7, 4, 167, 0, 4, 3, 172]
abbrev dktX2_isItems_0 : List UInt8 := dkwX2_isItems_0 ++ []
theorem dksX2_isItems_0 : cX2_isItems.data.toList.drop 0 = dktX2_isItems_0 := by decide +kernel
theorem dX2_isItems_0 : decode cX2_isItems 0 = .ok (.aload_n 0, 1) := dk_42 (dk_at dksX2_isItems_0 0 rfl rfl)
theorem dX2_isItems_1 : decode cX2_isItems 1 = .ok (.getfield 77, 3) := dk_180 0 77 (dk_at dksX2_isItems_0 1 rfl rfl)
theorem dX2_isItems_4 : decode cX2_isItems 4 = .ok (.bipush 102, 2) := dk_16 102 (dk_at dksX2_isItems_0 4 rfl rfl)
theorem dX2_isItems_6 : decode cX2_isItems 6 = .ok (.if_icmp .eq 12, 3) := dk_159 0 12 (dk_at dksX2_isItems_0 6 rfl rfl)
theorem dX2_isItems_9 : decode cX2_isItems 9 = .ok (.aload_n 0, 1) := dk_42 (dk_at dksX2_isItems_0 9 rfl rfl)
theorem dX2_isItems_10 : decode cX2_isItems 10 = .ok (.getfield 77, 3) := dk_180 0 77 (dk_at dksX2_isItems_0 10 rfl rfl)
theorem dX2_isItems_13 : decode cX2_isItems 13 = .ok (.bipush 103, 2) := dk_16 103 (dk_at dksX2_isItems_0 13 rfl rfl)
theorem dX2_isItems_15 : decode cX2_isItems 15 = .ok (.if_icmp .ne 7, 3) := dk_160 0 7 (dk_at dksX2_isItems_0 15 rfl rfl)
theorem dX2_isItems_18 : decode cX2_isItems 18 = .ok (.iconst 1, 1) := dk_4 (dk_at dksX2_isItems_0 18 rfl rfl)
theorem dX2_isItems_19 : decode cX2_isItems 19 = .ok (.goto 4, 3) := dk_167 0 4 (dk_at dksX2_isItems_0 19 rfl rfl)
theorem dX2_isItems_22 : decode cX2_isItems 22 = .ok (.iconst 0, 1) := dk_3 (dk_at dksX2_isItems_0 22 rfl rfl)
theorem dX2_isItems_23 : decode cX2_isItems 23 = .ok (.ireturn, 1) := dk_172 (dk_at dksX2_isItems_0 23 rfl rfl)
abbrev cX2_isFloat : ByteArray := prog_2_method_7_code
def yX2_isFloat : MethodName := ⟨RX2, "isFloat", "()Z"⟩
def dkwX2_isFloat_1 : List UInt8 := [182, 0, 93, 154, 0, 7, 4, 167, 0, 4, 3, 172]
abbrev dktX2_isFloat_1 : List UInt8 := dkwX2_isFloat_1 ++ []
def dkwX2_isFloat_0 : List UInt8 := [42, 182, 0, 83, 154, 0, 30, 42, 180, 0, 50, 16, 110, 159, 0, 21, 42, 182, 0, 90, 154, 0, 14, 42]
abbrev dktX2_isFloat_0 : List UInt8 := dkwX2_isFloat_0 ++ dktX2_isFloat_1
theorem dksX2_isFloat_0 : cX2_isFloat.data.toList.drop 0 = dktX2_isFloat_0 := by decide +kernel
theorem dksX2_isFloat_1 : cX2_isFloat.data.toList.drop 24 = dktX2_isFloat_1 := dk_seg dksX2_isFloat_0 24 rfl rfl
theorem dX2_isFloat_0 : decode cX2_isFloat 0 = .ok (.aload_n 0, 1) := dk_42 (dk_at dksX2_isFloat_0 0 rfl rfl)
theorem dX2_isFloat_1 : decode cX2_isFloat 1 = .ok (.invokevirtual 83, 3) := dk_182 0 83 (dk_at dksX2_isFloat_0 1 rfl rfl)
theorem dX2_isFloat_4 : decode cX2_isFloat 4 = .ok (.ifCond .ne 30, 3) := dk_154 0 30 (dk_at dksX2_isFloat_0 4 rfl rfl)
theorem dX2_isFloat_7 : decode cX2_isFloat 7 = .ok (.aload_n 0, 1) := dk_42 (dk_at dksX2_isFloat_0 7 rfl rfl)
theorem dX2_isFloat_8 : decode cX2_isFloat 8 = .ok (.getfield 50, 3) := dk_180 0 50 (dk_at dksX2_isFloat_0 8 rfl rfl)
theorem dX2_isFloat_11 : decode cX2_isFloat 11 = .ok (.bipush 110, 2) := dk_16 110 (dk_at dksX2_isFloat_0 11 rfl rfl)
theorem dX2_isFloat_13 : decode cX2_isFloat 13 = .ok (.if_icmp .eq 21, 3) := dk_159 0 21 (dk_at dksX2_isFloat_0 13 rfl rfl)
theorem dX2_isFloat_16 : decode cX2_isFloat 16 = .ok (.aload_n 0, 1) := dk_42 (dk_at dksX2_isFloat_0 16 rfl rfl)
theorem dX2_isFloat_17 : decode cX2_isFloat 17 = .ok (.invokevirtual 90, 3) := dk_182 0 90 (dk_at dksX2_isFloat_0 17 rfl rfl)
theorem dX2_isFloat_20 : decode cX2_isFloat 20 = .ok (.ifCond .ne 14, 3) := dk_154 0 14 (dk_at dksX2_isFloat_0 20 rfl rfl)
theorem dX2_isFloat_23 : decode cX2_isFloat 23 = .ok (.aload_n 0, 1) := dk_42 (dk_at dksX2_isFloat_0 23 rfl rfl)
theorem dX2_isFloat_24 : decode cX2_isFloat 24 = .ok (.invokevirtual 93, 3) := dk_182 0 93 (dk_at dksX2_isFloat_1 0 rfl rfl)
theorem dX2_isFloat_27 : decode cX2_isFloat 27 = .ok (.ifCond .ne 7, 3) := dk_154 0 7 (dk_at dksX2_isFloat_1 3 rfl rfl)
theorem dX2_isFloat_30 : decode cX2_isFloat 30 = .ok (.iconst 1, 1) := dk_4 (dk_at dksX2_isFloat_1 6 rfl rfl)
theorem dX2_isFloat_31 : decode cX2_isFloat 31 = .ok (.goto 4, 3) := dk_167 0 4 (dk_at dksX2_isFloat_1 7 rfl rfl)
theorem dX2_isFloat_34 : decode cX2_isFloat 34 = .ok (.iconst 0, 1) := dk_3 (dk_at dksX2_isFloat_1 10 rfl rfl)
theorem dX2_isFloat_35 : decode cX2_isFloat 35 = .ok (.ireturn, 1) := dk_172 (dk_at dksX2_isFloat_1 11 rfl rfl)
abbrev cX2_ends : ByteArray := prog_2_method_15_code
def yX2_ends : MethodName := ⟨RX2, "ends", "()I"⟩
def dkwX2_ends_0 : List UInt8 := [42, 182, 0, 123, 42, 182, 0, 126, 96, 172]
abbrev dktX2_ends_0 : List UInt8 := dkwX2_ends_0 ++ []
theorem dksX2_ends_0 : cX2_ends.data.toList.drop 0 = dktX2_ends_0 := by decide +kernel
theorem dX2_ends_0 : decode cX2_ends 0 = .ok (.aload_n 0, 1) := dk_42 (dk_at dksX2_ends_0 0 rfl rfl)
theorem dX2_ends_1 : decode cX2_ends 1 = .ok (.invokevirtual 123, 3) := dk_182 0 123 (dk_at dksX2_ends_0 1 rfl rfl)
theorem dX2_ends_4 : decode cX2_ends 4 = .ok (.aload_n 0, 1) := dk_42 (dk_at dksX2_ends_0 4 rfl rfl)
theorem dX2_ends_5 : decode cX2_ends 5 = .ok (.invokevirtual 126, 3) := dk_182 0 126 (dk_at dksX2_ends_0 5 rfl rfl)
theorem dX2_ends_8 : decode cX2_ends 8 = .ok (.iadd, 1) := dk_96 (dk_at dksX2_ends_0 8 rfl rfl)
theorem dX2_ends_9 : decode cX2_ends 9 = .ok (.ireturn, 1) := dk_172 (dk_at dksX2_ends_0 9 rfl rfl)
abbrev cX2_lower : ByteArray := prog_2_method_12_code
def yX2_lower : MethodName := ⟨RX2, "lower", "()I"⟩
def dkwX2_lower_0 : List UInt8 := [42, 182, 0, 102, 153, 0, 14, 3, 42, 180, 0, 114, 184, 0, 108, 167, 0, 7, 42, 180, 0, 114, 172]
abbrev dktX2_lower_0 : List UInt8 := dkwX2_lower_0 ++ []
theorem dksX2_lower_0 : cX2_lower.data.toList.drop 0 = dktX2_lower_0 := by decide +kernel
theorem dX2_lower_0 : decode cX2_lower 0 = .ok (.aload_n 0, 1) := dk_42 (dk_at dksX2_lower_0 0 rfl rfl)
theorem dX2_lower_1 : decode cX2_lower 1 = .ok (.invokevirtual 102, 3) := dk_182 0 102 (dk_at dksX2_lower_0 1 rfl rfl)
theorem dX2_lower_4 : decode cX2_lower 4 = .ok (.ifCond .eq 14, 3) := dk_153 0 14 (dk_at dksX2_lower_0 4 rfl rfl)
theorem dX2_lower_7 : decode cX2_lower 7 = .ok (.iconst 0, 1) := dk_3 (dk_at dksX2_lower_0 7 rfl rfl)
theorem dX2_lower_8 : decode cX2_lower 8 = .ok (.aload_n 0, 1) := dk_42 (dk_at dksX2_lower_0 8 rfl rfl)
theorem dX2_lower_9 : decode cX2_lower 9 = .ok (.getfield 114, 3) := dk_180 0 114 (dk_at dksX2_lower_0 9 rfl rfl)
theorem dX2_lower_12 : decode cX2_lower 12 = .ok (.invokestatic 108, 3) := dk_184 0 108 (dk_at dksX2_lower_0 12 rfl rfl)
theorem dX2_lower_15 : decode cX2_lower 15 = .ok (.goto 7, 3) := dk_167 0 7 (dk_at dksX2_lower_0 15 rfl rfl)
theorem dX2_lower_18 : decode cX2_lower 18 = .ok (.aload_n 0, 1) := dk_42 (dk_at dksX2_lower_0 18 rfl rfl)
theorem dX2_lower_19 : decode cX2_lower 19 = .ok (.getfield 114, 3) := dk_180 0 114 (dk_at dksX2_lower_0 19 rfl rfl)
theorem dX2_lower_22 : decode cX2_lower 22 = .ok (.ireturn, 1) := dk_172 (dk_at dksX2_lower_0 22 rfl rfl)
abbrev cX2_holder : ByteArray := prog_2_method_18_code
def yX2_holder : MethodName := ⟨RX2, "holder", "()LColumnarPress$Box;"⟩
def dkwX2_holder_1 : List UInt8 := [180, 0, 73, 76, 167, 255, 235, 43, 176]
abbrev dktX2_holder_1 : List UInt8 := dkwX2_holder_1 ++ []
def dkwX2_holder_0 : List UInt8 := [42, 180, 0, 73, 76, 43, 182, 0, 83, 154, 0, 20, 43, 180, 0, 54, 16, 115, 160, 0, 11, 43]
abbrev dktX2_holder_0 : List UInt8 := dkwX2_holder_0 ++ dktX2_holder_1
theorem dksX2_holder_0 : cX2_holder.data.toList.drop 0 = dktX2_holder_0 := by decide +kernel
theorem dksX2_holder_1 : cX2_holder.data.toList.drop 22 = dktX2_holder_1 := dk_seg dksX2_holder_0 22 rfl rfl
theorem dX2_holder_0 : decode cX2_holder 0 = .ok (.aload_n 0, 1) := dk_42 (dk_at dksX2_holder_0 0 rfl rfl)
theorem dX2_holder_1 : decode cX2_holder 1 = .ok (.getfield 73, 3) := dk_180 0 73 (dk_at dksX2_holder_0 1 rfl rfl)
theorem dX2_holder_4 : decode cX2_holder 4 = .ok (.astore_n 1, 1) := dk_76 (dk_at dksX2_holder_0 4 rfl rfl)
theorem dX2_holder_5 : decode cX2_holder 5 = .ok (.aload_n 1, 1) := dk_43 (dk_at dksX2_holder_0 5 rfl rfl)
theorem dX2_holder_6 : decode cX2_holder 6 = .ok (.invokevirtual 83, 3) := dk_182 0 83 (dk_at dksX2_holder_0 6 rfl rfl)
theorem dX2_holder_9 : decode cX2_holder 9 = .ok (.ifCond .ne 20, 3) := dk_154 0 20 (dk_at dksX2_holder_0 9 rfl rfl)
theorem dX2_holder_12 : decode cX2_holder 12 = .ok (.aload_n 1, 1) := dk_43 (dk_at dksX2_holder_0 12 rfl rfl)
theorem dX2_holder_13 : decode cX2_holder 13 = .ok (.getfield 54, 3) := dk_180 0 54 (dk_at dksX2_holder_0 13 rfl rfl)
theorem dX2_holder_16 : decode cX2_holder 16 = .ok (.bipush 115, 2) := dk_16 115 (dk_at dksX2_holder_0 16 rfl rfl)
theorem dX2_holder_18 : decode cX2_holder 18 = .ok (.if_icmp .ne 11, 3) := dk_160 0 11 (dk_at dksX2_holder_0 18 rfl rfl)
theorem dX2_holder_21 : decode cX2_holder 21 = .ok (.aload_n 1, 1) := dk_43 (dk_at dksX2_holder_0 21 rfl rfl)
theorem dX2_holder_22 : decode cX2_holder 22 = .ok (.getfield 73, 3) := dk_180 0 73 (dk_at dksX2_holder_1 0 rfl rfl)
theorem dX2_holder_25 : decode cX2_holder 25 = .ok (.astore_n 1, 1) := dk_76 (dk_at dksX2_holder_1 3 rfl rfl)
theorem dX2_holder_26 : decode cX2_holder 26 = .ok (.goto (-21), 3) := dk_167 255 235 (dk_at dksX2_holder_1 4 rfl rfl)
theorem dX2_holder_29 : decode cX2_holder 29 = .ok (.aload_n 1, 1) := dk_43 (dk_at dksX2_holder_1 7 rfl rfl)
theorem dX2_holder_30 : decode cX2_holder 30 = .ok (.areturn, 1) := dk_176 (dk_at dksX2_holder_1 8 rfl rfl)
abbrev cX2_touch : ByteArray := prog_2_method_17_code
def yX2_touch : MethodName := ⟨RX2, "touch", "()V"⟩
def dkwX2_touch_1 : List UInt8 := [167, 255, 242, 177]
abbrev dktX2_touch_1 : List UInt8 := dkwX2_touch_1 ++ []
def dkwX2_touch_0 : List UInt8 := [42, 180, 0, 3, 2, 181, 0, 133, 42, 76, 43, 198, 0, 16, 43, 2, 181, 0, 70, 43, 180, 0, 73, 76]
abbrev dktX2_touch_0 : List UInt8 := dkwX2_touch_0 ++ dktX2_touch_1
theorem dksX2_touch_0 : cX2_touch.data.toList.drop 0 = dktX2_touch_0 := by decide +kernel
theorem dksX2_touch_1 : cX2_touch.data.toList.drop 24 = dktX2_touch_1 := dk_seg dksX2_touch_0 24 rfl rfl
theorem dX2_touch_0 : decode cX2_touch 0 = .ok (.aload_n 0, 1) := dk_42 (dk_at dksX2_touch_0 0 rfl rfl)
theorem dX2_touch_1 : decode cX2_touch 1 = .ok (.getfield 3, 3) := dk_180 0 3 (dk_at dksX2_touch_0 1 rfl rfl)
theorem dX2_touch_4 : decode cX2_touch 4 = .ok (.iconst (-1), 1) := dk_2 (dk_at dksX2_touch_0 4 rfl rfl)
theorem dX2_touch_5 : decode cX2_touch 5 = .ok (.putfield 133, 3) := dk_181 0 133 (dk_at dksX2_touch_0 5 rfl rfl)
theorem dX2_touch_8 : decode cX2_touch 8 = .ok (.aload_n 0, 1) := dk_42 (dk_at dksX2_touch_0 8 rfl rfl)
theorem dX2_touch_9 : decode cX2_touch 9 = .ok (.astore_n 1, 1) := dk_76 (dk_at dksX2_touch_0 9 rfl rfl)
theorem dX2_touch_10 : decode cX2_touch 10 = .ok (.aload_n 1, 1) := dk_43 (dk_at dksX2_touch_0 10 rfl rfl)
theorem dX2_touch_11 : decode cX2_touch 11 = .ok (.ifnull 16, 3) := dk_198 0 16 (dk_at dksX2_touch_0 11 rfl rfl)
theorem dX2_touch_14 : decode cX2_touch 14 = .ok (.aload_n 1, 1) := dk_43 (dk_at dksX2_touch_0 14 rfl rfl)
theorem dX2_touch_15 : decode cX2_touch 15 = .ok (.iconst (-1), 1) := dk_2 (dk_at dksX2_touch_0 15 rfl rfl)
theorem dX2_touch_16 : decode cX2_touch 16 = .ok (.putfield 70, 3) := dk_181 0 70 (dk_at dksX2_touch_0 16 rfl rfl)
theorem dX2_touch_19 : decode cX2_touch 19 = .ok (.aload_n 1, 1) := dk_43 (dk_at dksX2_touch_0 19 rfl rfl)
theorem dX2_touch_20 : decode cX2_touch 20 = .ok (.getfield 73, 3) := dk_180 0 73 (dk_at dksX2_touch_0 20 rfl rfl)
theorem dX2_touch_23 : decode cX2_touch 23 = .ok (.astore_n 1, 1) := dk_76 (dk_at dksX2_touch_0 23 rfl rfl)
theorem dX2_touch_24 : decode cX2_touch 24 = .ok (.goto (-14), 3) := dk_167 255 242 (dk_at dksX2_touch_1 0 rfl rfl)
theorem dX2_touch_27 : decode cX2_touch 27 = .ok (.return_, 1) := dk_177 (dk_at dksX2_touch_1 3 rfl rfl)
abbrev cX2_x : ByteArray := prog_2_method_20_code
def yX2_x : MethodName := ⟨RX2, "x", "()I"⟩
def dkwX2_x_2 : List UInt8 := [182, 0, 148, 153, 0, 10, 42, 180, 0, 143, 167, 0, 4, 3, 96, 172]
abbrev dktX2_x_2 : List UInt8 := dkwX2_x_2 ++ []
def dkwX2_x_1 : List UInt8 := [180, 0, 143, 96, 167, 0, 34, 42, 180, 0, 73, 182, 0, 140, 42, 180, 0, 66, 180, 0, 146, 96, 42]
abbrev dktX2_x_1 : List UInt8 := dkwX2_x_1 ++ dktX2_x_2
def dkwX2_x_0 : List UInt8 := [42, 182, 0, 83, 153, 0, 5, 3, 172, 42, 182, 0, 90, 153, 0, 18, 42, 182, 0, 136, 182, 0, 140, 42]
abbrev dktX2_x_0 : List UInt8 := dkwX2_x_0 ++ dktX2_x_1
theorem dksX2_x_0 : cX2_x.data.toList.drop 0 = dktX2_x_0 := by decide +kernel
theorem dksX2_x_1 : cX2_x.data.toList.drop 24 = dktX2_x_1 := dk_seg dksX2_x_0 24 rfl rfl
theorem dksX2_x_2 : cX2_x.data.toList.drop 47 = dktX2_x_2 := dk_seg dksX2_x_1 23 rfl rfl
theorem dX2_x_0 : decode cX2_x 0 = .ok (.aload_n 0, 1) := dk_42 (dk_at dksX2_x_0 0 rfl rfl)
theorem dX2_x_1 : decode cX2_x 1 = .ok (.invokevirtual 83, 3) := dk_182 0 83 (dk_at dksX2_x_0 1 rfl rfl)
theorem dX2_x_4 : decode cX2_x 4 = .ok (.ifCond .eq 5, 3) := dk_153 0 5 (dk_at dksX2_x_0 4 rfl rfl)
theorem dX2_x_7 : decode cX2_x 7 = .ok (.iconst 0, 1) := dk_3 (dk_at dksX2_x_0 7 rfl rfl)
theorem dX2_x_8 : decode cX2_x 8 = .ok (.ireturn, 1) := dk_172 (dk_at dksX2_x_0 8 rfl rfl)
theorem dX2_x_9 : decode cX2_x 9 = .ok (.aload_n 0, 1) := dk_42 (dk_at dksX2_x_0 9 rfl rfl)
theorem dX2_x_10 : decode cX2_x 10 = .ok (.invokevirtual 90, 3) := dk_182 0 90 (dk_at dksX2_x_0 10 rfl rfl)
theorem dX2_x_13 : decode cX2_x 13 = .ok (.ifCond .eq 18, 3) := dk_153 0 18 (dk_at dksX2_x_0 13 rfl rfl)
theorem dX2_x_16 : decode cX2_x 16 = .ok (.aload_n 0, 1) := dk_42 (dk_at dksX2_x_0 16 rfl rfl)
theorem dX2_x_17 : decode cX2_x 17 = .ok (.invokevirtual 136, 3) := dk_182 0 136 (dk_at dksX2_x_0 17 rfl rfl)
theorem dX2_x_20 : decode cX2_x 20 = .ok (.invokevirtual 140, 3) := dk_182 0 140 (dk_at dksX2_x_0 20 rfl rfl)
theorem dX2_x_23 : decode cX2_x 23 = .ok (.aload_n 0, 1) := dk_42 (dk_at dksX2_x_0 23 rfl rfl)
theorem dX2_x_24 : decode cX2_x 24 = .ok (.getfield 143, 3) := dk_180 0 143 (dk_at dksX2_x_1 0 rfl rfl)
theorem dX2_x_27 : decode cX2_x 27 = .ok (.iadd, 1) := dk_96 (dk_at dksX2_x_1 3 rfl rfl)
theorem dX2_x_28 : decode cX2_x 28 = .ok (.goto 34, 3) := dk_167 0 34 (dk_at dksX2_x_1 4 rfl rfl)
theorem dX2_x_31 : decode cX2_x 31 = .ok (.aload_n 0, 1) := dk_42 (dk_at dksX2_x_1 7 rfl rfl)
theorem dX2_x_32 : decode cX2_x 32 = .ok (.getfield 73, 3) := dk_180 0 73 (dk_at dksX2_x_1 8 rfl rfl)
theorem dX2_x_35 : decode cX2_x 35 = .ok (.invokevirtual 140, 3) := dk_182 0 140 (dk_at dksX2_x_1 11 rfl rfl)
theorem dX2_x_38 : decode cX2_x 38 = .ok (.aload_n 0, 1) := dk_42 (dk_at dksX2_x_1 14 rfl rfl)
theorem dX2_x_39 : decode cX2_x 39 = .ok (.getfield 66, 3) := dk_180 0 66 (dk_at dksX2_x_1 15 rfl rfl)
theorem dX2_x_42 : decode cX2_x 42 = .ok (.getfield 146, 3) := dk_180 0 146 (dk_at dksX2_x_1 18 rfl rfl)
theorem dX2_x_45 : decode cX2_x 45 = .ok (.iadd, 1) := dk_96 (dk_at dksX2_x_1 21 rfl rfl)
theorem dX2_x_46 : decode cX2_x 46 = .ok (.aload_n 0, 1) := dk_42 (dk_at dksX2_x_1 22 rfl rfl)
theorem dX2_x_47 : decode cX2_x 47 = .ok (.invokevirtual 148, 3) := dk_182 0 148 (dk_at dksX2_x_2 0 rfl rfl)
theorem dX2_x_50 : decode cX2_x 50 = .ok (.ifCond .eq 10, 3) := dk_153 0 10 (dk_at dksX2_x_2 3 rfl rfl)
theorem dX2_x_53 : decode cX2_x 53 = .ok (.aload_n 0, 1) := dk_42 (dk_at dksX2_x_2 6 rfl rfl)
theorem dX2_x_54 : decode cX2_x 54 = .ok (.getfield 143, 3) := dk_180 0 143 (dk_at dksX2_x_2 7 rfl rfl)
theorem dX2_x_57 : decode cX2_x 57 = .ok (.goto 4, 3) := dk_167 0 4 (dk_at dksX2_x_2 10 rfl rfl)
theorem dX2_x_60 : decode cX2_x 60 = .ok (.iconst 0, 1) := dk_3 (dk_at dksX2_x_2 13 rfl rfl)
theorem dX2_x_61 : decode cX2_x 61 = .ok (.iadd, 1) := dk_96 (dk_at dksX2_x_2 14 rfl rfl)
theorem dX2_x_62 : decode cX2_x 62 = .ok (.ireturn, 1) := dk_172 (dk_at dksX2_x_2 15 rfl rfl)
abbrev cX2_isShifted : ByteArray := prog_2_method_19_code
def yX2_isShifted : MethodName := ⟨RX2, "isShifted", "()Z"⟩
def dkwX2_isShifted_0 : List UInt8 := [42, 182, 0, 83, 154, 0, 16, 42, 180, 0, 54, 16, 114, 160, 0, 7, 4, 167, 0, 4, 3, 172]
abbrev dktX2_isShifted_0 : List UInt8 := dkwX2_isShifted_0 ++ []
theorem dksX2_isShifted_0 : cX2_isShifted.data.toList.drop 0 = dktX2_isShifted_0 := by decide +kernel
theorem dX2_isShifted_0 : decode cX2_isShifted 0 = .ok (.aload_n 0, 1) := dk_42 (dk_at dksX2_isShifted_0 0 rfl rfl)
theorem dX2_isShifted_1 : decode cX2_isShifted 1 = .ok (.invokevirtual 83, 3) := dk_182 0 83 (dk_at dksX2_isShifted_0 1 rfl rfl)
theorem dX2_isShifted_4 : decode cX2_isShifted 4 = .ok (.ifCond .ne 16, 3) := dk_154 0 16 (dk_at dksX2_isShifted_0 4 rfl rfl)
theorem dX2_isShifted_7 : decode cX2_isShifted 7 = .ok (.aload_n 0, 1) := dk_42 (dk_at dksX2_isShifted_0 7 rfl rfl)
theorem dX2_isShifted_8 : decode cX2_isShifted 8 = .ok (.getfield 54, 3) := dk_180 0 54 (dk_at dksX2_isShifted_0 8 rfl rfl)
theorem dX2_isShifted_11 : decode cX2_isShifted 11 = .ok (.bipush 114, 2) := dk_16 114 (dk_at dksX2_isShifted_0 11 rfl rfl)
theorem dX2_isShifted_13 : decode cX2_isShifted 13 = .ok (.if_icmp .ne 7, 3) := dk_160 0 7 (dk_at dksX2_isShifted_0 13 rfl rfl)
theorem dX2_isShifted_16 : decode cX2_isShifted 16 = .ok (.iconst 1, 1) := dk_4 (dk_at dksX2_isShifted_0 16 rfl rfl)
theorem dX2_isShifted_17 : decode cX2_isShifted 17 = .ok (.goto 4, 3) := dk_167 0 4 (dk_at dksX2_isShifted_0 17 rfl rfl)
theorem dX2_isShifted_20 : decode cX2_isShifted 20 = .ok (.iconst 0, 1) := dk_3 (dk_at dksX2_isShifted_0 20 rfl rfl)
theorem dX2_isShifted_21 : decode cX2_isShifted 21 = .ok (.ireturn, 1) := dk_172 (dk_at dksX2_isShifted_0 21 rfl rfl)
abbrev cX2_y : ByteArray := prog_2_method_21_code
def yX2_y : MethodName := ⟨RX2, "y", "()I"⟩
def dkwX2_y_2 : List UInt8 := [182, 0, 148, 153, 0, 10, 42, 180, 0, 154, 167, 0, 4, 3, 96, 172]
abbrev dktX2_y_2 : List UInt8 := dkwX2_y_2 ++ []
def dkwX2_y_1 : List UInt8 := [180, 0, 154, 96, 167, 0, 34, 42, 180, 0, 73, 182, 0, 151, 42, 180, 0, 66, 180, 0, 157, 96, 42]
abbrev dktX2_y_1 : List UInt8 := dkwX2_y_1 ++ dktX2_y_2
def dkwX2_y_0 : List UInt8 := [42, 182, 0, 83, 153, 0, 5, 3, 172, 42, 182, 0, 90, 153, 0, 18, 42, 182, 0, 136, 182, 0, 151, 42]
abbrev dktX2_y_0 : List UInt8 := dkwX2_y_0 ++ dktX2_y_1
theorem dksX2_y_0 : cX2_y.data.toList.drop 0 = dktX2_y_0 := by decide +kernel
theorem dksX2_y_1 : cX2_y.data.toList.drop 24 = dktX2_y_1 := dk_seg dksX2_y_0 24 rfl rfl
theorem dksX2_y_2 : cX2_y.data.toList.drop 47 = dktX2_y_2 := dk_seg dksX2_y_1 23 rfl rfl
theorem dX2_y_0 : decode cX2_y 0 = .ok (.aload_n 0, 1) := dk_42 (dk_at dksX2_y_0 0 rfl rfl)
theorem dX2_y_1 : decode cX2_y 1 = .ok (.invokevirtual 83, 3) := dk_182 0 83 (dk_at dksX2_y_0 1 rfl rfl)
theorem dX2_y_4 : decode cX2_y 4 = .ok (.ifCond .eq 5, 3) := dk_153 0 5 (dk_at dksX2_y_0 4 rfl rfl)
theorem dX2_y_7 : decode cX2_y 7 = .ok (.iconst 0, 1) := dk_3 (dk_at dksX2_y_0 7 rfl rfl)
theorem dX2_y_8 : decode cX2_y 8 = .ok (.ireturn, 1) := dk_172 (dk_at dksX2_y_0 8 rfl rfl)
theorem dX2_y_9 : decode cX2_y 9 = .ok (.aload_n 0, 1) := dk_42 (dk_at dksX2_y_0 9 rfl rfl)
theorem dX2_y_10 : decode cX2_y 10 = .ok (.invokevirtual 90, 3) := dk_182 0 90 (dk_at dksX2_y_0 10 rfl rfl)
theorem dX2_y_13 : decode cX2_y 13 = .ok (.ifCond .eq 18, 3) := dk_153 0 18 (dk_at dksX2_y_0 13 rfl rfl)
theorem dX2_y_16 : decode cX2_y 16 = .ok (.aload_n 0, 1) := dk_42 (dk_at dksX2_y_0 16 rfl rfl)
theorem dX2_y_17 : decode cX2_y 17 = .ok (.invokevirtual 136, 3) := dk_182 0 136 (dk_at dksX2_y_0 17 rfl rfl)
theorem dX2_y_20 : decode cX2_y 20 = .ok (.invokevirtual 151, 3) := dk_182 0 151 (dk_at dksX2_y_0 20 rfl rfl)
theorem dX2_y_23 : decode cX2_y 23 = .ok (.aload_n 0, 1) := dk_42 (dk_at dksX2_y_0 23 rfl rfl)
theorem dX2_y_24 : decode cX2_y 24 = .ok (.getfield 154, 3) := dk_180 0 154 (dk_at dksX2_y_1 0 rfl rfl)
theorem dX2_y_27 : decode cX2_y 27 = .ok (.iadd, 1) := dk_96 (dk_at dksX2_y_1 3 rfl rfl)
theorem dX2_y_28 : decode cX2_y 28 = .ok (.goto 34, 3) := dk_167 0 34 (dk_at dksX2_y_1 4 rfl rfl)
theorem dX2_y_31 : decode cX2_y 31 = .ok (.aload_n 0, 1) := dk_42 (dk_at dksX2_y_1 7 rfl rfl)
theorem dX2_y_32 : decode cX2_y 32 = .ok (.getfield 73, 3) := dk_180 0 73 (dk_at dksX2_y_1 8 rfl rfl)
theorem dX2_y_35 : decode cX2_y 35 = .ok (.invokevirtual 151, 3) := dk_182 0 151 (dk_at dksX2_y_1 11 rfl rfl)
theorem dX2_y_38 : decode cX2_y 38 = .ok (.aload_n 0, 1) := dk_42 (dk_at dksX2_y_1 14 rfl rfl)
theorem dX2_y_39 : decode cX2_y 39 = .ok (.getfield 66, 3) := dk_180 0 66 (dk_at dksX2_y_1 15 rfl rfl)
theorem dX2_y_42 : decode cX2_y 42 = .ok (.getfield 157, 3) := dk_180 0 157 (dk_at dksX2_y_1 18 rfl rfl)
theorem dX2_y_45 : decode cX2_y 45 = .ok (.iadd, 1) := dk_96 (dk_at dksX2_y_1 21 rfl rfl)
theorem dX2_y_46 : decode cX2_y 46 = .ok (.aload_n 0, 1) := dk_42 (dk_at dksX2_y_1 22 rfl rfl)
theorem dX2_y_47 : decode cX2_y 47 = .ok (.invokevirtual 148, 3) := dk_182 0 148 (dk_at dksX2_y_2 0 rfl rfl)
theorem dX2_y_50 : decode cX2_y 50 = .ok (.ifCond .eq 10, 3) := dk_153 0 10 (dk_at dksX2_y_2 3 rfl rfl)
theorem dX2_y_53 : decode cX2_y 53 = .ok (.aload_n 0, 1) := dk_42 (dk_at dksX2_y_2 6 rfl rfl)
theorem dX2_y_54 : decode cX2_y 54 = .ok (.getfield 154, 3) := dk_180 0 154 (dk_at dksX2_y_2 7 rfl rfl)
theorem dX2_y_57 : decode cX2_y 57 = .ok (.goto 4, 3) := dk_167 0 4 (dk_at dksX2_y_2 10 rfl rfl)
theorem dX2_y_60 : decode cX2_y 60 = .ok (.iconst 0, 1) := dk_3 (dk_at dksX2_y_2 13 rfl rfl)
theorem dX2_y_61 : decode cX2_y 61 = .ok (.iadd, 1) := dk_96 (dk_at dksX2_y_2 14 rfl rfl)
theorem dX2_y_62 : decode cX2_y 62 = .ok (.ireturn, 1) := dk_172 (dk_at dksX2_y_2 15 rfl rfl)
theorem q57 : (Jvm.Cond.initialized "ColumnarPress$Box") ∈ lw_all := lw_g (lw_at lw_m1 5 rfl) rfl
theorem q152 : (Jvm.Cond.instantiable "ColumnarPress$Box" (27 : Nat)) ∈ lw_all := lw_g (lw_at lw_m1 100 rfl) rfl
theorem q154 : (Jvm.Cond.instanceMethod ({ cls := "ColumnarPress$Box", name := "<init>", desc := "(LColumnarPress;LColumnarPress$Box;C)V" } : Jvm.MethodName)) ∈ lw_all := lw_g (lw_at lw_m1 102 rfl) rfl
theorem q155 : (Jvm.Cond.code ({ cls := "ColumnarPress$Box", name := "<init>", desc := "(LColumnarPress;LColumnarPress$Box;C)V" } : Jvm.MethodName) prog_2_method_1_code (4 : Nat) (Option.none : Option Jvm.ClassFile.FieldType)) ∈ lw_all := lw_g (lw_at lw_m1 103 rfl) rfl
theorem q156 : (Jvm.Cond.methodLink "ColumnarPress$Box" (9 : Nat) ({ cls := "java/lang/Object", name := "<init>", desc := "()V" } : Jvm.MethodName)) ∈ lw_all := lw_g (lw_at lw_m1 104 rfl) rfl
theorem q157 : (Jvm.Cond.interfaceEntry "ColumnarPress$Box" (19 : Nat)) ∈ lw_tbl := lw_at lw_m1 105 rfl
theorem q158 : (Jvm.Cond.methodLink "ColumnarPress$Box" (19 : Nat) ({ cls := "java/util/List", name := "size", desc := "()I" } : Jvm.MethodName)) ∈ lw_all := lw_g (lw_at lw_m1 106 rfl) rfl
theorem q178 : (Jvm.Cond.classLink "ColumnarPress$Box" (29 : Nat) "java/util/ArrayList") ∈ lw_all := lw_g (lw_at lw_m1 126 rfl) rfl
theorem q179 : (Jvm.Cond.methodLink "ColumnarPress$Box" (31 : Nat) ({ cls := "java/util/ArrayList", name := "<init>", desc := "()V" } : Jvm.MethodName)) ∈ lw_all := lw_g (lw_at lw_m1 127 rfl) rfl
theorem q180 : (Jvm.Cond.classLink "ColumnarPress$Box" (63 : Nat) "ColumnarPress$Placed") ∈ lw_all := lw_g (lw_at lw_m1 128 rfl) rfl
theorem q182 : (Jvm.Cond.methodLinkNest "ColumnarPress$Box" (65 : Nat) ({ cls := "ColumnarPress$Placed", name := "<init>", desc := "()V" } : Jvm.MethodName) "ColumnarPress") ∈ lw_tbl := lw_at lw_m1 130 rfl
theorem q191 : (Jvm.Cond.fieldLinkNest "ColumnarPress$Box" (146 : Nat) "ColumnarPress$Placed" "x" "I" "ColumnarPress") ∈ lw_tbl := lw_at lw_m1 139 rfl
theorem q196 : (Jvm.Cond.fieldLinkNest "ColumnarPress$Box" (157 : Nat) "ColumnarPress$Placed" "y" "I" "ColumnarPress") ∈ lw_tbl := lw_at lw_m1 144 rfl
theorem q200 : (Jvm.Cond.fieldLinkNest "ColumnarPress$Box" (129 : Nat) "ColumnarPress$Placed" "width" "I" "ColumnarPress") ∈ lw_tbl := lw_at lw_m1 148 rfl
theorem q225 : (Jvm.Cond.fieldLink "ColumnarPress$Box" (25 : Nat) "ColumnarPress$Box" "number" "I") ∈ lw_all := lw_g (lw_at lw_m1 173 rfl) rfl
theorem q228 : (Jvm.Cond.fieldLink "ColumnarPress$Box" (73 : Nat) "ColumnarPress$Box" "parent" "LColumnarPress$Box;") ∈ lw_all := lw_g (lw_at lw_m1 176 rfl) rfl
theorem q230 : (Jvm.Cond.fieldLink "ColumnarPress$Box" (77 : Nat) "ColumnarPress$Box" "kind" "C") ∈ lw_all := lw_g (lw_at lw_m1 178 rfl) rfl
theorem q233 : (Jvm.Cond.fieldLink "ColumnarPress$Box" (80 : Nat) "ColumnarPress$Box" "deep" "I") ∈ lw_all := lw_g (lw_at lw_m1 181 rfl) rfl
theorem q235 : (Jvm.Cond.fieldLink "ColumnarPress$Box" (32 : Nat) "ColumnarPress$Box" "children" "Ljava/util/List;") ∈ lw_all := lw_g (lw_at lw_m1 183 rfl) rfl
theorem q239 : (Jvm.Cond.fieldLink "ColumnarPress$Box" (35 : Nat) "ColumnarPress$Box" "words" "Ljava/util/List;") ∈ lw_all := lw_g (lw_at lw_m1 187 rfl) rfl
theorem q242 : (Jvm.Cond.fieldLink "ColumnarPress$Box" (38 : Nat) "ColumnarPress$Box" "width" "I") ∈ lw_all := lw_g (lw_at lw_m1 190 rfl) rfl
theorem q244 : (Jvm.Cond.fieldLink "ColumnarPress$Box" (41 : Nat) "ColumnarPress$Box" "height" "I") ∈ lw_all := lw_g (lw_at lw_m1 192 rfl) rfl
theorem q248 : (Jvm.Cond.fieldLink "ColumnarPress$Box" (105 : Nat) "ColumnarPress$Box" "top" "I") ∈ lw_all := lw_g (lw_at lw_m1 196 rfl) rfl
theorem q250 : (Jvm.Cond.fieldLink "ColumnarPress$Box" (114 : Nat) "ColumnarPress$Box" "bottom" "I") ∈ lw_all := lw_g (lw_at lw_m1 198 rfl) rfl
theorem q255 : (Jvm.Cond.fieldLink "ColumnarPress$Box" (117 : Nat) "ColumnarPress$Box" "left" "I") ∈ lw_all := lw_g (lw_at lw_m1 203 rfl) rfl
theorem q257 : (Jvm.Cond.fieldLink "ColumnarPress$Box" (120 : Nat) "ColumnarPress$Box" "right" "I") ∈ lw_all := lw_g (lw_at lw_m1 205 rfl) rfl
theorem q261 : (Jvm.Cond.fieldLink "ColumnarPress$Box" (130 : Nat) "ColumnarPress$Box" "padding" "I") ∈ lw_all := lw_g (lw_at lw_m1 209 rfl) rfl
theorem q264 : (Jvm.Cond.fieldLink "ColumnarPress$Box" (44 : Nat) "ColumnarPress$Box" "shrink" "I") ∈ lw_all := lw_g (lw_at lw_m1 212 rfl) rfl
theorem q267 : (Jvm.Cond.fieldLink "ColumnarPress$Box" (47 : Nat) "ColumnarPress$Box" "columns" "I") ∈ lw_all := lw_g (lw_at lw_m1 215 rfl) rfl
theorem q269 : (Jvm.Cond.fieldLink "ColumnarPress$Box" (50 : Nat) "ColumnarPress$Box" "side" "C") ∈ lw_all := lw_g (lw_at lw_m1 217 rfl) rfl
theorem q272 : (Jvm.Cond.fieldLink "ColumnarPress$Box" (54 : Nat) "ColumnarPress$Box" "place" "C") ∈ lw_all := lw_g (lw_at lw_m1 220 rfl) rfl
theorem q276 : (Jvm.Cond.fieldLink "ColumnarPress$Box" (143 : Nat) "ColumnarPress$Box" "offsetX" "I") ∈ lw_all := lw_g (lw_at lw_m1 224 rfl) rfl
theorem q278 : (Jvm.Cond.fieldLink "ColumnarPress$Box" (154 : Nat) "ColumnarPress$Box" "offsetY" "I") ∈ lw_all := lw_g (lw_at lw_m1 226 rfl) rfl
theorem q282 : (Jvm.Cond.fieldLink "ColumnarPress$Box" (57 : Nat) "ColumnarPress$Box" "breaks" "C") ∈ lw_all := lw_g (lw_at lw_m1 230 rfl) rfl
theorem q285 : (Jvm.Cond.fieldLink "ColumnarPress$Box" (60 : Nat) "ColumnarPress$Box" "alignment" "C") ∈ lw_all := lw_g (lw_at lw_m1 233 rfl) rfl
theorem q288 : (Jvm.Cond.fieldLink "ColumnarPress$Box" (66 : Nat) "ColumnarPress$Box" "placed" "LColumnarPress$Placed;") ∈ lw_all := lw_g (lw_at lw_m1 236 rfl) rfl
theorem q293 : (Jvm.Cond.fieldLink "ColumnarPress$Box" (70 : Nat) "ColumnarPress$Box" "keptWidth" "I") ∈ lw_all := lw_g (lw_at lw_m2 1 rfl) rfl
theorem q295 : (Jvm.Cond.fieldLink "ColumnarPress$Box" (3 : Nat) "ColumnarPress$Box" "this$0" "LColumnarPress;") ∈ lw_all := lw_g (lw_at lw_m2 3 rfl) rfl
theorem q296 : (Jvm.Cond.laysFinal "ColumnarPress$Box" "ColumnarPress$Box" "number" "I") ∈ lw_all := lw_g (lw_at lw_m2 4 rfl) rfl
theorem q297 : (Jvm.Cond.soleField "ColumnarPress$Box" "number") ∈ lw_all := lw_g (lw_at lw_m2 5 rfl) rfl
theorem q298 : (Jvm.Cond.laysFinal "ColumnarPress$Box" "ColumnarPress$Box" "parent" "LColumnarPress$Box;") ∈ lw_all := lw_g (lw_at lw_m2 6 rfl) rfl
theorem q299 : (Jvm.Cond.soleField "ColumnarPress$Box" "parent") ∈ lw_all := lw_g (lw_at lw_m2 7 rfl) rfl
theorem q300 : (Jvm.Cond.laysFinal "ColumnarPress$Box" "ColumnarPress$Box" "kind" "C") ∈ lw_all := lw_g (lw_at lw_m2 8 rfl) rfl
theorem q301 : (Jvm.Cond.soleField "ColumnarPress$Box" "kind") ∈ lw_all := lw_g (lw_at lw_m2 9 rfl) rfl
theorem q302 : (Jvm.Cond.laysFinal "ColumnarPress$Box" "ColumnarPress$Box" "deep" "I") ∈ lw_all := lw_g (lw_at lw_m2 10 rfl) rfl
theorem q303 : (Jvm.Cond.soleField "ColumnarPress$Box" "deep") ∈ lw_all := lw_g (lw_at lw_m2 11 rfl) rfl
theorem q304 : (Jvm.Cond.laysFinal "ColumnarPress$Box" "ColumnarPress$Box" "children" "Ljava/util/List;") ∈ lw_all := lw_g (lw_at lw_m2 12 rfl) rfl
theorem q305 : (Jvm.Cond.soleField "ColumnarPress$Box" "children") ∈ lw_all := lw_g (lw_at lw_m2 13 rfl) rfl
theorem q306 : (Jvm.Cond.laysFinal "ColumnarPress$Box" "ColumnarPress$Box" "words" "Ljava/util/List;") ∈ lw_all := lw_g (lw_at lw_m2 14 rfl) rfl
theorem q307 : (Jvm.Cond.soleField "ColumnarPress$Box" "words") ∈ lw_all := lw_g (lw_at lw_m2 15 rfl) rfl
theorem q308 : (Jvm.Cond.lays "ColumnarPress$Box" "ColumnarPress$Box" "width" "I") ∈ lw_all := lw_g (lw_at lw_m2 16 rfl) rfl
theorem q309 : (Jvm.Cond.soleField "ColumnarPress$Box" "width") ∈ lw_all := lw_g (lw_at lw_m2 17 rfl) rfl
theorem q310 : (Jvm.Cond.lays "ColumnarPress$Box" "ColumnarPress$Box" "height" "I") ∈ lw_all := lw_g (lw_at lw_m2 18 rfl) rfl
theorem q311 : (Jvm.Cond.soleField "ColumnarPress$Box" "height") ∈ lw_all := lw_g (lw_at lw_m2 19 rfl) rfl
theorem q312 : (Jvm.Cond.lays "ColumnarPress$Box" "ColumnarPress$Box" "top" "I") ∈ lw_all := lw_g (lw_at lw_m2 20 rfl) rfl
theorem q313 : (Jvm.Cond.soleField "ColumnarPress$Box" "top") ∈ lw_all := lw_g (lw_at lw_m2 21 rfl) rfl
theorem q314 : (Jvm.Cond.lays "ColumnarPress$Box" "ColumnarPress$Box" "bottom" "I") ∈ lw_all := lw_g (lw_at lw_m2 22 rfl) rfl
theorem q315 : (Jvm.Cond.soleField "ColumnarPress$Box" "bottom") ∈ lw_all := lw_g (lw_at lw_m2 23 rfl) rfl
theorem q316 : (Jvm.Cond.lays "ColumnarPress$Box" "ColumnarPress$Box" "left" "I") ∈ lw_all := lw_g (lw_at lw_m2 24 rfl) rfl
theorem q317 : (Jvm.Cond.soleField "ColumnarPress$Box" "left") ∈ lw_all := lw_g (lw_at lw_m2 25 rfl) rfl
theorem q318 : (Jvm.Cond.lays "ColumnarPress$Box" "ColumnarPress$Box" "right" "I") ∈ lw_all := lw_g (lw_at lw_m2 26 rfl) rfl
theorem q319 : (Jvm.Cond.soleField "ColumnarPress$Box" "right") ∈ lw_all := lw_g (lw_at lw_m2 27 rfl) rfl
theorem q320 : (Jvm.Cond.lays "ColumnarPress$Box" "ColumnarPress$Box" "padding" "I") ∈ lw_all := lw_g (lw_at lw_m2 28 rfl) rfl
theorem q321 : (Jvm.Cond.soleField "ColumnarPress$Box" "padding") ∈ lw_all := lw_g (lw_at lw_m2 29 rfl) rfl
theorem q322 : (Jvm.Cond.lays "ColumnarPress$Box" "ColumnarPress$Box" "grow" "I") ∈ lw_all := lw_g (lw_at lw_m2 30 rfl) rfl
theorem q323 : (Jvm.Cond.soleField "ColumnarPress$Box" "grow") ∈ lw_all := lw_g (lw_at lw_m2 31 rfl) rfl
theorem q324 : (Jvm.Cond.lays "ColumnarPress$Box" "ColumnarPress$Box" "shrink" "I") ∈ lw_all := lw_g (lw_at lw_m2 32 rfl) rfl
theorem q325 : (Jvm.Cond.soleField "ColumnarPress$Box" "shrink") ∈ lw_all := lw_g (lw_at lw_m2 33 rfl) rfl
theorem q326 : (Jvm.Cond.lays "ColumnarPress$Box" "ColumnarPress$Box" "columns" "I") ∈ lw_all := lw_g (lw_at lw_m2 34 rfl) rfl
theorem q327 : (Jvm.Cond.soleField "ColumnarPress$Box" "columns") ∈ lw_all := lw_g (lw_at lw_m2 35 rfl) rfl
theorem q328 : (Jvm.Cond.lays "ColumnarPress$Box" "ColumnarPress$Box" "side" "C") ∈ lw_all := lw_g (lw_at lw_m2 36 rfl) rfl
theorem q329 : (Jvm.Cond.soleField "ColumnarPress$Box" "side") ∈ lw_all := lw_g (lw_at lw_m2 37 rfl) rfl
theorem q330 : (Jvm.Cond.lays "ColumnarPress$Box" "ColumnarPress$Box" "place" "C") ∈ lw_all := lw_g (lw_at lw_m2 38 rfl) rfl
theorem q331 : (Jvm.Cond.soleField "ColumnarPress$Box" "place") ∈ lw_all := lw_g (lw_at lw_m2 39 rfl) rfl
theorem q332 : (Jvm.Cond.lays "ColumnarPress$Box" "ColumnarPress$Box" "offsetX" "I") ∈ lw_all := lw_g (lw_at lw_m2 40 rfl) rfl
theorem q333 : (Jvm.Cond.soleField "ColumnarPress$Box" "offsetX") ∈ lw_all := lw_g (lw_at lw_m2 41 rfl) rfl
theorem q334 : (Jvm.Cond.lays "ColumnarPress$Box" "ColumnarPress$Box" "offsetY" "I") ∈ lw_all := lw_g (lw_at lw_m2 42 rfl) rfl
theorem q335 : (Jvm.Cond.soleField "ColumnarPress$Box" "offsetY") ∈ lw_all := lw_g (lw_at lw_m2 43 rfl) rfl
theorem q336 : (Jvm.Cond.lays "ColumnarPress$Box" "ColumnarPress$Box" "depth" "I") ∈ lw_all := lw_g (lw_at lw_m2 44 rfl) rfl
theorem q337 : (Jvm.Cond.soleField "ColumnarPress$Box" "depth") ∈ lw_all := lw_g (lw_at lw_m2 45 rfl) rfl
theorem q338 : (Jvm.Cond.lays "ColumnarPress$Box" "ColumnarPress$Box" "clears" "Z") ∈ lw_all := lw_g (lw_at lw_m2 46 rfl) rfl
theorem q339 : (Jvm.Cond.soleField "ColumnarPress$Box" "clears") ∈ lw_all := lw_g (lw_at lw_m2 47 rfl) rfl
theorem q340 : (Jvm.Cond.lays "ColumnarPress$Box" "ColumnarPress$Box" "breaks" "C") ∈ lw_all := lw_g (lw_at lw_m2 48 rfl) rfl
theorem q341 : (Jvm.Cond.soleField "ColumnarPress$Box" "breaks") ∈ lw_all := lw_g (lw_at lw_m2 49 rfl) rfl
theorem q342 : (Jvm.Cond.lays "ColumnarPress$Box" "ColumnarPress$Box" "alignment" "C") ∈ lw_all := lw_g (lw_at lw_m2 50 rfl) rfl
theorem q343 : (Jvm.Cond.soleField "ColumnarPress$Box" "alignment") ∈ lw_all := lw_g (lw_at lw_m2 51 rfl) rfl
theorem q344 : (Jvm.Cond.lays "ColumnarPress$Box" "ColumnarPress$Box" "placed" "LColumnarPress$Placed;") ∈ lw_all := lw_g (lw_at lw_m2 52 rfl) rfl
theorem q345 : (Jvm.Cond.soleField "ColumnarPress$Box" "placed") ∈ lw_all := lw_g (lw_at lw_m2 53 rfl) rfl
theorem q346 : (Jvm.Cond.lays "ColumnarPress$Box" "ColumnarPress$Box" "keptWidth" "I") ∈ lw_all := lw_g (lw_at lw_m2 54 rfl) rfl
theorem q347 : (Jvm.Cond.soleField "ColumnarPress$Box" "keptWidth") ∈ lw_all := lw_g (lw_at lw_m2 55 rfl) rfl
theorem q348 : (Jvm.Cond.laysFinal "ColumnarPress$Box" "ColumnarPress$Box" "this$0" "LColumnarPress;") ∈ lw_all := lw_g (lw_at lw_m2 56 rfl) rfl
theorem q349 : (Jvm.Cond.soleField "ColumnarPress$Box" "this$0") ∈ lw_all := lw_g (lw_at lw_m2 57 rfl) rfl
theorem q350 : (Jvm.Cond.superclass "ColumnarPress$Box" "java/lang/Object") ∈ lw_all := lw_g (lw_at lw_m2 58 rfl) rfl
theorem q389 : (Jvm.Cond.selects "ColumnarPress$Box" ({ cls := "java/lang/Object", name := "getClass", desc := "()Ljava/lang/Class;" } : Jvm.MethodName) ({ cls := "java/lang/Object", name := "getClass", desc := "()Ljava/lang/Class;" } : Jvm.MethodName)) ∈ lw_all := lw_g (lw_at lw_m2 97 rfl) rfl
theorem q807 : (Jvm.Cond.fieldLinkNest "ColumnarPress$Box" (15 : Nat) "ColumnarPress" "boxes" "Ljava/util/List;" "ColumnarPress") ∈ lw_tbl := lw_at lw_m4 35 rfl
theorem q811 : (Jvm.Cond.fieldLinkNest "ColumnarPress$Box" (133 : Nat) "ColumnarPress" "laidWidth" "I" "ColumnarPress") ∈ lw_tbl := lw_at lw_m4 39 rfl
theorem q1125 : (Jvm.Cond.instanceMethod ({ cls := "ColumnarPress$Box", name := "isLifted", desc := "()Z" } : Jvm.MethodName)) ∈ lw_all := lw_g (lw_at lw_m5 113 rfl) rfl
theorem q1126 : (Jvm.Cond.selects "ColumnarPress$Box" ({ cls := "ColumnarPress$Box", name := "isLifted", desc := "()Z" } : Jvm.MethodName) ({ cls := "ColumnarPress$Box", name := "isLifted", desc := "()Z" } : Jvm.MethodName)) ∈ lw_all := lw_g (lw_at lw_m5 114 rfl) rfl
theorem q1127 : (Jvm.Cond.code ({ cls := "ColumnarPress$Box", name := "isLifted", desc := "()Z" } : Jvm.MethodName) prog_2_method_5_code (1 : Nat) (Option.some Jvm.ClassFile.FieldType.boolean)) ∈ lw_all := lw_g (lw_at lw_m5 115 rfl) rfl
theorem q1128 : (Jvm.Cond.methodLink "ColumnarPress$Box" (83 : Nat) ({ cls := "ColumnarPress$Box", name := "isRoot", desc := "()Z" } : Jvm.MethodName)) ∈ lw_all := lw_g (lw_at lw_m5 116 rfl) rfl
theorem q1129 : (Jvm.Cond.instanceMethod ({ cls := "ColumnarPress$Box", name := "isRoot", desc := "()Z" } : Jvm.MethodName)) ∈ lw_all := lw_g (lw_at lw_m5 117 rfl) rfl
theorem q1130 : (Jvm.Cond.selects "ColumnarPress$Box" ({ cls := "ColumnarPress$Box", name := "isRoot", desc := "()Z" } : Jvm.MethodName) ({ cls := "ColumnarPress$Box", name := "isRoot", desc := "()Z" } : Jvm.MethodName)) ∈ lw_all := lw_g (lw_at lw_m5 118 rfl) rfl
theorem q1131 : (Jvm.Cond.code ({ cls := "ColumnarPress$Box", name := "isRoot", desc := "()Z" } : Jvm.MethodName) prog_2_method_2_code (1 : Nat) (Option.some Jvm.ClassFile.FieldType.boolean)) ∈ lw_all := lw_g (lw_at lw_m5 119 rfl) rfl
theorem q1135 : (Jvm.Cond.instanceMethod ({ cls := "ColumnarPress$Box", name := "inner", desc := "()I" } : Jvm.MethodName)) ∈ lw_all := lw_g (lw_at lw_m5 123 rfl) rfl
theorem q1136 : (Jvm.Cond.selects "ColumnarPress$Box" ({ cls := "ColumnarPress$Box", name := "inner", desc := "()I" } : Jvm.MethodName) ({ cls := "ColumnarPress$Box", name := "inner", desc := "()I" } : Jvm.MethodName)) ∈ lw_all := lw_g (lw_at lw_m5 124 rfl) rfl
theorem q1137 : (Jvm.Cond.code ({ cls := "ColumnarPress$Box", name := "inner", desc := "()I" } : Jvm.MethodName) prog_2_method_16_code (1 : Nat) (Option.some Jvm.ClassFile.FieldType.int)) ∈ lw_all := lw_g (lw_at lw_m5 125 rfl) rfl
theorem q1138 : (Jvm.Cond.methodLink "ColumnarPress$Box" (108 : Nat) ({ cls := "java/lang/Math", name := "max", desc := "(II)I" } : Jvm.MethodName)) ∈ lw_all := lw_g (lw_at lw_m5 126 rfl) rfl
theorem q1143 : (Jvm.Cond.instanceMethod ({ cls := "ColumnarPress$Box", name := "told", desc := "()I" } : Jvm.MethodName)) ∈ lw_all := lw_g (lw_at lw_m5 131 rfl) rfl
theorem q1144 : (Jvm.Cond.selects "ColumnarPress$Box" ({ cls := "ColumnarPress$Box", name := "told", desc := "()I" } : Jvm.MethodName) ({ cls := "ColumnarPress$Box", name := "told", desc := "()I" } : Jvm.MethodName)) ∈ lw_all := lw_g (lw_at lw_m5 132 rfl) rfl
theorem q1145 : (Jvm.Cond.code ({ cls := "ColumnarPress$Box", name := "told", desc := "()I" } : Jvm.MethodName) prog_2_method_13_code (1 : Nat) (Option.some Jvm.ClassFile.FieldType.int)) ∈ lw_all := lw_g (lw_at lw_m5 133 rfl) rfl
theorem q1147 : (Jvm.Cond.instanceMethod ({ cls := "ColumnarPress$Box", name := "isText", desc := "()Z" } : Jvm.MethodName)) ∈ lw_all := lw_g (lw_at lw_m5 135 rfl) rfl
theorem q1148 : (Jvm.Cond.selects "ColumnarPress$Box" ({ cls := "ColumnarPress$Box", name := "isText", desc := "()Z" } : Jvm.MethodName) ({ cls := "ColumnarPress$Box", name := "isText", desc := "()Z" } : Jvm.MethodName)) ∈ lw_all := lw_g (lw_at lw_m5 136 rfl) rfl
theorem q1149 : (Jvm.Cond.code ({ cls := "ColumnarPress$Box", name := "isText", desc := "()Z" } : Jvm.MethodName) prog_2_method_3_code (1 : Nat) (Option.some Jvm.ClassFile.FieldType.boolean)) ∈ lw_all := lw_g (lw_at lw_m5 137 rfl) rfl
theorem q1164 : (Jvm.Cond.instanceMethod ({ cls := "ColumnarPress$Box", name := "sides", desc := "()I" } : Jvm.MethodName)) ∈ lw_all := lw_g (lw_at lw_m5 152 rfl) rfl
theorem q1165 : (Jvm.Cond.selects "ColumnarPress$Box" ({ cls := "ColumnarPress$Box", name := "sides", desc := "()I" } : Jvm.MethodName) ({ cls := "ColumnarPress$Box", name := "sides", desc := "()I" } : Jvm.MethodName)) ∈ lw_all := lw_g (lw_at lw_m5 153 rfl) rfl
theorem q1166 : (Jvm.Cond.code ({ cls := "ColumnarPress$Box", name := "sides", desc := "()I" } : Jvm.MethodName) prog_2_method_14_code (1 : Nat) (Option.some Jvm.ClassFile.FieldType.int)) ∈ lw_all := lw_g (lw_at lw_m5 154 rfl) rfl
theorem q1206 : (Jvm.Cond.instanceMethod ({ cls := "ColumnarPress$Box", name := "upper", desc := "()I" } : Jvm.MethodName)) ∈ lw_all := lw_g (lw_at lw_m5 194 rfl) rfl
theorem q1207 : (Jvm.Cond.selects "ColumnarPress$Box" ({ cls := "ColumnarPress$Box", name := "upper", desc := "()I" } : Jvm.MethodName) ({ cls := "ColumnarPress$Box", name := "upper", desc := "()I" } : Jvm.MethodName)) ∈ lw_all := lw_g (lw_at lw_m5 195 rfl) rfl
theorem q1208 : (Jvm.Cond.code ({ cls := "ColumnarPress$Box", name := "upper", desc := "()I" } : Jvm.MethodName) prog_2_method_11_code (1 : Nat) (Option.some Jvm.ClassFile.FieldType.int)) ∈ lw_all := lw_g (lw_at lw_m5 196 rfl) rfl
theorem q1209 : (Jvm.Cond.methodLink "ColumnarPress$Box" (102 : Nat) ({ cls := "ColumnarPress$Box", name := "isApart", desc := "()Z" } : Jvm.MethodName)) ∈ lw_all := lw_g (lw_at lw_m5 197 rfl) rfl
theorem q1210 : (Jvm.Cond.privateMethod ({ cls := "ColumnarPress$Box", name := "isApart", desc := "()Z" } : Jvm.MethodName)) ∈ lw_tbl := lw_at lw_m5 198 rfl
theorem q1211 : (Jvm.Cond.instanceMethod ({ cls := "ColumnarPress$Box", name := "isApart", desc := "()Z" } : Jvm.MethodName)) ∈ lw_all := lw_g (lw_at lw_m5 199 rfl) rfl
theorem q1212 : (Jvm.Cond.code ({ cls := "ColumnarPress$Box", name := "isApart", desc := "()Z" } : Jvm.MethodName) prog_2_method_10_code (1 : Nat) (Option.some Jvm.ClassFile.FieldType.boolean)) ∈ lw_all := lw_g (lw_at lw_m5 200 rfl) rfl
theorem q1213 : (Jvm.Cond.methodLink "ColumnarPress$Box" (99 : Nat) ({ cls := "ColumnarPress$Box", name := "isInFlow", desc := "()Z" } : Jvm.MethodName)) ∈ lw_all := lw_g (lw_at lw_m5 201 rfl) rfl
theorem q1214 : (Jvm.Cond.instanceMethod ({ cls := "ColumnarPress$Box", name := "isInFlow", desc := "()Z" } : Jvm.MethodName)) ∈ lw_all := lw_g (lw_at lw_m5 202 rfl) rfl
theorem q1215 : (Jvm.Cond.selects "ColumnarPress$Box" ({ cls := "ColumnarPress$Box", name := "isInFlow", desc := "()Z" } : Jvm.MethodName) ({ cls := "ColumnarPress$Box", name := "isInFlow", desc := "()Z" } : Jvm.MethodName)) ∈ lw_all := lw_g (lw_at lw_m5 203 rfl) rfl
theorem q1216 : (Jvm.Cond.code ({ cls := "ColumnarPress$Box", name := "isInFlow", desc := "()Z" } : Jvm.MethodName) prog_2_method_8_code (1 : Nat) (Option.some Jvm.ClassFile.FieldType.boolean)) ∈ lw_all := lw_g (lw_at lw_m5 204 rfl) rfl
theorem q1217 : (Jvm.Cond.methodLink "ColumnarPress$Box" (90 : Nat) ({ cls := "ColumnarPress$Box", name := "isLifted", desc := "()Z" } : Jvm.MethodName)) ∈ lw_all := lw_g (lw_at lw_m5 205 rfl) rfl
theorem q1218 : (Jvm.Cond.methodLink "ColumnarPress$Box" (93 : Nat) ({ cls := "ColumnarPress$Box", name := "isItem", desc := "()Z" } : Jvm.MethodName)) ∈ lw_all := lw_g (lw_at lw_m5 206 rfl) rfl
theorem q1219 : (Jvm.Cond.instanceMethod ({ cls := "ColumnarPress$Box", name := "isItem", desc := "()Z" } : Jvm.MethodName)) ∈ lw_all := lw_g (lw_at lw_m5 207 rfl) rfl
theorem q1220 : (Jvm.Cond.selects "ColumnarPress$Box" ({ cls := "ColumnarPress$Box", name := "isItem", desc := "()Z" } : Jvm.MethodName) ({ cls := "ColumnarPress$Box", name := "isItem", desc := "()Z" } : Jvm.MethodName)) ∈ lw_all := lw_g (lw_at lw_m5 208 rfl) rfl
theorem q1221 : (Jvm.Cond.code ({ cls := "ColumnarPress$Box", name := "isItem", desc := "()Z" } : Jvm.MethodName) prog_2_method_6_code (1 : Nat) (Option.some Jvm.ClassFile.FieldType.boolean)) ∈ lw_all := lw_g (lw_at lw_m5 209 rfl) rfl
theorem q1222 : (Jvm.Cond.methodLink "ColumnarPress$Box" (87 : Nat) ({ cls := "ColumnarPress$Box", name := "isItems", desc := "()Z" } : Jvm.MethodName)) ∈ lw_all := lw_g (lw_at lw_m5 210 rfl) rfl
theorem q1223 : (Jvm.Cond.instanceMethod ({ cls := "ColumnarPress$Box", name := "isItems", desc := "()Z" } : Jvm.MethodName)) ∈ lw_all := lw_g (lw_at lw_m5 211 rfl) rfl
theorem q1224 : (Jvm.Cond.selects "ColumnarPress$Box" ({ cls := "ColumnarPress$Box", name := "isItems", desc := "()Z" } : Jvm.MethodName) ({ cls := "ColumnarPress$Box", name := "isItems", desc := "()Z" } : Jvm.MethodName)) ∈ lw_all := lw_g (lw_at lw_m5 212 rfl) rfl
theorem q1225 : (Jvm.Cond.code ({ cls := "ColumnarPress$Box", name := "isItems", desc := "()Z" } : Jvm.MethodName) prog_2_method_4_code (1 : Nat) (Option.some Jvm.ClassFile.FieldType.boolean)) ∈ lw_all := lw_g (lw_at lw_m5 213 rfl) rfl
theorem q1226 : (Jvm.Cond.methodLink "ColumnarPress$Box" (96 : Nat) ({ cls := "ColumnarPress$Box", name := "isFloat", desc := "()Z" } : Jvm.MethodName)) ∈ lw_all := lw_g (lw_at lw_m5 214 rfl) rfl
theorem q1227 : (Jvm.Cond.instanceMethod ({ cls := "ColumnarPress$Box", name := "isFloat", desc := "()Z" } : Jvm.MethodName)) ∈ lw_all := lw_g (lw_at lw_m5 215 rfl) rfl
theorem q1228 : (Jvm.Cond.selects "ColumnarPress$Box" ({ cls := "ColumnarPress$Box", name := "isFloat", desc := "()Z" } : Jvm.MethodName) ({ cls := "ColumnarPress$Box", name := "isFloat", desc := "()Z" } : Jvm.MethodName)) ∈ lw_all := lw_g (lw_at lw_m5 216 rfl) rfl
theorem q1229 : (Jvm.Cond.code ({ cls := "ColumnarPress$Box", name := "isFloat", desc := "()Z" } : Jvm.MethodName) prog_2_method_7_code (1 : Nat) (Option.some Jvm.ClassFile.FieldType.boolean)) ∈ lw_all := lw_g (lw_at lw_m5 217 rfl) rfl
theorem q1231 : (Jvm.Cond.instanceMethod ({ cls := "ColumnarPress$Box", name := "ends", desc := "()I" } : Jvm.MethodName)) ∈ lw_all := lw_g (lw_at lw_m5 219 rfl) rfl
theorem q1232 : (Jvm.Cond.selects "ColumnarPress$Box" ({ cls := "ColumnarPress$Box", name := "ends", desc := "()I" } : Jvm.MethodName) ({ cls := "ColumnarPress$Box", name := "ends", desc := "()I" } : Jvm.MethodName)) ∈ lw_all := lw_g (lw_at lw_m5 220 rfl) rfl
theorem q1233 : (Jvm.Cond.code ({ cls := "ColumnarPress$Box", name := "ends", desc := "()I" } : Jvm.MethodName) prog_2_method_15_code (1 : Nat) (Option.some Jvm.ClassFile.FieldType.int)) ∈ lw_all := lw_g (lw_at lw_m5 221 rfl) rfl
theorem q1234 : (Jvm.Cond.methodLink "ColumnarPress$Box" (123 : Nat) ({ cls := "ColumnarPress$Box", name := "upper", desc := "()I" } : Jvm.MethodName)) ∈ lw_all := lw_g (lw_at lw_m5 222 rfl) rfl
theorem q1235 : (Jvm.Cond.methodLink "ColumnarPress$Box" (126 : Nat) ({ cls := "ColumnarPress$Box", name := "lower", desc := "()I" } : Jvm.MethodName)) ∈ lw_all := lw_g (lw_at lw_m5 223 rfl) rfl
theorem q1236 : (Jvm.Cond.instanceMethod ({ cls := "ColumnarPress$Box", name := "lower", desc := "()I" } : Jvm.MethodName)) ∈ lw_all := lw_g (lw_at lw_m5 224 rfl) rfl
theorem q1237 : (Jvm.Cond.selects "ColumnarPress$Box" ({ cls := "ColumnarPress$Box", name := "lower", desc := "()I" } : Jvm.MethodName) ({ cls := "ColumnarPress$Box", name := "lower", desc := "()I" } : Jvm.MethodName)) ∈ lw_all := lw_g (lw_at lw_m5 225 rfl) rfl
theorem q1238 : (Jvm.Cond.code ({ cls := "ColumnarPress$Box", name := "lower", desc := "()I" } : Jvm.MethodName) prog_2_method_12_code (1 : Nat) (Option.some Jvm.ClassFile.FieldType.int)) ∈ lw_all := lw_g (lw_at lw_m5 226 rfl) rfl
theorem q1584 : (Jvm.Cond.instanceMethod ({ cls := "ColumnarPress$Box", name := "holder", desc := "()LColumnarPress$Box;" } : Jvm.MethodName)) ∈ lw_all := lw_g (lw_at lw_m7 92 rfl) rfl
theorem q1585 : (Jvm.Cond.selects "ColumnarPress$Box" ({ cls := "ColumnarPress$Box", name := "holder", desc := "()LColumnarPress$Box;" } : Jvm.MethodName) ({ cls := "ColumnarPress$Box", name := "holder", desc := "()LColumnarPress$Box;" } : Jvm.MethodName)) ∈ lw_all := lw_g (lw_at lw_m7 93 rfl) rfl
theorem q1586 : (Jvm.Cond.code ({ cls := "ColumnarPress$Box", name := "holder", desc := "()LColumnarPress$Box;" } : Jvm.MethodName) prog_2_method_18_code (2 : Nat) (Option.some (Jvm.ClassFile.FieldType.object "ColumnarPress$Box"))) ∈ lw_all := lw_g (lw_at lw_m7 94 rfl) rfl
theorem q1689 : (Jvm.Cond.instanceMethod ({ cls := "ColumnarPress$Box", name := "touch", desc := "()V" } : Jvm.MethodName)) ∈ lw_all := lw_g (lw_at lw_m7 197 rfl) rfl
theorem q1690 : (Jvm.Cond.selects "ColumnarPress$Box" ({ cls := "ColumnarPress$Box", name := "touch", desc := "()V" } : Jvm.MethodName) ({ cls := "ColumnarPress$Box", name := "touch", desc := "()V" } : Jvm.MethodName)) ∈ lw_all := lw_g (lw_at lw_m7 198 rfl) rfl
theorem q1691 : (Jvm.Cond.code ({ cls := "ColumnarPress$Box", name := "touch", desc := "()V" } : Jvm.MethodName) prog_2_method_17_code (2 : Nat) (Option.none : Option Jvm.ClassFile.FieldType)) ∈ lw_all := lw_g (lw_at lw_m7 199 rfl) rfl
theorem q1821 : (Jvm.Cond.instanceMethod ({ cls := "ColumnarPress$Box", name := "x", desc := "()I" } : Jvm.MethodName)) ∈ lw_all := lw_g (lw_at lw_m8 89 rfl) rfl
theorem q1822 : (Jvm.Cond.selects "ColumnarPress$Box" ({ cls := "ColumnarPress$Box", name := "x", desc := "()I" } : Jvm.MethodName) ({ cls := "ColumnarPress$Box", name := "x", desc := "()I" } : Jvm.MethodName)) ∈ lw_all := lw_g (lw_at lw_m8 90 rfl) rfl
theorem q1823 : (Jvm.Cond.code ({ cls := "ColumnarPress$Box", name := "x", desc := "()I" } : Jvm.MethodName) prog_2_method_20_code (1 : Nat) (Option.some Jvm.ClassFile.FieldType.int)) ∈ lw_all := lw_g (lw_at lw_m8 91 rfl) rfl
theorem q1824 : (Jvm.Cond.methodLink "ColumnarPress$Box" (136 : Nat) ({ cls := "ColumnarPress$Box", name := "holder", desc := "()LColumnarPress$Box;" } : Jvm.MethodName)) ∈ lw_all := lw_g (lw_at lw_m8 92 rfl) rfl
theorem q1825 : (Jvm.Cond.methodLink "ColumnarPress$Box" (140 : Nat) ({ cls := "ColumnarPress$Box", name := "x", desc := "()I" } : Jvm.MethodName)) ∈ lw_all := lw_g (lw_at lw_m8 93 rfl) rfl
theorem q1826 : (Jvm.Cond.methodLink "ColumnarPress$Box" (148 : Nat) ({ cls := "ColumnarPress$Box", name := "isShifted", desc := "()Z" } : Jvm.MethodName)) ∈ lw_all := lw_g (lw_at lw_m8 94 rfl) rfl
theorem q1827 : (Jvm.Cond.instanceMethod ({ cls := "ColumnarPress$Box", name := "isShifted", desc := "()Z" } : Jvm.MethodName)) ∈ lw_all := lw_g (lw_at lw_m8 95 rfl) rfl
theorem q1828 : (Jvm.Cond.selects "ColumnarPress$Box" ({ cls := "ColumnarPress$Box", name := "isShifted", desc := "()Z" } : Jvm.MethodName) ({ cls := "ColumnarPress$Box", name := "isShifted", desc := "()Z" } : Jvm.MethodName)) ∈ lw_all := lw_g (lw_at lw_m8 96 rfl) rfl
theorem q1829 : (Jvm.Cond.code ({ cls := "ColumnarPress$Box", name := "isShifted", desc := "()Z" } : Jvm.MethodName) prog_2_method_19_code (1 : Nat) (Option.some Jvm.ClassFile.FieldType.boolean)) ∈ lw_all := lw_g (lw_at lw_m8 97 rfl) rfl
theorem q1838 : (Jvm.Cond.instanceMethod ({ cls := "ColumnarPress$Box", name := "y", desc := "()I" } : Jvm.MethodName)) ∈ lw_all := lw_g (lw_at lw_m8 106 rfl) rfl
theorem q1839 : (Jvm.Cond.selects "ColumnarPress$Box" ({ cls := "ColumnarPress$Box", name := "y", desc := "()I" } : Jvm.MethodName) ({ cls := "ColumnarPress$Box", name := "y", desc := "()I" } : Jvm.MethodName)) ∈ lw_all := lw_g (lw_at lw_m8 107 rfl) rfl
theorem q1840 : (Jvm.Cond.code ({ cls := "ColumnarPress$Box", name := "y", desc := "()I" } : Jvm.MethodName) prog_2_method_21_code (1 : Nat) (Option.some Jvm.ClassFile.FieldType.int)) ∈ lw_all := lw_g (lw_at lw_m8 108 rfl) rfl
theorem q1841 : (Jvm.Cond.methodLink "ColumnarPress$Box" (151 : Nat) ({ cls := "ColumnarPress$Box", name := "y", desc := "()I" } : Jvm.MethodName)) ∈ lw_all := lw_g (lw_at lw_m8 109 rfl) rfl
theorem q2693 : (Jvm.Cond.selects "ColumnarPress$Box" ({ cls := "java/lang/Object", name := "equals", desc := "(Ljava/lang/Object;)Z" } : Jvm.MethodName) ({ cls := "java/lang/Object", name := "equals", desc := "(Ljava/lang/Object;)Z" } : Jvm.MethodName)) ∈ lw_all := lw_g (lw_at lw_m12 1 rfl) rfl
theorem q2847 : (Jvm.Cond.castable "ColumnarPress$Box" "java/lang/Object") ∈ lw_tbl := lw_at lw_m12 155 rfl
theorem in_X2 : ∀ w ∈ wsX20, w ∈ lw_all := lw_in wsX20 [296, 298, 300, 302, 304, 306, 308, 310, 312, 314, 316, 318, 320, 322, 324, 326, 328, 330, 332, 334, 336, 338, 340, 342, 344, 346, 348] (by decide +kernel) (by decide +kernel)
/-! ColumnarPress$Placed -/
set_option maxRecDepth 100000
def RX3 : String := "ColumnarPress$Placed"
def TX3 : u_T := fun k => match k with
  | 0 => ("ColumnarPress$Placed", "x", "I", false)
  | 1 => ("ColumnarPress$Placed", "y", "I", false)
  | 2 => ("ColumnarPress$Placed", "width", "I", false)
  | 3 => ("ColumnarPress$Placed", "height", "I", false)
  | 4 => ("ColumnarPress$Placed", "natural", "I", false)
  | _ => ("ColumnarPress$Placed", "lines", "Ljava/util/List;", false)
def tyX3 : Nat → FieldType := fun k => match k with
  | 0 => .int
  | 1 => .int
  | 2 => .int
  | 3 => .int
  | 4 => .int
  | _ => .object "java/util/List"
abbrev wsX30 : List Cond := u_ws RX3 TX3 6
theorem nmX3 : ∀ a, a < 6 → ∀ b, b < 6 → a ≠ b → (TX3 a).2.1 ≠ (TX3 b).2.1 := by decide +kernel
theorem tyX3_ok : ∀ k, k < 6 → parseFieldDescriptor (TX3 k).2.2.1 = some (tyX3 k) := by decide +kernel
abbrev cX3_init : ByteArray := prog_11_method_1_code
def yX3_init : MethodName := ⟨RX3, "<init>", "()V"⟩
def dkwX3_init_0 : List UInt8 := [42, 183, 0, 1, 42, 187, 0, 7, 89, 183, 0, 9, 181, 0, 10, 177]
abbrev dktX3_init_0 : List UInt8 := dkwX3_init_0 ++ []
theorem dksX3_init_0 : cX3_init.data.toList.drop 0 = dktX3_init_0 := by decide +kernel
theorem dX3_init_0 : decode cX3_init 0 = .ok (.aload_n 0, 1) := dk_42 (dk_at dksX3_init_0 0 rfl rfl)
theorem dX3_init_1 : decode cX3_init 1 = .ok (.invokespecial 1, 3) := dk_183 0 1 (dk_at dksX3_init_0 1 rfl rfl)
theorem dX3_init_4 : decode cX3_init 4 = .ok (.aload_n 0, 1) := dk_42 (dk_at dksX3_init_0 4 rfl rfl)
theorem dX3_init_5 : decode cX3_init 5 = .ok (.new 7, 3) := dk_187 0 7 (dk_at dksX3_init_0 5 rfl rfl)
theorem dX3_init_8 : decode cX3_init 8 = .ok (.dup, 1) := dk_89 (dk_at dksX3_init_0 8 rfl rfl)
theorem dX3_init_9 : decode cX3_init 9 = .ok (.invokespecial 9, 3) := dk_183 0 9 (dk_at dksX3_init_0 9 rfl rfl)
theorem dX3_init_12 : decode cX3_init 12 = .ok (.putfield 10, 3) := dk_181 0 10 (dk_at dksX3_init_0 12 rfl rfl)
theorem dX3_init_15 : decode cX3_init 15 = .ok (.return_, 1) := dk_177 (dk_at dksX3_init_0 15 rfl rfl)
abbrev cX3_isLike : ByteArray := prog_11_method_2_code
def yX3_isLike : MethodName := ⟨RX3, "isLike", "(LColumnarPress$Placed;)Z"⟩
def dkwX3_isLike_5 : List UInt8 := [192, 0, 39, 182, 0, 41, 61, 132, 3, 1, 167, 255, 206, 28, 172]
abbrev dktX3_isLike_5 : List UInt8 := dkwX3_isLike_5 ++ []
def dkwX3_isLike_4 : List UInt8 := [180, 0, 10, 29, 185, 0, 35, 2, 0, 192, 0, 39, 43, 180, 0, 10, 29, 185, 0, 35, 2, 0]
abbrev dktX3_isLike_4 : List UInt8 := dkwX3_isLike_4 ++ dktX3_isLike_5
def dkwX3_isLike_3 : List UInt8 := [3, 61, 3, 62, 28, 153, 0, 52, 29, 42, 180, 0, 10, 185, 0, 29, 1, 0, 162, 0, 39, 42]
abbrev dktX3_isLike_3 : List UInt8 := dkwX3_isLike_3 ++ dktX3_isLike_4
def dkwX3_isLike_2 : List UInt8 := [180, 0, 10, 185, 0, 29, 1, 0, 43, 180, 0, 10, 185, 0, 29, 1, 0, 160, 0, 7, 4, 167, 0, 4]
abbrev dktX3_isLike_2 : List UInt8 := dkwX3_isLike_2 ++ dktX3_isLike_3
def dkwX3_isLike_1 : List UInt8 := [180, 0, 23, 43, 180, 0, 23, 160, 0, 39, 42, 180, 0, 26, 43, 180, 0, 26, 160, 0, 28, 42]
abbrev dktX3_isLike_1 : List UInt8 := dkwX3_isLike_1 ++ dktX3_isLike_2
def dkwX3_isLike_0 : List UInt8 := [42, 180, 0, 16, 43, 180, 0, 16, 160, 0, 61, 42, 180, 0, 20, 43, 180, 0, 20, 160, 0, 50, 42]
abbrev dktX3_isLike_0 : List UInt8 := dkwX3_isLike_0 ++ dktX3_isLike_1
theorem dksX3_isLike_0 : cX3_isLike.data.toList.drop 0 = dktX3_isLike_0 := by decide +kernel
theorem dksX3_isLike_1 : cX3_isLike.data.toList.drop 23 = dktX3_isLike_1 := dk_seg dksX3_isLike_0 23 rfl rfl
theorem dksX3_isLike_2 : cX3_isLike.data.toList.drop 45 = dktX3_isLike_2 := dk_seg dksX3_isLike_1 22 rfl rfl
theorem dksX3_isLike_3 : cX3_isLike.data.toList.drop 69 = dktX3_isLike_3 := dk_seg dksX3_isLike_2 24 rfl rfl
theorem dksX3_isLike_4 : cX3_isLike.data.toList.drop 91 = dktX3_isLike_4 := dk_seg dksX3_isLike_3 22 rfl rfl
theorem dksX3_isLike_5 : cX3_isLike.data.toList.drop 113 = dktX3_isLike_5 := dk_seg dksX3_isLike_4 22 rfl rfl
theorem dX3_isLike_0 : decode cX3_isLike 0 = .ok (.aload_n 0, 1) := dk_42 (dk_at dksX3_isLike_0 0 rfl rfl)
theorem dX3_isLike_1 : decode cX3_isLike 1 = .ok (.getfield 16, 3) := dk_180 0 16 (dk_at dksX3_isLike_0 1 rfl rfl)
theorem dX3_isLike_4 : decode cX3_isLike 4 = .ok (.aload_n 1, 1) := dk_43 (dk_at dksX3_isLike_0 4 rfl rfl)
theorem dX3_isLike_5 : decode cX3_isLike 5 = .ok (.getfield 16, 3) := dk_180 0 16 (dk_at dksX3_isLike_0 5 rfl rfl)
theorem dX3_isLike_8 : decode cX3_isLike 8 = .ok (.if_icmp .ne 61, 3) := dk_160 0 61 (dk_at dksX3_isLike_0 8 rfl rfl)
theorem dX3_isLike_11 : decode cX3_isLike 11 = .ok (.aload_n 0, 1) := dk_42 (dk_at dksX3_isLike_0 11 rfl rfl)
theorem dX3_isLike_12 : decode cX3_isLike 12 = .ok (.getfield 20, 3) := dk_180 0 20 (dk_at dksX3_isLike_0 12 rfl rfl)
theorem dX3_isLike_15 : decode cX3_isLike 15 = .ok (.aload_n 1, 1) := dk_43 (dk_at dksX3_isLike_0 15 rfl rfl)
theorem dX3_isLike_16 : decode cX3_isLike 16 = .ok (.getfield 20, 3) := dk_180 0 20 (dk_at dksX3_isLike_0 16 rfl rfl)
theorem dX3_isLike_19 : decode cX3_isLike 19 = .ok (.if_icmp .ne 50, 3) := dk_160 0 50 (dk_at dksX3_isLike_0 19 rfl rfl)
theorem dX3_isLike_22 : decode cX3_isLike 22 = .ok (.aload_n 0, 1) := dk_42 (dk_at dksX3_isLike_0 22 rfl rfl)
theorem dX3_isLike_23 : decode cX3_isLike 23 = .ok (.getfield 23, 3) := dk_180 0 23 (dk_at dksX3_isLike_1 0 rfl rfl)
theorem dX3_isLike_26 : decode cX3_isLike 26 = .ok (.aload_n 1, 1) := dk_43 (dk_at dksX3_isLike_1 3 rfl rfl)
theorem dX3_isLike_27 : decode cX3_isLike 27 = .ok (.getfield 23, 3) := dk_180 0 23 (dk_at dksX3_isLike_1 4 rfl rfl)
theorem dX3_isLike_30 : decode cX3_isLike 30 = .ok (.if_icmp .ne 39, 3) := dk_160 0 39 (dk_at dksX3_isLike_1 7 rfl rfl)
theorem dX3_isLike_33 : decode cX3_isLike 33 = .ok (.aload_n 0, 1) := dk_42 (dk_at dksX3_isLike_1 10 rfl rfl)
theorem dX3_isLike_34 : decode cX3_isLike 34 = .ok (.getfield 26, 3) := dk_180 0 26 (dk_at dksX3_isLike_1 11 rfl rfl)
theorem dX3_isLike_37 : decode cX3_isLike 37 = .ok (.aload_n 1, 1) := dk_43 (dk_at dksX3_isLike_1 14 rfl rfl)
theorem dX3_isLike_38 : decode cX3_isLike 38 = .ok (.getfield 26, 3) := dk_180 0 26 (dk_at dksX3_isLike_1 15 rfl rfl)
theorem dX3_isLike_41 : decode cX3_isLike 41 = .ok (.if_icmp .ne 28, 3) := dk_160 0 28 (dk_at dksX3_isLike_1 18 rfl rfl)
theorem dX3_isLike_44 : decode cX3_isLike 44 = .ok (.aload_n 0, 1) := dk_42 (dk_at dksX3_isLike_1 21 rfl rfl)
theorem dX3_isLike_45 : decode cX3_isLike 45 = .ok (.getfield 10, 3) := dk_180 0 10 (dk_at dksX3_isLike_2 0 rfl rfl)
theorem dX3_isLike_48 : decode cX3_isLike 48 = .ok (.invokeinterface 29 1, 5) := by decide +kernel
theorem dX3_isLike_53 : decode cX3_isLike 53 = .ok (.aload_n 1, 1) := dk_43 (dk_at dksX3_isLike_2 8 rfl rfl)
theorem dX3_isLike_54 : decode cX3_isLike 54 = .ok (.getfield 10, 3) := dk_180 0 10 (dk_at dksX3_isLike_2 9 rfl rfl)
theorem dX3_isLike_57 : decode cX3_isLike 57 = .ok (.invokeinterface 29 1, 5) := by decide +kernel
theorem dX3_isLike_62 : decode cX3_isLike 62 = .ok (.if_icmp .ne 7, 3) := dk_160 0 7 (dk_at dksX3_isLike_2 17 rfl rfl)
theorem dX3_isLike_65 : decode cX3_isLike 65 = .ok (.iconst 1, 1) := dk_4 (dk_at dksX3_isLike_2 20 rfl rfl)
theorem dX3_isLike_66 : decode cX3_isLike 66 = .ok (.goto 4, 3) := dk_167 0 4 (dk_at dksX3_isLike_2 21 rfl rfl)
theorem dX3_isLike_69 : decode cX3_isLike 69 = .ok (.iconst 0, 1) := dk_3 (dk_at dksX3_isLike_3 0 rfl rfl)
theorem dX3_isLike_70 : decode cX3_isLike 70 = .ok (.istore_n 2, 1) := dk_61 (dk_at dksX3_isLike_3 1 rfl rfl)
theorem dX3_isLike_71 : decode cX3_isLike 71 = .ok (.iconst 0, 1) := dk_3 (dk_at dksX3_isLike_3 2 rfl rfl)
theorem dX3_isLike_72 : decode cX3_isLike 72 = .ok (.istore_n 3, 1) := dk_62 (dk_at dksX3_isLike_3 3 rfl rfl)
theorem dX3_isLike_73 : decode cX3_isLike 73 = .ok (.iload_n 2, 1) := dk_28 (dk_at dksX3_isLike_3 4 rfl rfl)
theorem dX3_isLike_74 : decode cX3_isLike 74 = .ok (.ifCond .eq 52, 3) := dk_153 0 52 (dk_at dksX3_isLike_3 5 rfl rfl)
theorem dX3_isLike_77 : decode cX3_isLike 77 = .ok (.iload_n 3, 1) := dk_29 (dk_at dksX3_isLike_3 8 rfl rfl)
theorem dX3_isLike_78 : decode cX3_isLike 78 = .ok (.aload_n 0, 1) := dk_42 (dk_at dksX3_isLike_3 9 rfl rfl)
theorem dX3_isLike_79 : decode cX3_isLike 79 = .ok (.getfield 10, 3) := dk_180 0 10 (dk_at dksX3_isLike_3 10 rfl rfl)
theorem dX3_isLike_82 : decode cX3_isLike 82 = .ok (.invokeinterface 29 1, 5) := by decide +kernel
theorem dX3_isLike_87 : decode cX3_isLike 87 = .ok (.if_icmp .ge 39, 3) := dk_162 0 39 (dk_at dksX3_isLike_3 18 rfl rfl)
theorem dX3_isLike_90 : decode cX3_isLike 90 = .ok (.aload_n 0, 1) := dk_42 (dk_at dksX3_isLike_3 21 rfl rfl)
theorem dX3_isLike_91 : decode cX3_isLike 91 = .ok (.getfield 10, 3) := dk_180 0 10 (dk_at dksX3_isLike_4 0 rfl rfl)
theorem dX3_isLike_94 : decode cX3_isLike 94 = .ok (.iload_n 3, 1) := dk_29 (dk_at dksX3_isLike_4 3 rfl rfl)
theorem dX3_isLike_95 : decode cX3_isLike 95 = .ok (.invokeinterface 35 2, 5) := by decide +kernel
theorem dX3_isLike_100 : decode cX3_isLike 100 = .ok (.checkcast 39, 3) := dk_192 0 39 (dk_at dksX3_isLike_4 9 rfl rfl)
theorem dX3_isLike_103 : decode cX3_isLike 103 = .ok (.aload_n 1, 1) := dk_43 (dk_at dksX3_isLike_4 12 rfl rfl)
theorem dX3_isLike_104 : decode cX3_isLike 104 = .ok (.getfield 10, 3) := dk_180 0 10 (dk_at dksX3_isLike_4 13 rfl rfl)
theorem dX3_isLike_107 : decode cX3_isLike 107 = .ok (.iload_n 3, 1) := dk_29 (dk_at dksX3_isLike_4 16 rfl rfl)
theorem dX3_isLike_108 : decode cX3_isLike 108 = .ok (.invokeinterface 35 2, 5) := by decide +kernel
theorem dX3_isLike_113 : decode cX3_isLike 113 = .ok (.checkcast 39, 3) := dk_192 0 39 (dk_at dksX3_isLike_5 0 rfl rfl)
theorem dX3_isLike_116 : decode cX3_isLike 116 = .ok (.invokevirtual 41, 3) := dk_182 0 41 (dk_at dksX3_isLike_5 3 rfl rfl)
theorem dX3_isLike_119 : decode cX3_isLike 119 = .ok (.istore_n 2, 1) := dk_61 (dk_at dksX3_isLike_5 6 rfl rfl)
theorem dX3_isLike_120 : decode cX3_isLike 120 = .ok (.iinc 3 1, 3) := dk_132 3 1 (dk_at dksX3_isLike_5 7 rfl rfl)
theorem dX3_isLike_123 : decode cX3_isLike 123 = .ok (.goto (-50), 3) := dk_167 255 206 (dk_at dksX3_isLike_5 10 rfl rfl)
theorem dX3_isLike_126 : decode cX3_isLike 126 = .ok (.iload_n 2, 1) := dk_28 (dk_at dksX3_isLike_5 13 rfl rfl)
theorem dX3_isLike_127 : decode cX3_isLike 127 = .ok (.ireturn, 1) := dk_172 (dk_at dksX3_isLike_5 14 rfl rfl)
theorem q58 : (Jvm.Cond.initialized "ColumnarPress$Placed") ∈ lw_all := lw_g (lw_at lw_m1 6 rfl) rfl
theorem q181 : (Jvm.Cond.instantiable "ColumnarPress$Placed" (6 : Nat)) ∈ lw_all := lw_g (lw_at lw_m1 129 rfl) rfl
theorem q183 : (Jvm.Cond.instanceMethod ({ cls := "ColumnarPress$Placed", name := "<init>", desc := "()V" } : Jvm.MethodName)) ∈ lw_all := lw_g (lw_at lw_m1 131 rfl) rfl
theorem q184 : (Jvm.Cond.code ({ cls := "ColumnarPress$Placed", name := "<init>", desc := "()V" } : Jvm.MethodName) prog_11_method_1_code (1 : Nat) (Option.none : Option Jvm.ClassFile.FieldType)) ∈ lw_all := lw_g (lw_at lw_m1 132 rfl) rfl
theorem q185 : (Jvm.Cond.methodLink "ColumnarPress$Placed" (1 : Nat) ({ cls := "java/lang/Object", name := "<init>", desc := "()V" } : Jvm.MethodName)) ∈ lw_all := lw_g (lw_at lw_m1 133 rfl) rfl
theorem q186 : (Jvm.Cond.classLink "ColumnarPress$Placed" (7 : Nat) "java/util/ArrayList") ∈ lw_all := lw_g (lw_at lw_m1 134 rfl) rfl
theorem q187 : (Jvm.Cond.methodLink "ColumnarPress$Placed" (9 : Nat) ({ cls := "java/util/ArrayList", name := "<init>", desc := "()V" } : Jvm.MethodName)) ∈ lw_all := lw_g (lw_at lw_m1 135 rfl) rfl
theorem q188 : (Jvm.Cond.fieldLink "ColumnarPress$Placed" (16 : Nat) "ColumnarPress$Placed" "x" "I") ∈ lw_all := lw_g (lw_at lw_m1 136 rfl) rfl
theorem q192 : (Jvm.Cond.fieldLink "ColumnarPress$Placed" (20 : Nat) "ColumnarPress$Placed" "y" "I") ∈ lw_all := lw_g (lw_at lw_m1 140 rfl) rfl
theorem q197 : (Jvm.Cond.fieldLink "ColumnarPress$Placed" (23 : Nat) "ColumnarPress$Placed" "width" "I") ∈ lw_all := lw_g (lw_at lw_m1 145 rfl) rfl
theorem q202 : (Jvm.Cond.fieldLink "ColumnarPress$Placed" (26 : Nat) "ColumnarPress$Placed" "height" "I") ∈ lw_all := lw_g (lw_at lw_m1 150 rfl) rfl
theorem q208 : (Jvm.Cond.fieldLink "ColumnarPress$Placed" (10 : Nat) "ColumnarPress$Placed" "lines" "Ljava/util/List;") ∈ lw_all := lw_g (lw_at lw_m1 156 rfl) rfl
theorem q212 : (Jvm.Cond.lays "ColumnarPress$Placed" "ColumnarPress$Placed" "x" "I") ∈ lw_all := lw_g (lw_at lw_m1 160 rfl) rfl
theorem q213 : (Jvm.Cond.soleField "ColumnarPress$Placed" "x") ∈ lw_all := lw_g (lw_at lw_m1 161 rfl) rfl
theorem q214 : (Jvm.Cond.lays "ColumnarPress$Placed" "ColumnarPress$Placed" "y" "I") ∈ lw_all := lw_g (lw_at lw_m1 162 rfl) rfl
theorem q215 : (Jvm.Cond.soleField "ColumnarPress$Placed" "y") ∈ lw_all := lw_g (lw_at lw_m1 163 rfl) rfl
theorem q216 : (Jvm.Cond.lays "ColumnarPress$Placed" "ColumnarPress$Placed" "width" "I") ∈ lw_all := lw_g (lw_at lw_m1 164 rfl) rfl
theorem q217 : (Jvm.Cond.soleField "ColumnarPress$Placed" "width") ∈ lw_all := lw_g (lw_at lw_m1 165 rfl) rfl
theorem q218 : (Jvm.Cond.lays "ColumnarPress$Placed" "ColumnarPress$Placed" "height" "I") ∈ lw_all := lw_g (lw_at lw_m1 166 rfl) rfl
theorem q219 : (Jvm.Cond.soleField "ColumnarPress$Placed" "height") ∈ lw_all := lw_g (lw_at lw_m1 167 rfl) rfl
theorem q220 : (Jvm.Cond.lays "ColumnarPress$Placed" "ColumnarPress$Placed" "natural" "I") ∈ lw_all := lw_g (lw_at lw_m1 168 rfl) rfl
theorem q221 : (Jvm.Cond.soleField "ColumnarPress$Placed" "natural") ∈ lw_all := lw_g (lw_at lw_m1 169 rfl) rfl
theorem q222 : (Jvm.Cond.lays "ColumnarPress$Placed" "ColumnarPress$Placed" "lines" "Ljava/util/List;") ∈ lw_all := lw_g (lw_at lw_m1 170 rfl) rfl
theorem q223 : (Jvm.Cond.soleField "ColumnarPress$Placed" "lines") ∈ lw_all := lw_g (lw_at lw_m1 171 rfl) rfl
theorem q224 : (Jvm.Cond.superclass "ColumnarPress$Placed" "java/lang/Object") ∈ lw_all := lw_g (lw_at lw_m1 172 rfl) rfl
theorem q398 : (Jvm.Cond.selects "ColumnarPress$Placed" ({ cls := "java/lang/Object", name := "getClass", desc := "()Ljava/lang/Class;" } : Jvm.MethodName) ({ cls := "java/lang/Object", name := "getClass", desc := "()Ljava/lang/Class;" } : Jvm.MethodName)) ∈ lw_all := lw_g (lw_at lw_m2 106 rfl) rfl
theorem q1591 : (Jvm.Cond.instanceMethod ({ cls := "ColumnarPress$Placed", name := "isLike", desc := "(LColumnarPress$Placed;)Z" } : Jvm.MethodName)) ∈ lw_all := lw_g (lw_at lw_m7 99 rfl) rfl
theorem q1592 : (Jvm.Cond.selects "ColumnarPress$Placed" ({ cls := "ColumnarPress$Placed", name := "isLike", desc := "(LColumnarPress$Placed;)Z" } : Jvm.MethodName) ({ cls := "ColumnarPress$Placed", name := "isLike", desc := "(LColumnarPress$Placed;)Z" } : Jvm.MethodName)) ∈ lw_all := lw_g (lw_at lw_m7 100 rfl) rfl
theorem q1593 : (Jvm.Cond.code ({ cls := "ColumnarPress$Placed", name := "isLike", desc := "(LColumnarPress$Placed;)Z" } : Jvm.MethodName) prog_11_method_2_code (4 : Nat) (Option.some Jvm.ClassFile.FieldType.boolean)) ∈ lw_all := lw_g (lw_at lw_m7 101 rfl) rfl
theorem q1594 : (Jvm.Cond.interfaceEntry "ColumnarPress$Placed" (29 : Nat)) ∈ lw_tbl := lw_at lw_m7 102 rfl
theorem q1595 : (Jvm.Cond.methodLink "ColumnarPress$Placed" (29 : Nat) ({ cls := "java/util/List", name := "size", desc := "()I" } : Jvm.MethodName)) ∈ lw_all := lw_g (lw_at lw_m7 103 rfl) rfl
theorem q1596 : (Jvm.Cond.interfaceEntry "ColumnarPress$Placed" (35 : Nat)) ∈ lw_tbl := lw_at lw_m7 104 rfl
theorem q1597 : (Jvm.Cond.methodLink "ColumnarPress$Placed" (35 : Nat) ({ cls := "java/util/List", name := "get", desc := "(I)Ljava/lang/Object;" } : Jvm.MethodName)) ∈ lw_all := lw_g (lw_at lw_m7 105 rfl) rfl
theorem q1598 : (Jvm.Cond.classLink "ColumnarPress$Placed" (39 : Nat) "ColumnarPress$Line") ∈ lw_all := lw_g (lw_at lw_m7 106 rfl) rfl
theorem q1599 : (Jvm.Cond.methodLink "ColumnarPress$Placed" (41 : Nat) ({ cls := "ColumnarPress$Line", name := "isLike", desc := "(LColumnarPress$Line;)Z" } : Jvm.MethodName)) ∈ lw_all := lw_g (lw_at lw_m7 107 rfl) rfl
theorem q2708 : (Jvm.Cond.selects "ColumnarPress$Placed" ({ cls := "java/lang/Object", name := "equals", desc := "(Ljava/lang/Object;)Z" } : Jvm.MethodName) ({ cls := "java/lang/Object", name := "equals", desc := "(Ljava/lang/Object;)Z" } : Jvm.MethodName)) ∈ lw_all := lw_g (lw_at lw_m12 16 rfl) rfl
theorem q2848 : (Jvm.Cond.castable "ColumnarPress$Placed" "java/lang/Object") ∈ lw_tbl := lw_at lw_m12 156 rfl
theorem in_X3 : ∀ w ∈ wsX30, w ∈ lw_all := lw_in wsX30 [212, 214, 216, 218, 220, 222] (by decide +kernel) (by decide +kernel)
/-! ColumnarPress$Narrow -/
set_option maxRecDepth 100000
def RX8 : String := "ColumnarPress$Narrow"
def TX8 : u_T := fun k => match k with
  | 0 => ("java/lang/Throwable", "cause", "Ljava/lang/Throwable;", false)
  | 1 => ("java/lang/Throwable", "stackTrace", "[Ljava/lang/StackTraceElement;", false)
  | 2 => ("java/lang/Throwable", "suppressedExceptions", "Ljava/util/List;", false)
  | 3 => ("java/lang/Throwable", "detailMessage", "Ljava/lang/String;", false)
  | 4 => ("java/lang/Throwable", "backtrace", "Ljava/lang/Object;", false)
  | 5 => ("java/lang/Throwable", "depth", "I", false)
  | _ => ("ColumnarPress$Narrow", "next", "I", true)
def tyX8 : Nat → FieldType := fun k => match k with
  | 0 => .object "java/lang/Throwable"
  | 1 => .array (.object "java/lang/StackTraceElement")
  | 2 => .object "java/util/List"
  | 3 => .object "java/lang/String"
  | 4 => .object "java/lang/Object"
  | 5 => .int
  | _ => .int
abbrev wsX80 : List Cond := u_ws RX8 TX8 7
theorem nmX8 : ∀ a, a < 7 → ∀ b, b < 7 → a ≠ b → (TX8 a).2.1 ≠ (TX8 b).2.1 := by decide +kernel
theorem tyX8_ok : ∀ k, k < 7 → parseFieldDescriptor (TX8 k).2.2.1 = some (tyX8 k) := by decide +kernel
abbrev cX8_init : ByteArray := prog_9_method_1_code
def yX8_init : MethodName := ⟨RX8, "<init>", "(I)V"⟩
def dkwX8_init_0 : List UInt8 := [42, 18, 1, 1, 3, 3, 183, 0, 3, 42, 27, 181, 0, 9, 177]
abbrev dktX8_init_0 : List UInt8 := dkwX8_init_0 ++ []
theorem dksX8_init_0 : cX8_init.data.toList.drop 0 = dktX8_init_0 := by decide +kernel
theorem dX8_init_0 : decode cX8_init 0 = .ok (.aload_n 0, 1) := dk_42 (dk_at dksX8_init_0 0 rfl rfl)
theorem dX8_init_1 : decode cX8_init 1 = .ok (.ldc 1, 2) := dk_18 1 (dk_at dksX8_init_0 1 rfl rfl)
theorem dX8_init_3 : decode cX8_init 3 = .ok (.aconst_null, 1) := dk_1 (dk_at dksX8_init_0 3 rfl rfl)
theorem dX8_init_4 : decode cX8_init 4 = .ok (.iconst 0, 1) := dk_3 (dk_at dksX8_init_0 4 rfl rfl)
theorem dX8_init_5 : decode cX8_init 5 = .ok (.iconst 0, 1) := dk_3 (dk_at dksX8_init_0 5 rfl rfl)
theorem dX8_init_6 : decode cX8_init 6 = .ok (.invokespecial 3, 3) := dk_183 0 3 (dk_at dksX8_init_0 6 rfl rfl)
theorem dX8_init_9 : decode cX8_init 9 = .ok (.aload_n 0, 1) := dk_42 (dk_at dksX8_init_0 9 rfl rfl)
theorem dX8_init_10 : decode cX8_init 10 = .ok (.iload_n 1, 1) := dk_27 (dk_at dksX8_init_0 10 rfl rfl)
theorem dX8_init_11 : decode cX8_init 11 = .ok (.putfield 9, 3) := dk_181 0 9 (dk_at dksX8_init_0 11 rfl rfl)
theorem dX8_init_14 : decode cX8_init 14 = .ok (.return_, 1) := dk_177 (dk_at dksX8_init_0 14 rfl rfl)
theorem q92 : (Jvm.Cond.initialized "ColumnarPress$Narrow") ∈ lw_all := lw_g (lw_at lw_m1 40 rfl) rfl
theorem q396 : (Jvm.Cond.selects "ColumnarPress$Narrow" ({ cls := "java/lang/Object", name := "getClass", desc := "()Ljava/lang/Class;" } : Jvm.MethodName) ({ cls := "java/lang/Object", name := "getClass", desc := "()Ljava/lang/Class;" } : Jvm.MethodName)) ∈ lw_all := lw_g (lw_at lw_m2 104 rfl) rfl
theorem q492 : (Jvm.Cond.selects "ColumnarPress$Narrow" ({ cls := "java/lang/Throwable", name := "fillInStackTrace", desc := "()Ljava/lang/Throwable;" } : Jvm.MethodName) ({ cls := "java/lang/Throwable", name := "fillInStackTrace", desc := "()Ljava/lang/Throwable;" } : Jvm.MethodName)) ∈ lw_all := lw_g (lw_at lw_m2 200 rfl) rfl
theorem q1001 : (Jvm.Cond.selects "ColumnarPress$Narrow" ({ cls := "java/lang/Throwable", name := "toString", desc := "()Ljava/lang/String;" } : Jvm.MethodName) ({ cls := "java/lang/Throwable", name := "toString", desc := "()Ljava/lang/String;" } : Jvm.MethodName)) ∈ lw_all := lw_g (lw_at lw_m4 229 rfl) rfl
theorem q1015 : (Jvm.Cond.selects "ColumnarPress$Narrow" ({ cls := "java/lang/Throwable", name := "getLocalizedMessage", desc := "()Ljava/lang/String;" } : Jvm.MethodName) ({ cls := "java/lang/Throwable", name := "getLocalizedMessage", desc := "()Ljava/lang/String;" } : Jvm.MethodName)) ∈ lw_all := lw_g (lw_at lw_m5 3 rfl) rfl
theorem q1028 : (Jvm.Cond.selects "ColumnarPress$Narrow" ({ cls := "java/lang/Throwable", name := "getMessage", desc := "()Ljava/lang/String;" } : Jvm.MethodName) ({ cls := "java/lang/Throwable", name := "getMessage", desc := "()Ljava/lang/String;" } : Jvm.MethodName)) ∈ lw_all := lw_g (lw_at lw_m5 16 rfl) rfl
theorem q1396 : (Jvm.Cond.instantiable "ColumnarPress$Narrow" (7 : Nat)) ∈ lw_all := lw_g (lw_at lw_m6 144 rfl) rfl
theorem q1397 : (Jvm.Cond.castable "ColumnarPress$Narrow" "ColumnarPress$Narrow") ∈ lw_tbl := lw_at lw_m6 145 rfl
theorem q1398 : (Jvm.Cond.selects "ColumnarPress$Narrow" ({ cls := "java/lang/Throwable", name := "fillInStackTrace", desc := "(I)Ljava/lang/Throwable;" } : Jvm.MethodName) ({ cls := "java/lang/Throwable", name := "fillInStackTrace", desc := "(I)Ljava/lang/Throwable;" } : Jvm.MethodName)) ∈ lw_all := lw_g (lw_at lw_m6 146 rfl) rfl
theorem q1399 : (Jvm.Cond.lays "ColumnarPress$Narrow" "java/lang/Throwable" "cause" "Ljava/lang/Throwable;") ∈ lw_all := lw_g (lw_at lw_m6 147 rfl) rfl
theorem q1400 : (Jvm.Cond.lays "ColumnarPress$Narrow" "java/lang/Throwable" "stackTrace" "[Ljava/lang/StackTraceElement;") ∈ lw_all := lw_g (lw_at lw_m6 148 rfl) rfl
theorem q1401 : (Jvm.Cond.lays "ColumnarPress$Narrow" "java/lang/Throwable" "suppressedExceptions" "Ljava/util/List;") ∈ lw_all := lw_g (lw_at lw_m6 149 rfl) rfl
theorem q1402 : (Jvm.Cond.lays "ColumnarPress$Narrow" "java/lang/Throwable" "detailMessage" "Ljava/lang/String;") ∈ lw_all := lw_g (lw_at lw_m6 150 rfl) rfl
theorem q1403 : (Jvm.Cond.lays "ColumnarPress$Narrow" "java/lang/Throwable" "backtrace" "Ljava/lang/Object;") ∈ lw_all := lw_g (lw_at lw_m6 151 rfl) rfl
theorem q1405 : (Jvm.Cond.instanceMethod ({ cls := "ColumnarPress$Narrow", name := "<init>", desc := "(I)V" } : Jvm.MethodName)) ∈ lw_all := lw_g (lw_at lw_m6 153 rfl) rfl
theorem q1406 : (Jvm.Cond.code ({ cls := "ColumnarPress$Narrow", name := "<init>", desc := "(I)V" } : Jvm.MethodName) prog_9_method_1_code (2 : Nat) (Option.none : Option Jvm.ClassFile.FieldType)) ∈ lw_all := lw_g (lw_at lw_m6 154 rfl) rfl
theorem q1407 : (Jvm.Cond.stringRef "ColumnarPress$Narrow" (1 : Nat) "") ∈ lw_tbl := lw_at lw_m6 155 rfl
theorem q1408 : (Jvm.Cond.methodLink "ColumnarPress$Narrow" (3 : Nat) ({ cls := "java/lang/Exception", name := "<init>", desc := "(Ljava/lang/String;Ljava/lang/Throwable;ZZ)V" } : Jvm.MethodName)) ∈ lw_all := lw_g (lw_at lw_m6 156 rfl) rfl
theorem q1414 : (Jvm.Cond.fieldLink "ColumnarPress$Narrow" (9 : Nat) "ColumnarPress$Narrow" "next" "I") ∈ lw_all := lw_g (lw_at lw_m6 162 rfl) rfl
theorem q1417 : (Jvm.Cond.laysFinal "ColumnarPress$Narrow" "ColumnarPress$Narrow" "next" "I") ∈ lw_all := lw_g (lw_at lw_m6 165 rfl) rfl
theorem q1418 : (Jvm.Cond.soleField "ColumnarPress$Narrow" "next") ∈ lw_all := lw_g (lw_at lw_m6 166 rfl) rfl
theorem q1419 : (Jvm.Cond.lays "ColumnarPress$Narrow" "java/lang/Throwable" "depth" "I") ∈ lw_all := lw_g (lw_at lw_m6 167 rfl) rfl
theorem q1420 : (Jvm.Cond.superclass "ColumnarPress$Narrow" "java/lang/Exception") ∈ lw_all := lw_g (lw_at lw_m6 168 rfl) rfl
theorem q2706 : (Jvm.Cond.selects "ColumnarPress$Narrow" ({ cls := "java/lang/Object", name := "equals", desc := "(Ljava/lang/Object;)Z" } : Jvm.MethodName) ({ cls := "java/lang/Object", name := "equals", desc := "(Ljava/lang/Object;)Z" } : Jvm.MethodName)) ∈ lw_all := lw_g (lw_at lw_m12 14 rfl) rfl
theorem q2867 : (Jvm.Cond.castable "ColumnarPress$Narrow" "java/lang/Object") ∈ lw_tbl := lw_at lw_m12 175 rfl
theorem in_X8 : ∀ w ∈ wsX80, w ∈ lw_all := lw_in wsX80 [1399, 1400, 1401, 1402, 1403, 1419, 1417] (by decide +kernel) (by decide +kernel)
/-! ColumnarPress$Edges -/
set_option maxRecDepth 100000
def RX9 : String := "ColumnarPress$Edges"
def TX9 : u_T := fun k => match k with
  | 0 => ("ColumnarPress$Edges", "left", "I", true)
  | _ => ("ColumnarPress$Edges", "right", "I", true)
def tyX9 : Nat → FieldType := fun k => match k with
  | 0 => .int
  | _ => .int
abbrev wsX90 : List Cond := u_ws RX9 TX9 2
theorem nmX9 : ∀ a, a < 2 → ∀ b, b < 2 → a ≠ b → (TX9 a).2.1 ≠ (TX9 b).2.1 := by decide +kernel
theorem tyX9_ok : ∀ k, k < 2 → parseFieldDescriptor (TX9 k).2.2.1 = some (tyX9 k) := by decide +kernel
abbrev cX9_init : ByteArray := prog_4_method_1_code
def yX9_init : MethodName := ⟨RX9, "<init>", "(II)V"⟩
def dkwX9_init_0 : List UInt8 := [42, 183, 0, 1, 42, 27, 181, 0, 7, 42, 28, 181, 0, 13, 177]
abbrev dktX9_init_0 : List UInt8 := dkwX9_init_0 ++ []
theorem dksX9_init_0 : cX9_init.data.toList.drop 0 = dktX9_init_0 := by decide +kernel
theorem dX9_init_0 : decode cX9_init 0 = .ok (.aload_n 0, 1) := dk_42 (dk_at dksX9_init_0 0 rfl rfl)
theorem dX9_init_1 : decode cX9_init 1 = .ok (.invokespecial 1, 3) := dk_183 0 1 (dk_at dksX9_init_0 1 rfl rfl)
theorem dX9_init_4 : decode cX9_init 4 = .ok (.aload_n 0, 1) := dk_42 (dk_at dksX9_init_0 4 rfl rfl)
theorem dX9_init_5 : decode cX9_init 5 = .ok (.iload_n 1, 1) := dk_27 (dk_at dksX9_init_0 5 rfl rfl)
theorem dX9_init_6 : decode cX9_init 6 = .ok (.putfield 7, 3) := dk_181 0 7 (dk_at dksX9_init_0 6 rfl rfl)
theorem dX9_init_9 : decode cX9_init 9 = .ok (.aload_n 0, 1) := dk_42 (dk_at dksX9_init_0 9 rfl rfl)
theorem dX9_init_10 : decode cX9_init 10 = .ok (.iload_n 2, 1) := dk_28 (dk_at dksX9_init_0 10 rfl rfl)
theorem dX9_init_11 : decode cX9_init 11 = .ok (.putfield 13, 3) := dk_181 0 13 (dk_at dksX9_init_0 11 rfl rfl)
theorem dX9_init_14 : decode cX9_init 14 = .ok (.return_, 1) := dk_177 (dk_at dksX9_init_0 14 rfl rfl)
abbrev cX9_between : ByteArray := prog_4_method_2_code
def yX9_between : MethodName := ⟨RX9, "between", "()I"⟩
def dkwX9_between_0 : List UInt8 := [42, 180, 0, 13, 42, 180, 0, 7, 100, 172]
abbrev dktX9_between_0 : List UInt8 := dkwX9_between_0 ++ []
theorem dksX9_between_0 : cX9_between.data.toList.drop 0 = dktX9_between_0 := by decide +kernel
theorem dX9_between_0 : decode cX9_between 0 = .ok (.aload_n 0, 1) := dk_42 (dk_at dksX9_between_0 0 rfl rfl)
theorem dX9_between_1 : decode cX9_between 1 = .ok (.getfield 13, 3) := dk_180 0 13 (dk_at dksX9_between_0 1 rfl rfl)
theorem dX9_between_4 : decode cX9_between 4 = .ok (.aload_n 0, 1) := dk_42 (dk_at dksX9_between_0 4 rfl rfl)
theorem dX9_between_5 : decode cX9_between 5 = .ok (.getfield 7, 3) := dk_180 0 7 (dk_at dksX9_between_0 5 rfl rfl)
theorem dX9_between_8 : decode cX9_between 8 = .ok (.isub, 1) := dk_100 (dk_at dksX9_between_0 8 rfl rfl)
theorem dX9_between_9 : decode cX9_between 9 = .ok (.ireturn, 1) := dk_172 (dk_at dksX9_between_0 9 rfl rfl)
abbrev cX9_left : ByteArray := prog_4_method_6_code
def yX9_left : MethodName := ⟨RX9, "left", "()I"⟩
theorem dX9_left_0 : decode cX9_left 0 = .ok (.aload_n 0, 1) := by decide +kernel
theorem dX9_left_1 : decode cX9_left 1 = .ok (.getfield 7, 3) := by decide +kernel
theorem dX9_left_4 : decode cX9_left 4 = .ok (.ireturn, 1) := by decide +kernel
abbrev cX9_right : ByteArray := prog_4_method_7_code
def yX9_right : MethodName := ⟨RX9, "right", "()I"⟩
theorem dX9_right_0 : decode cX9_right 0 = .ok (.aload_n 0, 1) := by decide +kernel
theorem dX9_right_1 : decode cX9_right 1 = .ok (.getfield 13, 3) := by decide +kernel
theorem dX9_right_4 : decode cX9_right 4 = .ok (.ireturn, 1) := by decide +kernel
abbrev cX9_equals : ByteArray := prog_4_method_5_code
def yX9_equals : MethodName := ⟨RX9, "equals", "(Ljava/lang/Object;)Z"⟩
def dkwX9_equals_0 : List UInt8 := [42, 43, 186, 0, 24, 0, 0, 172]
abbrev dktX9_equals_0 : List UInt8 := dkwX9_equals_0 ++ []
theorem dksX9_equals_0 : cX9_equals.data.toList.drop 0 = dktX9_equals_0 := by decide +kernel
theorem dX9_equals_0 : decode cX9_equals 0 = .ok (.aload_n 0, 1) := dk_42 (dk_at dksX9_equals_0 0 rfl rfl)
theorem dX9_equals_1 : decode cX9_equals 1 = .ok (.aload_n 1, 1) := dk_43 (dk_at dksX9_equals_0 1 rfl rfl)
theorem dX9_equals_2 : decode cX9_equals 2 = .ok (.invokedynamic 24, 5) := by decide +kernel
theorem dX9_equals_7 : decode cX9_equals 7 = .ok (.ireturn, 1) := dk_172 (dk_at dksX9_equals_0 7 rfl rfl)
theorem q94 : (Jvm.Cond.initialized "ColumnarPress$Edges") ∈ lw_all := lw_g (lw_at lw_m1 42 rfl) rfl
theorem q391 : (Jvm.Cond.selects "ColumnarPress$Edges" ({ cls := "java/lang/Object", name := "getClass", desc := "()Ljava/lang/Class;" } : Jvm.MethodName) ({ cls := "java/lang/Object", name := "getClass", desc := "()Ljava/lang/Class;" } : Jvm.MethodName)) ∈ lw_all := lw_g (lw_at lw_m2 99 rfl) rfl
theorem q1422 : (Jvm.Cond.instantiable "ColumnarPress$Edges" (2 : Nat)) ∈ lw_all := lw_g (lw_at lw_m6 170 rfl) rfl
theorem q1424 : (Jvm.Cond.instanceMethod ({ cls := "ColumnarPress$Edges", name := "<init>", desc := "(II)V" } : Jvm.MethodName)) ∈ lw_all := lw_g (lw_at lw_m6 172 rfl) rfl
theorem q1425 : (Jvm.Cond.code ({ cls := "ColumnarPress$Edges", name := "<init>", desc := "(II)V" } : Jvm.MethodName) prog_4_method_1_code (3 : Nat) (Option.none : Option Jvm.ClassFile.FieldType)) ∈ lw_all := lw_g (lw_at lw_m6 173 rfl) rfl
theorem q1426 : (Jvm.Cond.methodLink "ColumnarPress$Edges" (1 : Nat) ({ cls := "java/lang/Record", name := "<init>", desc := "()V" } : Jvm.MethodName)) ∈ lw_all := lw_g (lw_at lw_m6 174 rfl) rfl
theorem q1430 : (Jvm.Cond.fieldLink "ColumnarPress$Edges" (7 : Nat) "ColumnarPress$Edges" "left" "I") ∈ lw_all := lw_g (lw_at lw_m6 178 rfl) rfl
theorem q1431 : (Jvm.Cond.fieldLink "ColumnarPress$Edges" (13 : Nat) "ColumnarPress$Edges" "right" "I") ∈ lw_all := lw_g (lw_at lw_m6 179 rfl) rfl
theorem q1432 : (Jvm.Cond.laysFinal "ColumnarPress$Edges" "ColumnarPress$Edges" "left" "I") ∈ lw_all := lw_g (lw_at lw_m6 180 rfl) rfl
theorem q1433 : (Jvm.Cond.soleField "ColumnarPress$Edges" "left") ∈ lw_all := lw_g (lw_at lw_m6 181 rfl) rfl
theorem q1434 : (Jvm.Cond.laysFinal "ColumnarPress$Edges" "ColumnarPress$Edges" "right" "I") ∈ lw_all := lw_g (lw_at lw_m6 182 rfl) rfl
theorem q1435 : (Jvm.Cond.soleField "ColumnarPress$Edges" "right") ∈ lw_all := lw_g (lw_at lw_m6 183 rfl) rfl
theorem q1436 : (Jvm.Cond.superclass "ColumnarPress$Edges" "java/lang/Record") ∈ lw_all := lw_g (lw_at lw_m6 184 rfl) rfl
theorem q1453 : (Jvm.Cond.instanceMethod ({ cls := "ColumnarPress$Edges", name := "between", desc := "()I" } : Jvm.MethodName)) ∈ lw_all := lw_g (lw_at lw_m6 201 rfl) rfl
theorem q1454 : (Jvm.Cond.selects "ColumnarPress$Edges" ({ cls := "ColumnarPress$Edges", name := "between", desc := "()I" } : Jvm.MethodName) ({ cls := "ColumnarPress$Edges", name := "between", desc := "()I" } : Jvm.MethodName)) ∈ lw_all := lw_g (lw_at lw_m6 202 rfl) rfl
theorem q1455 : (Jvm.Cond.code ({ cls := "ColumnarPress$Edges", name := "between", desc := "()I" } : Jvm.MethodName) prog_4_method_2_code (1 : Nat) (Option.some Jvm.ClassFile.FieldType.int)) ∈ lw_all := lw_g (lw_at lw_m6 203 rfl) rfl
theorem q1459 : (Jvm.Cond.instanceMethod ({ cls := "ColumnarPress$Edges", name := "left", desc := "()I" } : Jvm.MethodName)) ∈ lw_all := lw_g (lw_at lw_m6 207 rfl) rfl
theorem q1460 : (Jvm.Cond.selects "ColumnarPress$Edges" ({ cls := "ColumnarPress$Edges", name := "left", desc := "()I" } : Jvm.MethodName) ({ cls := "ColumnarPress$Edges", name := "left", desc := "()I" } : Jvm.MethodName)) ∈ lw_all := lw_g (lw_at lw_m6 208 rfl) rfl
theorem q1461 : (Jvm.Cond.code ({ cls := "ColumnarPress$Edges", name := "left", desc := "()I" } : Jvm.MethodName) prog_4_method_6_code (1 : Nat) (Option.some Jvm.ClassFile.FieldType.int)) ∈ lw_all := lw_g (lw_at lw_m6 209 rfl) rfl
theorem q1539 : (Jvm.Cond.instanceMethod ({ cls := "ColumnarPress$Edges", name := "right", desc := "()I" } : Jvm.MethodName)) ∈ lw_all := lw_g (lw_at lw_m7 47 rfl) rfl
theorem q1540 : (Jvm.Cond.selects "ColumnarPress$Edges" ({ cls := "ColumnarPress$Edges", name := "right", desc := "()I" } : Jvm.MethodName) ({ cls := "ColumnarPress$Edges", name := "right", desc := "()I" } : Jvm.MethodName)) ∈ lw_all := lw_g (lw_at lw_m7 48 rfl) rfl
theorem q1541 : (Jvm.Cond.code ({ cls := "ColumnarPress$Edges", name := "right", desc := "()I" } : Jvm.MethodName) prog_4_method_7_code (1 : Nat) (Option.some Jvm.ClassFile.FieldType.int)) ∈ lw_all := lw_g (lw_at lw_m7 49 rfl) rfl
theorem q2695 : (Jvm.Cond.selects "ColumnarPress$Edges" ({ cls := "java/lang/Object", name := "equals", desc := "(Ljava/lang/Object;)Z" } : Jvm.MethodName) ({ cls := "ColumnarPress$Edges", name := "equals", desc := "(Ljava/lang/Object;)Z" } : Jvm.MethodName)) ∈ lw_all := lw_g (lw_at lw_m12 3 rfl) rfl
theorem q2696 : (Jvm.Cond.instanceMethod ({ cls := "ColumnarPress$Edges", name := "equals", desc := "(Ljava/lang/Object;)Z" } : Jvm.MethodName)) ∈ lw_all := lw_g (lw_at lw_m12 4 rfl) rfl
theorem q2697 : (Jvm.Cond.code ({ cls := "ColumnarPress$Edges", name := "equals", desc := "(Ljava/lang/Object;)Z" } : Jvm.MethodName) prog_4_method_5_code (2 : Nat) (Option.some Jvm.ClassFile.FieldType.boolean)) ∈ lw_all := lw_g (lw_at lw_m12 5 rfl) rfl
theorem q2868 : (Jvm.Cond.castable "ColumnarPress$Edges" "java/lang/Object") ∈ lw_tbl := lw_at lw_m12 176 rfl
theorem in_X9 : ∀ w ∈ wsX90, w ∈ lw_all := lw_in wsX90 [1432, 1434] (by decide +kernel) (by decide +kernel)
/-! ColumnarPress$Lower -/
set_option maxRecDepth 100000
def RX10 : String := "ColumnarPress$Lower"
def TX10 : u_T := fun k => match k with
  | 0 => ("java/lang/Throwable", "cause", "Ljava/lang/Throwable;", false)
  | 1 => ("java/lang/Throwable", "stackTrace", "[Ljava/lang/StackTraceElement;", false)
  | 2 => ("java/lang/Throwable", "suppressedExceptions", "Ljava/util/List;", false)
  | 3 => ("java/lang/Throwable", "detailMessage", "Ljava/lang/String;", false)
  | 4 => ("java/lang/Throwable", "backtrace", "Ljava/lang/Object;", false)
  | _ => ("java/lang/Throwable", "depth", "I", false)
def tyX10 : Nat → FieldType := fun k => match k with
  | 0 => .object "java/lang/Throwable"
  | 1 => .array (.object "java/lang/StackTraceElement")
  | 2 => .object "java/util/List"
  | 3 => .object "java/lang/String"
  | 4 => .object "java/lang/Object"
  | _ => .int
abbrev wsX100 : List Cond := u_ws RX10 TX10 6
theorem nmX10 : ∀ a, a < 6 → ∀ b, b < 6 → a ≠ b → (TX10 a).2.1 ≠ (TX10 b).2.1 := by decide +kernel
theorem tyX10_ok : ∀ k, k < 6 → parseFieldDescriptor (TX10 k).2.2.1 = some (tyX10 k) := by decide +kernel
abbrev cX10_init : ByteArray := prog_8_method_1_code
def yX10_init : MethodName := ⟨RX10, "<init>", "(LColumnarPress$Narrow;)V"⟩
def dkwX10_init_0 : List UInt8 := [42, 18, 1, 43, 3, 3, 183, 0, 3, 177]
abbrev dktX10_init_0 : List UInt8 := dkwX10_init_0 ++ []
theorem dksX10_init_0 : cX10_init.data.toList.drop 0 = dktX10_init_0 := by decide +kernel
theorem dX10_init_0 : decode cX10_init 0 = .ok (.aload_n 0, 1) := dk_42 (dk_at dksX10_init_0 0 rfl rfl)
theorem dX10_init_1 : decode cX10_init 1 = .ok (.ldc 1, 2) := dk_18 1 (dk_at dksX10_init_0 1 rfl rfl)
theorem dX10_init_3 : decode cX10_init 3 = .ok (.aload_n 1, 1) := dk_43 (dk_at dksX10_init_0 3 rfl rfl)
theorem dX10_init_4 : decode cX10_init 4 = .ok (.iconst 0, 1) := dk_3 (dk_at dksX10_init_0 4 rfl rfl)
theorem dX10_init_5 : decode cX10_init 5 = .ok (.iconst 0, 1) := dk_3 (dk_at dksX10_init_0 5 rfl rfl)
theorem dX10_init_6 : decode cX10_init 6 = .ok (.invokespecial 3, 3) := dk_183 0 3 (dk_at dksX10_init_0 6 rfl rfl)
theorem dX10_init_9 : decode cX10_init 9 = .ok (.return_, 1) := dk_177 (dk_at dksX10_init_0 9 rfl rfl)
abbrev cX10_next : ByteArray := prog_8_method_2_code
def yX10_next : MethodName := ⟨RX10, "next", "()I"⟩
def dkwX10_next_1 : List UInt8 := [3, 172]
abbrev dktX10_next_1 : List UInt8 := dkwX10_next_1 ++ []
def dkwX10_next_0 : List UInt8 := [42, 182, 0, 9, 77, 44, 193, 0, 15, 153, 0, 15, 44, 192, 0, 15, 76, 43, 180, 0, 17, 167, 0, 4]
abbrev dktX10_next_0 : List UInt8 := dkwX10_next_0 ++ dktX10_next_1
theorem dksX10_next_0 : cX10_next.data.toList.drop 0 = dktX10_next_0 := by decide +kernel
theorem dksX10_next_1 : cX10_next.data.toList.drop 24 = dktX10_next_1 := dk_seg dksX10_next_0 24 rfl rfl
theorem dX10_next_0 : decode cX10_next 0 = .ok (.aload_n 0, 1) := dk_42 (dk_at dksX10_next_0 0 rfl rfl)
theorem dX10_next_1 : decode cX10_next 1 = .ok (.invokevirtual 9, 3) := dk_182 0 9 (dk_at dksX10_next_0 1 rfl rfl)
theorem dX10_next_4 : decode cX10_next 4 = .ok (.astore_n 2, 1) := dk_77 (dk_at dksX10_next_0 4 rfl rfl)
theorem dX10_next_5 : decode cX10_next 5 = .ok (.aload_n 2, 1) := dk_44 (dk_at dksX10_next_0 5 rfl rfl)
theorem dX10_next_6 : decode cX10_next 6 = .ok (.instanceof 15, 3) := dk_193 0 15 (dk_at dksX10_next_0 6 rfl rfl)
theorem dX10_next_9 : decode cX10_next 9 = .ok (.ifCond .eq 15, 3) := dk_153 0 15 (dk_at dksX10_next_0 9 rfl rfl)
theorem dX10_next_12 : decode cX10_next 12 = .ok (.aload_n 2, 1) := dk_44 (dk_at dksX10_next_0 12 rfl rfl)
theorem dX10_next_13 : decode cX10_next 13 = .ok (.checkcast 15, 3) := dk_192 0 15 (dk_at dksX10_next_0 13 rfl rfl)
theorem dX10_next_16 : decode cX10_next 16 = .ok (.astore_n 1, 1) := dk_76 (dk_at dksX10_next_0 16 rfl rfl)
theorem dX10_next_17 : decode cX10_next 17 = .ok (.aload_n 1, 1) := dk_43 (dk_at dksX10_next_0 17 rfl rfl)
theorem dX10_next_18 : decode cX10_next 18 = .ok (.getfield 17, 3) := dk_180 0 17 (dk_at dksX10_next_0 18 rfl rfl)
theorem dX10_next_21 : decode cX10_next 21 = .ok (.goto 4, 3) := dk_167 0 4 (dk_at dksX10_next_0 21 rfl rfl)
theorem dX10_next_24 : decode cX10_next 24 = .ok (.iconst 0, 1) := dk_3 (dk_at dksX10_next_1 0 rfl rfl)
theorem dX10_next_25 : decode cX10_next 25 = .ok (.ireturn, 1) := dk_172 (dk_at dksX10_next_1 1 rfl rfl)
theorem q95 : (Jvm.Cond.initialized "ColumnarPress$Lower") ∈ lw_all := lw_g (lw_at lw_m1 43 rfl) rfl
theorem q395 : (Jvm.Cond.selects "ColumnarPress$Lower" ({ cls := "java/lang/Object", name := "getClass", desc := "()Ljava/lang/Class;" } : Jvm.MethodName) ({ cls := "java/lang/Object", name := "getClass", desc := "()Ljava/lang/Class;" } : Jvm.MethodName)) ∈ lw_all := lw_g (lw_at lw_m2 103 rfl) rfl
theorem q491 : (Jvm.Cond.selects "ColumnarPress$Lower" ({ cls := "java/lang/Throwable", name := "fillInStackTrace", desc := "()Ljava/lang/Throwable;" } : Jvm.MethodName) ({ cls := "java/lang/Throwable", name := "fillInStackTrace", desc := "()Ljava/lang/Throwable;" } : Jvm.MethodName)) ∈ lw_all := lw_g (lw_at lw_m2 199 rfl) rfl
theorem q1000 : (Jvm.Cond.selects "ColumnarPress$Lower" ({ cls := "java/lang/Throwable", name := "toString", desc := "()Ljava/lang/String;" } : Jvm.MethodName) ({ cls := "java/lang/Throwable", name := "toString", desc := "()Ljava/lang/String;" } : Jvm.MethodName)) ∈ lw_all := lw_g (lw_at lw_m4 228 rfl) rfl
theorem q1014 : (Jvm.Cond.selects "ColumnarPress$Lower" ({ cls := "java/lang/Throwable", name := "getLocalizedMessage", desc := "()Ljava/lang/String;" } : Jvm.MethodName) ({ cls := "java/lang/Throwable", name := "getLocalizedMessage", desc := "()Ljava/lang/String;" } : Jvm.MethodName)) ∈ lw_all := lw_g (lw_at lw_m5 2 rfl) rfl
theorem q1027 : (Jvm.Cond.selects "ColumnarPress$Lower" ({ cls := "java/lang/Throwable", name := "getMessage", desc := "()Ljava/lang/String;" } : Jvm.MethodName) ({ cls := "java/lang/Throwable", name := "getMessage", desc := "()Ljava/lang/String;" } : Jvm.MethodName)) ∈ lw_all := lw_g (lw_at lw_m5 15 rfl) rfl
theorem q1415 : (Jvm.Cond.fieldLinkNest "ColumnarPress$Lower" (17 : Nat) "ColumnarPress$Narrow" "next" "I" "ColumnarPress") ∈ lw_tbl := lw_at lw_m6 163 rfl
theorem q1437 : (Jvm.Cond.instantiable "ColumnarPress$Lower" (6 : Nat)) ∈ lw_all := lw_g (lw_at lw_m6 185 rfl) rfl
theorem q1438 : (Jvm.Cond.castable "ColumnarPress$Lower" "ColumnarPress$Lower") ∈ lw_tbl := lw_at lw_m6 186 rfl
theorem q1439 : (Jvm.Cond.selects "ColumnarPress$Lower" ({ cls := "java/lang/Throwable", name := "fillInStackTrace", desc := "(I)Ljava/lang/Throwable;" } : Jvm.MethodName) ({ cls := "java/lang/Throwable", name := "fillInStackTrace", desc := "(I)Ljava/lang/Throwable;" } : Jvm.MethodName)) ∈ lw_all := lw_g (lw_at lw_m6 187 rfl) rfl
theorem q1440 : (Jvm.Cond.lays "ColumnarPress$Lower" "java/lang/Throwable" "cause" "Ljava/lang/Throwable;") ∈ lw_all := lw_g (lw_at lw_m6 188 rfl) rfl
theorem q1441 : (Jvm.Cond.lays "ColumnarPress$Lower" "java/lang/Throwable" "stackTrace" "[Ljava/lang/StackTraceElement;") ∈ lw_all := lw_g (lw_at lw_m6 189 rfl) rfl
theorem q1442 : (Jvm.Cond.lays "ColumnarPress$Lower" "java/lang/Throwable" "suppressedExceptions" "Ljava/util/List;") ∈ lw_all := lw_g (lw_at lw_m6 190 rfl) rfl
theorem q1443 : (Jvm.Cond.lays "ColumnarPress$Lower" "java/lang/Throwable" "detailMessage" "Ljava/lang/String;") ∈ lw_all := lw_g (lw_at lw_m6 191 rfl) rfl
theorem q1444 : (Jvm.Cond.lays "ColumnarPress$Lower" "java/lang/Throwable" "backtrace" "Ljava/lang/Object;") ∈ lw_all := lw_g (lw_at lw_m6 192 rfl) rfl
theorem q1446 : (Jvm.Cond.instanceMethod ({ cls := "ColumnarPress$Lower", name := "<init>", desc := "(LColumnarPress$Narrow;)V" } : Jvm.MethodName)) ∈ lw_all := lw_g (lw_at lw_m6 194 rfl) rfl
theorem q1447 : (Jvm.Cond.code ({ cls := "ColumnarPress$Lower", name := "<init>", desc := "(LColumnarPress$Narrow;)V" } : Jvm.MethodName) prog_8_method_1_code (2 : Nat) (Option.none : Option Jvm.ClassFile.FieldType)) ∈ lw_all := lw_g (lw_at lw_m6 195 rfl) rfl
theorem q1448 : (Jvm.Cond.stringRef "ColumnarPress$Lower" (1 : Nat) "") ∈ lw_tbl := lw_at lw_m6 196 rfl
theorem q1449 : (Jvm.Cond.methodLink "ColumnarPress$Lower" (3 : Nat) ({ cls := "java/lang/Exception", name := "<init>", desc := "(Ljava/lang/String;Ljava/lang/Throwable;ZZ)V" } : Jvm.MethodName)) ∈ lw_all := lw_g (lw_at lw_m6 197 rfl) rfl
theorem q1450 : (Jvm.Cond.lays "ColumnarPress$Lower" "java/lang/Throwable" "depth" "I") ∈ lw_all := lw_g (lw_at lw_m6 198 rfl) rfl
theorem q1451 : (Jvm.Cond.superclass "ColumnarPress$Lower" "java/lang/Exception") ∈ lw_all := lw_g (lw_at lw_m6 199 rfl) rfl
theorem q1491 : (Jvm.Cond.instanceMethod ({ cls := "ColumnarPress$Lower", name := "next", desc := "()I" } : Jvm.MethodName)) ∈ lw_all := lw_g (lw_at lw_m6 239 rfl) rfl
theorem q1492 : (Jvm.Cond.selects "ColumnarPress$Lower" ({ cls := "ColumnarPress$Lower", name := "next", desc := "()I" } : Jvm.MethodName) ({ cls := "ColumnarPress$Lower", name := "next", desc := "()I" } : Jvm.MethodName)) ∈ lw_all := lw_g (lw_at lw_m7 0 rfl) rfl
theorem q1493 : (Jvm.Cond.code ({ cls := "ColumnarPress$Lower", name := "next", desc := "()I" } : Jvm.MethodName) prog_8_method_2_code (3 : Nat) (Option.some Jvm.ClassFile.FieldType.int)) ∈ lw_all := lw_g (lw_at lw_m7 1 rfl) rfl
theorem q1494 : (Jvm.Cond.methodLink "ColumnarPress$Lower" (9 : Nat) ({ cls := "ColumnarPress$Lower", name := "getCause", desc := "()Ljava/lang/Throwable;" } : Jvm.MethodName)) ∈ lw_all := lw_g (lw_at lw_m7 2 rfl) rfl
theorem q1495 : (Jvm.Cond.sameMethod "ColumnarPress$Lower" "java/lang/Throwable" "getCause" "()Ljava/lang/Throwable;") ∈ lw_all := lw_g (lw_at lw_m7 3 rfl) rfl
theorem q1497 : (Jvm.Cond.selects "ColumnarPress$Lower" ({ cls := "ColumnarPress$Lower", name := "getCause", desc := "()Ljava/lang/Throwable;" } : Jvm.MethodName) ({ cls := "java/lang/Throwable", name := "getCause", desc := "()Ljava/lang/Throwable;" } : Jvm.MethodName)) ∈ lw_all := lw_g (lw_at lw_m7 5 rfl) rfl
theorem q1500 : (Jvm.Cond.classLink "ColumnarPress$Lower" (15 : Nat) "ColumnarPress$Narrow") ∈ lw_all := lw_g (lw_at lw_m7 8 rfl) rfl
theorem q2705 : (Jvm.Cond.selects "ColumnarPress$Lower" ({ cls := "java/lang/Object", name := "equals", desc := "(Ljava/lang/Object;)Z" } : Jvm.MethodName) ({ cls := "java/lang/Object", name := "equals", desc := "(Ljava/lang/Object;)Z" } : Jvm.MethodName)) ∈ lw_all := lw_g (lw_at lw_m12 13 rfl) rfl
theorem q2869 : (Jvm.Cond.castable "ColumnarPress$Lower" "java/lang/Object") ∈ lw_tbl := lw_at lw_m12 177 rfl
theorem in_X10 : ∀ w ∈ wsX100, w ∈ lw_all := lw_in wsX100 [1440, 1441, 1442, 1443, 1444, 1450] (by decide +kernel) (by decide +kernel)
/-! ColumnarPress$Line -/
set_option maxRecDepth 100000
def RX11 : String := "ColumnarPress$Line"
def TX11 : u_T := fun k => match k with
  | 0 => ("ColumnarPress$Line", "x", "I", true)
  | 1 => ("ColumnarPress$Line", "y", "I", true)
  | _ => ("ColumnarPress$Line", "words", "I", true)
def tyX11 : Nat → FieldType := fun k => match k with
  | 0 => .int
  | 1 => .int
  | _ => .int
abbrev wsX110 : List Cond := u_ws RX11 TX11 3
theorem nmX11 : ∀ a, a < 3 → ∀ b, b < 3 → a ≠ b → (TX11 a).2.1 ≠ (TX11 b).2.1 := by decide +kernel
theorem tyX11_ok : ∀ k, k < 3 → parseFieldDescriptor (TX11 k).2.2.1 = some (tyX11 k) := by decide +kernel
abbrev cX11_init : ByteArray := prog_7_method_1_code
def yX11_init : MethodName := ⟨RX11, "<init>", "(III)V"⟩
def dkwX11_init_0 : List UInt8 := [42, 183, 0, 1, 42, 27, 181, 0, 7, 42, 28, 181, 0, 13, 42, 29, 181, 0, 16, 177]
abbrev dktX11_init_0 : List UInt8 := dkwX11_init_0 ++ []
theorem dksX11_init_0 : cX11_init.data.toList.drop 0 = dktX11_init_0 := by decide +kernel
theorem dX11_init_0 : decode cX11_init 0 = .ok (.aload_n 0, 1) := dk_42 (dk_at dksX11_init_0 0 rfl rfl)
theorem dX11_init_1 : decode cX11_init 1 = .ok (.invokespecial 1, 3) := dk_183 0 1 (dk_at dksX11_init_0 1 rfl rfl)
theorem dX11_init_4 : decode cX11_init 4 = .ok (.aload_n 0, 1) := dk_42 (dk_at dksX11_init_0 4 rfl rfl)
theorem dX11_init_5 : decode cX11_init 5 = .ok (.iload_n 1, 1) := dk_27 (dk_at dksX11_init_0 5 rfl rfl)
theorem dX11_init_6 : decode cX11_init 6 = .ok (.putfield 7, 3) := dk_181 0 7 (dk_at dksX11_init_0 6 rfl rfl)
theorem dX11_init_9 : decode cX11_init 9 = .ok (.aload_n 0, 1) := dk_42 (dk_at dksX11_init_0 9 rfl rfl)
theorem dX11_init_10 : decode cX11_init 10 = .ok (.iload_n 2, 1) := dk_28 (dk_at dksX11_init_0 10 rfl rfl)
theorem dX11_init_11 : decode cX11_init 11 = .ok (.putfield 13, 3) := dk_181 0 13 (dk_at dksX11_init_0 11 rfl rfl)
theorem dX11_init_14 : decode cX11_init 14 = .ok (.aload_n 0, 1) := dk_42 (dk_at dksX11_init_0 14 rfl rfl)
theorem dX11_init_15 : decode cX11_init 15 = .ok (.iload_n 3, 1) := dk_29 (dk_at dksX11_init_0 15 rfl rfl)
theorem dX11_init_16 : decode cX11_init 16 = .ok (.putfield 16, 3) := dk_181 0 16 (dk_at dksX11_init_0 16 rfl rfl)
theorem dX11_init_19 : decode cX11_init 19 = .ok (.return_, 1) := dk_177 (dk_at dksX11_init_0 19 rfl rfl)
abbrev cX11_x : ByteArray := prog_7_method_6_code
def yX11_x : MethodName := ⟨RX11, "x", "()I"⟩
theorem dX11_x_0 : decode cX11_x 0 = .ok (.aload_n 0, 1) := by decide +kernel
theorem dX11_x_1 : decode cX11_x 1 = .ok (.getfield 7, 3) := by decide +kernel
theorem dX11_x_4 : decode cX11_x 4 = .ok (.ireturn, 1) := by decide +kernel
abbrev cX11_y : ByteArray := prog_7_method_7_code
def yX11_y : MethodName := ⟨RX11, "y", "()I"⟩
theorem dX11_y_0 : decode cX11_y 0 = .ok (.aload_n 0, 1) := by decide +kernel
theorem dX11_y_1 : decode cX11_y 1 = .ok (.getfield 13, 3) := by decide +kernel
theorem dX11_y_4 : decode cX11_y 4 = .ok (.ireturn, 1) := by decide +kernel
abbrev cX11_words : ByteArray := prog_7_method_8_code
def yX11_words : MethodName := ⟨RX11, "words", "()I"⟩
theorem dX11_words_0 : decode cX11_words 0 = .ok (.aload_n 0, 1) := by decide +kernel
theorem dX11_words_1 : decode cX11_words 1 = .ok (.getfield 16, 3) := by decide +kernel
theorem dX11_words_4 : decode cX11_words 4 = .ok (.ireturn, 1) := by decide +kernel
abbrev cX11_isLike : ByteArray := prog_7_method_2_code
def yX11_isLike : MethodName := ⟨RX11, "isLike", "(LColumnarPress$Line;)Z"⟩
def dkwX11_isLike_1 : List UInt8 := [180, 0, 16, 43, 180, 0, 16, 160, 0, 7, 4, 167, 0, 4, 3, 172]
abbrev dktX11_isLike_1 : List UInt8 := dkwX11_isLike_1 ++ []
def dkwX11_isLike_0 : List UInt8 := [42, 180, 0, 7, 43, 180, 0, 7, 160, 0, 29, 42, 180, 0, 13, 43, 180, 0, 13, 160, 0, 18, 42]
abbrev dktX11_isLike_0 : List UInt8 := dkwX11_isLike_0 ++ dktX11_isLike_1
theorem dksX11_isLike_0 : cX11_isLike.data.toList.drop 0 = dktX11_isLike_0 := by decide +kernel
theorem dksX11_isLike_1 : cX11_isLike.data.toList.drop 23 = dktX11_isLike_1 := dk_seg dksX11_isLike_0 23 rfl rfl
theorem dX11_isLike_0 : decode cX11_isLike 0 = .ok (.aload_n 0, 1) := dk_42 (dk_at dksX11_isLike_0 0 rfl rfl)
theorem dX11_isLike_1 : decode cX11_isLike 1 = .ok (.getfield 7, 3) := dk_180 0 7 (dk_at dksX11_isLike_0 1 rfl rfl)
theorem dX11_isLike_4 : decode cX11_isLike 4 = .ok (.aload_n 1, 1) := dk_43 (dk_at dksX11_isLike_0 4 rfl rfl)
theorem dX11_isLike_5 : decode cX11_isLike 5 = .ok (.getfield 7, 3) := dk_180 0 7 (dk_at dksX11_isLike_0 5 rfl rfl)
theorem dX11_isLike_8 : decode cX11_isLike 8 = .ok (.if_icmp .ne 29, 3) := dk_160 0 29 (dk_at dksX11_isLike_0 8 rfl rfl)
theorem dX11_isLike_11 : decode cX11_isLike 11 = .ok (.aload_n 0, 1) := dk_42 (dk_at dksX11_isLike_0 11 rfl rfl)
theorem dX11_isLike_12 : decode cX11_isLike 12 = .ok (.getfield 13, 3) := dk_180 0 13 (dk_at dksX11_isLike_0 12 rfl rfl)
theorem dX11_isLike_15 : decode cX11_isLike 15 = .ok (.aload_n 1, 1) := dk_43 (dk_at dksX11_isLike_0 15 rfl rfl)
theorem dX11_isLike_16 : decode cX11_isLike 16 = .ok (.getfield 13, 3) := dk_180 0 13 (dk_at dksX11_isLike_0 16 rfl rfl)
theorem dX11_isLike_19 : decode cX11_isLike 19 = .ok (.if_icmp .ne 18, 3) := dk_160 0 18 (dk_at dksX11_isLike_0 19 rfl rfl)
theorem dX11_isLike_22 : decode cX11_isLike 22 = .ok (.aload_n 0, 1) := dk_42 (dk_at dksX11_isLike_0 22 rfl rfl)
theorem dX11_isLike_23 : decode cX11_isLike 23 = .ok (.getfield 16, 3) := dk_180 0 16 (dk_at dksX11_isLike_1 0 rfl rfl)
theorem dX11_isLike_26 : decode cX11_isLike 26 = .ok (.aload_n 1, 1) := dk_43 (dk_at dksX11_isLike_1 3 rfl rfl)
theorem dX11_isLike_27 : decode cX11_isLike 27 = .ok (.getfield 16, 3) := dk_180 0 16 (dk_at dksX11_isLike_1 4 rfl rfl)
theorem dX11_isLike_30 : decode cX11_isLike 30 = .ok (.if_icmp .ne 7, 3) := dk_160 0 7 (dk_at dksX11_isLike_1 7 rfl rfl)
theorem dX11_isLike_33 : decode cX11_isLike 33 = .ok (.iconst 1, 1) := dk_4 (dk_at dksX11_isLike_1 10 rfl rfl)
theorem dX11_isLike_34 : decode cX11_isLike 34 = .ok (.goto 4, 3) := dk_167 0 4 (dk_at dksX11_isLike_1 11 rfl rfl)
theorem dX11_isLike_37 : decode cX11_isLike 37 = .ok (.iconst 0, 1) := dk_3 (dk_at dksX11_isLike_1 14 rfl rfl)
theorem dX11_isLike_38 : decode cX11_isLike 38 = .ok (.ireturn, 1) := dk_172 (dk_at dksX11_isLike_1 15 rfl rfl)
abbrev cX11_equals : ByteArray := prog_7_method_5_code
def yX11_equals : MethodName := ⟨RX11, "equals", "(Ljava/lang/Object;)Z"⟩
def dkwX11_equals_0 : List UInt8 := [42, 43, 186, 0, 27, 0, 0, 172]
abbrev dktX11_equals_0 : List UInt8 := dkwX11_equals_0 ++ []
theorem dksX11_equals_0 : cX11_equals.data.toList.drop 0 = dktX11_equals_0 := by decide +kernel
theorem dX11_equals_0 : decode cX11_equals 0 = .ok (.aload_n 0, 1) := dk_42 (dk_at dksX11_equals_0 0 rfl rfl)
theorem dX11_equals_1 : decode cX11_equals 1 = .ok (.aload_n 1, 1) := dk_43 (dk_at dksX11_equals_0 1 rfl rfl)
theorem dX11_equals_2 : decode cX11_equals 2 = .ok (.invokedynamic 27, 5) := by decide +kernel
theorem dX11_equals_7 : decode cX11_equals 7 = .ok (.ireturn, 1) := dk_172 (dk_at dksX11_equals_0 7 rfl rfl)
theorem q96 : (Jvm.Cond.initialized "ColumnarPress$Line") ∈ lw_all := lw_g (lw_at lw_m1 44 rfl) rfl
theorem q394 : (Jvm.Cond.selects "ColumnarPress$Line" ({ cls := "java/lang/Object", name := "getClass", desc := "()Ljava/lang/Class;" } : Jvm.MethodName) ({ cls := "java/lang/Object", name := "getClass", desc := "()Ljava/lang/Class;" } : Jvm.MethodName)) ∈ lw_all := lw_g (lw_at lw_m2 102 rfl) rfl
theorem q1457 : (Jvm.Cond.instantiable "ColumnarPress$Line" (3 : Nat)) ∈ lw_all := lw_g (lw_at lw_m6 205 rfl) rfl
theorem q1463 : (Jvm.Cond.instanceMethod ({ cls := "ColumnarPress$Line", name := "<init>", desc := "(III)V" } : Jvm.MethodName)) ∈ lw_all := lw_g (lw_at lw_m6 211 rfl) rfl
theorem q1464 : (Jvm.Cond.code ({ cls := "ColumnarPress$Line", name := "<init>", desc := "(III)V" } : Jvm.MethodName) prog_7_method_1_code (4 : Nat) (Option.none : Option Jvm.ClassFile.FieldType)) ∈ lw_all := lw_g (lw_at lw_m6 212 rfl) rfl
theorem q1465 : (Jvm.Cond.methodLink "ColumnarPress$Line" (1 : Nat) ({ cls := "java/lang/Record", name := "<init>", desc := "()V" } : Jvm.MethodName)) ∈ lw_all := lw_g (lw_at lw_m6 213 rfl) rfl
theorem q1466 : (Jvm.Cond.fieldLink "ColumnarPress$Line" (7 : Nat) "ColumnarPress$Line" "x" "I") ∈ lw_all := lw_g (lw_at lw_m6 214 rfl) rfl
theorem q1467 : (Jvm.Cond.fieldLink "ColumnarPress$Line" (13 : Nat) "ColumnarPress$Line" "y" "I") ∈ lw_all := lw_g (lw_at lw_m6 215 rfl) rfl
theorem q1468 : (Jvm.Cond.fieldLink "ColumnarPress$Line" (16 : Nat) "ColumnarPress$Line" "words" "I") ∈ lw_all := lw_g (lw_at lw_m6 216 rfl) rfl
theorem q1469 : (Jvm.Cond.laysFinal "ColumnarPress$Line" "ColumnarPress$Line" "x" "I") ∈ lw_all := lw_g (lw_at lw_m6 217 rfl) rfl
theorem q1470 : (Jvm.Cond.soleField "ColumnarPress$Line" "x") ∈ lw_all := lw_g (lw_at lw_m6 218 rfl) rfl
theorem q1471 : (Jvm.Cond.laysFinal "ColumnarPress$Line" "ColumnarPress$Line" "y" "I") ∈ lw_all := lw_g (lw_at lw_m6 219 rfl) rfl
theorem q1472 : (Jvm.Cond.soleField "ColumnarPress$Line" "y") ∈ lw_all := lw_g (lw_at lw_m6 220 rfl) rfl
theorem q1473 : (Jvm.Cond.laysFinal "ColumnarPress$Line" "ColumnarPress$Line" "words" "I") ∈ lw_all := lw_g (lw_at lw_m6 221 rfl) rfl
theorem q1474 : (Jvm.Cond.soleField "ColumnarPress$Line" "words") ∈ lw_all := lw_g (lw_at lw_m6 222 rfl) rfl
theorem q1475 : (Jvm.Cond.superclass "ColumnarPress$Line" "java/lang/Record") ∈ lw_all := lw_g (lw_at lw_m6 223 rfl) rfl
theorem q1477 : (Jvm.Cond.instanceMethod ({ cls := "ColumnarPress$Line", name := "x", desc := "()I" } : Jvm.MethodName)) ∈ lw_all := lw_g (lw_at lw_m6 225 rfl) rfl
theorem q1478 : (Jvm.Cond.selects "ColumnarPress$Line" ({ cls := "ColumnarPress$Line", name := "x", desc := "()I" } : Jvm.MethodName) ({ cls := "ColumnarPress$Line", name := "x", desc := "()I" } : Jvm.MethodName)) ∈ lw_all := lw_g (lw_at lw_m6 226 rfl) rfl
theorem q1479 : (Jvm.Cond.code ({ cls := "ColumnarPress$Line", name := "x", desc := "()I" } : Jvm.MethodName) prog_7_method_6_code (1 : Nat) (Option.some Jvm.ClassFile.FieldType.int)) ∈ lw_all := lw_g (lw_at lw_m6 227 rfl) rfl
theorem q1481 : (Jvm.Cond.instanceMethod ({ cls := "ColumnarPress$Line", name := "y", desc := "()I" } : Jvm.MethodName)) ∈ lw_all := lw_g (lw_at lw_m6 229 rfl) rfl
theorem q1482 : (Jvm.Cond.selects "ColumnarPress$Line" ({ cls := "ColumnarPress$Line", name := "y", desc := "()I" } : Jvm.MethodName) ({ cls := "ColumnarPress$Line", name := "y", desc := "()I" } : Jvm.MethodName)) ∈ lw_all := lw_g (lw_at lw_m6 230 rfl) rfl
theorem q1483 : (Jvm.Cond.code ({ cls := "ColumnarPress$Line", name := "y", desc := "()I" } : Jvm.MethodName) prog_7_method_7_code (1 : Nat) (Option.some Jvm.ClassFile.FieldType.int)) ∈ lw_all := lw_g (lw_at lw_m6 231 rfl) rfl
theorem q1485 : (Jvm.Cond.instanceMethod ({ cls := "ColumnarPress$Line", name := "words", desc := "()I" } : Jvm.MethodName)) ∈ lw_all := lw_g (lw_at lw_m6 233 rfl) rfl
theorem q1486 : (Jvm.Cond.selects "ColumnarPress$Line" ({ cls := "ColumnarPress$Line", name := "words", desc := "()I" } : Jvm.MethodName) ({ cls := "ColumnarPress$Line", name := "words", desc := "()I" } : Jvm.MethodName)) ∈ lw_all := lw_g (lw_at lw_m6 234 rfl) rfl
theorem q1487 : (Jvm.Cond.code ({ cls := "ColumnarPress$Line", name := "words", desc := "()I" } : Jvm.MethodName) prog_7_method_8_code (1 : Nat) (Option.some Jvm.ClassFile.FieldType.int)) ∈ lw_all := lw_g (lw_at lw_m6 235 rfl) rfl
theorem q1600 : (Jvm.Cond.instanceMethod ({ cls := "ColumnarPress$Line", name := "isLike", desc := "(LColumnarPress$Line;)Z" } : Jvm.MethodName)) ∈ lw_all := lw_g (lw_at lw_m7 108 rfl) rfl
theorem q1601 : (Jvm.Cond.selects "ColumnarPress$Line" ({ cls := "ColumnarPress$Line", name := "isLike", desc := "(LColumnarPress$Line;)Z" } : Jvm.MethodName) ({ cls := "ColumnarPress$Line", name := "isLike", desc := "(LColumnarPress$Line;)Z" } : Jvm.MethodName)) ∈ lw_all := lw_g (lw_at lw_m7 109 rfl) rfl
theorem q1602 : (Jvm.Cond.code ({ cls := "ColumnarPress$Line", name := "isLike", desc := "(LColumnarPress$Line;)Z" } : Jvm.MethodName) prog_7_method_2_code (2 : Nat) (Option.some Jvm.ClassFile.FieldType.boolean)) ∈ lw_all := lw_g (lw_at lw_m7 110 rfl) rfl
theorem q2702 : (Jvm.Cond.selects "ColumnarPress$Line" ({ cls := "java/lang/Object", name := "equals", desc := "(Ljava/lang/Object;)Z" } : Jvm.MethodName) ({ cls := "ColumnarPress$Line", name := "equals", desc := "(Ljava/lang/Object;)Z" } : Jvm.MethodName)) ∈ lw_all := lw_g (lw_at lw_m12 10 rfl) rfl
theorem q2703 : (Jvm.Cond.instanceMethod ({ cls := "ColumnarPress$Line", name := "equals", desc := "(Ljava/lang/Object;)Z" } : Jvm.MethodName)) ∈ lw_all := lw_g (lw_at lw_m12 11 rfl) rfl
theorem q2704 : (Jvm.Cond.code ({ cls := "ColumnarPress$Line", name := "equals", desc := "(Ljava/lang/Object;)Z" } : Jvm.MethodName) prog_7_method_5_code (2 : Nat) (Option.some Jvm.ClassFile.FieldType.boolean)) ∈ lw_all := lw_g (lw_at lw_m12 12 rfl) rfl
theorem q2870 : (Jvm.Cond.castable "ColumnarPress$Line" "java/lang/Object") ∈ lw_tbl := lw_at lw_m12 178 rfl
theorem in_X11 : ∀ w ∈ wsX110, w ∈ lw_all := lw_in wsX110 [1469, 1471, 1473] (by decide +kernel) (by decide +kernel)
/-! ColumnarPress$Floated -/
set_option maxRecDepth 100000
def RX12 : String := "ColumnarPress$Floated"
def TX12 : u_T := fun k => match k with
  | 0 => ("ColumnarPress$Floated", "x", "I", true)
  | 1 => ("ColumnarPress$Floated", "y", "I", true)
  | 2 => ("ColumnarPress$Floated", "width", "I", true)
  | 3 => ("ColumnarPress$Floated", "height", "I", true)
  | _ => ("ColumnarPress$Floated", "side", "C", true)
def tyX12 : Nat → FieldType := fun k => match k with
  | 0 => .int
  | 1 => .int
  | 2 => .int
  | 3 => .int
  | _ => .char
abbrev wsX120 : List Cond := u_ws RX12 TX12 5
theorem nmX12 : ∀ a, a < 5 → ∀ b, b < 5 → a ≠ b → (TX12 a).2.1 ≠ (TX12 b).2.1 := by decide +kernel
theorem tyX12_ok : ∀ k, k < 5 → parseFieldDescriptor (TX12 k).2.2.1 = some (tyX12 k) := by decide +kernel
abbrev cX12_liesIn : ByteArray := prog_5_method_3_code
def yX12_liesIn : MethodName := ⟨RX12, "liesIn", "(II)Z"⟩
def dkwX12_liesIn_0 : List UInt8 := [42, 180, 0, 13, 28, 162, 0, 15, 42, 182, 0, 32, 27, 164, 0, 7, 4, 167, 0, 4, 3, 172]
abbrev dktX12_liesIn_0 : List UInt8 := dkwX12_liesIn_0 ++ []
theorem dksX12_liesIn_0 : cX12_liesIn.data.toList.drop 0 = dktX12_liesIn_0 := by decide +kernel
theorem dX12_liesIn_0 : decode cX12_liesIn 0 = .ok (.aload_n 0, 1) := dk_42 (dk_at dksX12_liesIn_0 0 rfl rfl)
theorem dX12_liesIn_1 : decode cX12_liesIn 1 = .ok (.getfield 13, 3) := dk_180 0 13 (dk_at dksX12_liesIn_0 1 rfl rfl)
theorem dX12_liesIn_4 : decode cX12_liesIn 4 = .ok (.iload_n 2, 1) := dk_28 (dk_at dksX12_liesIn_0 4 rfl rfl)
theorem dX12_liesIn_5 : decode cX12_liesIn 5 = .ok (.if_icmp .ge 15, 3) := dk_162 0 15 (dk_at dksX12_liesIn_0 5 rfl rfl)
theorem dX12_liesIn_8 : decode cX12_liesIn 8 = .ok (.aload_n 0, 1) := dk_42 (dk_at dksX12_liesIn_0 8 rfl rfl)
theorem dX12_liesIn_9 : decode cX12_liesIn 9 = .ok (.invokevirtual 32, 3) := dk_182 0 32 (dk_at dksX12_liesIn_0 9 rfl rfl)
theorem dX12_liesIn_12 : decode cX12_liesIn 12 = .ok (.iload_n 1, 1) := dk_27 (dk_at dksX12_liesIn_0 12 rfl rfl)
theorem dX12_liesIn_13 : decode cX12_liesIn 13 = .ok (.if_icmp .le 7, 3) := dk_164 0 7 (dk_at dksX12_liesIn_0 13 rfl rfl)
theorem dX12_liesIn_16 : decode cX12_liesIn 16 = .ok (.iconst 1, 1) := dk_4 (dk_at dksX12_liesIn_0 16 rfl rfl)
theorem dX12_liesIn_17 : decode cX12_liesIn 17 = .ok (.goto 4, 3) := dk_167 0 4 (dk_at dksX12_liesIn_0 17 rfl rfl)
theorem dX12_liesIn_20 : decode cX12_liesIn 20 = .ok (.iconst 0, 1) := dk_3 (dk_at dksX12_liesIn_0 20 rfl rfl)
theorem dX12_liesIn_21 : decode cX12_liesIn 21 = .ok (.ireturn, 1) := dk_172 (dk_at dksX12_liesIn_0 21 rfl rfl)
abbrev cX12_end : ByteArray := prog_5_method_2_code
def yX12_end : MethodName := ⟨RX12, "end", "()I"⟩
def dkwX12_end_0 : List UInt8 := [42, 180, 0, 13, 4, 42, 180, 0, 19, 184, 0, 26, 96, 172]
abbrev dktX12_end_0 : List UInt8 := dkwX12_end_0 ++ []
theorem dksX12_end_0 : cX12_end.data.toList.drop 0 = dktX12_end_0 := by decide +kernel
theorem dX12_end_0 : decode cX12_end 0 = .ok (.aload_n 0, 1) := dk_42 (dk_at dksX12_end_0 0 rfl rfl)
theorem dX12_end_1 : decode cX12_end 1 = .ok (.getfield 13, 3) := dk_180 0 13 (dk_at dksX12_end_0 1 rfl rfl)
theorem dX12_end_4 : decode cX12_end 4 = .ok (.iconst 1, 1) := dk_4 (dk_at dksX12_end_0 4 rfl rfl)
theorem dX12_end_5 : decode cX12_end 5 = .ok (.aload_n 0, 1) := dk_42 (dk_at dksX12_end_0 5 rfl rfl)
theorem dX12_end_6 : decode cX12_end 6 = .ok (.getfield 19, 3) := dk_180 0 19 (dk_at dksX12_end_0 6 rfl rfl)
theorem dX12_end_9 : decode cX12_end 9 = .ok (.invokestatic 26, 3) := dk_184 0 26 (dk_at dksX12_end_0 9 rfl rfl)
theorem dX12_end_12 : decode cX12_end 12 = .ok (.iadd, 1) := dk_96 (dk_at dksX12_end_0 12 rfl rfl)
theorem dX12_end_13 : decode cX12_end 13 = .ok (.ireturn, 1) := dk_172 (dk_at dksX12_end_0 13 rfl rfl)
abbrev cX12_side : ByteArray := prog_5_method_11_code
def yX12_side : MethodName := ⟨RX12, "side", "()C"⟩
theorem dX12_side_0 : decode cX12_side 0 = .ok (.aload_n 0, 1) := by decide +kernel
theorem dX12_side_1 : decode cX12_side 1 = .ok (.getfield 22, 3) := by decide +kernel
theorem dX12_side_4 : decode cX12_side 4 = .ok (.ireturn, 1) := by decide +kernel
abbrev cX12_x : ByteArray := prog_5_method_7_code
def yX12_x : MethodName := ⟨RX12, "x", "()I"⟩
theorem dX12_x_0 : decode cX12_x 0 = .ok (.aload_n 0, 1) := by decide +kernel
theorem dX12_x_1 : decode cX12_x 1 = .ok (.getfield 7, 3) := by decide +kernel
theorem dX12_x_4 : decode cX12_x 4 = .ok (.ireturn, 1) := by decide +kernel
abbrev cX12_width : ByteArray := prog_5_method_9_code
def yX12_width : MethodName := ⟨RX12, "width", "()I"⟩
theorem dX12_width_0 : decode cX12_width 0 = .ok (.aload_n 0, 1) := by decide +kernel
theorem dX12_width_1 : decode cX12_width 1 = .ok (.getfield 16, 3) := by decide +kernel
theorem dX12_width_4 : decode cX12_width 4 = .ok (.ireturn, 1) := by decide +kernel
abbrev cX12_y : ByteArray := prog_5_method_8_code
def yX12_y : MethodName := ⟨RX12, "y", "()I"⟩
theorem dX12_y_0 : decode cX12_y 0 = .ok (.aload_n 0, 1) := by decide +kernel
theorem dX12_y_1 : decode cX12_y 1 = .ok (.getfield 13, 3) := by decide +kernel
theorem dX12_y_4 : decode cX12_y 4 = .ok (.ireturn, 1) := by decide +kernel
abbrev cX12_init : ByteArray := prog_5_method_1_code
def yX12_init : MethodName := ⟨RX12, "<init>", "(IIIIC)V"⟩
def dkwX12_init_1 : List UInt8 := [181, 0, 19, 42, 21, 5, 181, 0, 22, 177]
abbrev dktX12_init_1 : List UInt8 := dkwX12_init_1 ++ []
def dkwX12_init_0 : List UInt8 := [42, 183, 0, 1, 42, 27, 181, 0, 7, 42, 28, 181, 0, 13, 42, 29, 181, 0, 16, 42, 21, 4]
abbrev dktX12_init_0 : List UInt8 := dkwX12_init_0 ++ dktX12_init_1
theorem dksX12_init_0 : cX12_init.data.toList.drop 0 = dktX12_init_0 := by decide +kernel
theorem dksX12_init_1 : cX12_init.data.toList.drop 22 = dktX12_init_1 := dk_seg dksX12_init_0 22 rfl rfl
theorem dX12_init_0 : decode cX12_init 0 = .ok (.aload_n 0, 1) := dk_42 (dk_at dksX12_init_0 0 rfl rfl)
theorem dX12_init_1 : decode cX12_init 1 = .ok (.invokespecial 1, 3) := dk_183 0 1 (dk_at dksX12_init_0 1 rfl rfl)
theorem dX12_init_4 : decode cX12_init 4 = .ok (.aload_n 0, 1) := dk_42 (dk_at dksX12_init_0 4 rfl rfl)
theorem dX12_init_5 : decode cX12_init 5 = .ok (.iload_n 1, 1) := dk_27 (dk_at dksX12_init_0 5 rfl rfl)
theorem dX12_init_6 : decode cX12_init 6 = .ok (.putfield 7, 3) := dk_181 0 7 (dk_at dksX12_init_0 6 rfl rfl)
theorem dX12_init_9 : decode cX12_init 9 = .ok (.aload_n 0, 1) := dk_42 (dk_at dksX12_init_0 9 rfl rfl)
theorem dX12_init_10 : decode cX12_init 10 = .ok (.iload_n 2, 1) := dk_28 (dk_at dksX12_init_0 10 rfl rfl)
theorem dX12_init_11 : decode cX12_init 11 = .ok (.putfield 13, 3) := dk_181 0 13 (dk_at dksX12_init_0 11 rfl rfl)
theorem dX12_init_14 : decode cX12_init 14 = .ok (.aload_n 0, 1) := dk_42 (dk_at dksX12_init_0 14 rfl rfl)
theorem dX12_init_15 : decode cX12_init 15 = .ok (.iload_n 3, 1) := dk_29 (dk_at dksX12_init_0 15 rfl rfl)
theorem dX12_init_16 : decode cX12_init 16 = .ok (.putfield 16, 3) := dk_181 0 16 (dk_at dksX12_init_0 16 rfl rfl)
theorem dX12_init_19 : decode cX12_init 19 = .ok (.aload_n 0, 1) := dk_42 (dk_at dksX12_init_0 19 rfl rfl)
theorem dX12_init_20 : decode cX12_init 20 = .ok (.iload 4, 2) := dk_21 4 (dk_at dksX12_init_0 20 rfl rfl)
theorem dX12_init_22 : decode cX12_init 22 = .ok (.putfield 19, 3) := dk_181 0 19 (dk_at dksX12_init_1 0 rfl rfl)
theorem dX12_init_25 : decode cX12_init 25 = .ok (.aload_n 0, 1) := dk_42 (dk_at dksX12_init_1 3 rfl rfl)
theorem dX12_init_26 : decode cX12_init 26 = .ok (.iload 5, 2) := dk_21 5 (dk_at dksX12_init_1 4 rfl rfl)
theorem dX12_init_28 : decode cX12_init 28 = .ok (.putfield 22, 3) := dk_181 0 22 (dk_at dksX12_init_1 6 rfl rfl)
theorem dX12_init_31 : decode cX12_init 31 = .ok (.return_, 1) := dk_177 (dk_at dksX12_init_1 9 rfl rfl)
abbrev cX12_height : ByteArray := prog_5_method_10_code
def yX12_height : MethodName := ⟨RX12, "height", "()I"⟩
theorem dX12_height_0 : decode cX12_height 0 = .ok (.aload_n 0, 1) := by decide +kernel
theorem dX12_height_1 : decode cX12_height 1 = .ok (.getfield 19, 3) := by decide +kernel
theorem dX12_height_4 : decode cX12_height 4 = .ok (.ireturn, 1) := by decide +kernel
abbrev cX12_equals : ByteArray := prog_5_method_6_code
def yX12_equals : MethodName := ⟨RX12, "equals", "(Ljava/lang/Object;)Z"⟩
def dkwX12_equals_0 : List UInt8 := [42, 43, 186, 0, 44, 0, 0, 172]
abbrev dktX12_equals_0 : List UInt8 := dkwX12_equals_0 ++ []
theorem dksX12_equals_0 : cX12_equals.data.toList.drop 0 = dktX12_equals_0 := by decide +kernel
theorem dX12_equals_0 : decode cX12_equals 0 = .ok (.aload_n 0, 1) := dk_42 (dk_at dksX12_equals_0 0 rfl rfl)
theorem dX12_equals_1 : decode cX12_equals 1 = .ok (.aload_n 1, 1) := dk_43 (dk_at dksX12_equals_0 1 rfl rfl)
theorem dX12_equals_2 : decode cX12_equals 2 = .ok (.invokedynamic 44, 5) := by decide +kernel
theorem dX12_equals_7 : decode cX12_equals 7 = .ok (.ireturn, 1) := dk_172 (dk_at dksX12_equals_0 7 rfl rfl)
theorem q97 : (Jvm.Cond.initialized "ColumnarPress$Floated") ∈ lw_all := lw_g (lw_at lw_m1 45 rfl) rfl
theorem q392 : (Jvm.Cond.selects "ColumnarPress$Floated" ({ cls := "java/lang/Object", name := "getClass", desc := "()Ljava/lang/Class;" } : Jvm.MethodName) ({ cls := "java/lang/Object", name := "getClass", desc := "()Ljava/lang/Class;" } : Jvm.MethodName)) ∈ lw_all := lw_g (lw_at lw_m2 100 rfl) rfl
theorem q1373 : (Jvm.Cond.instanceMethod ({ cls := "ColumnarPress$Floated", name := "liesIn", desc := "(II)Z" } : Jvm.MethodName)) ∈ lw_all := lw_g (lw_at lw_m6 121 rfl) rfl
theorem q1374 : (Jvm.Cond.selects "ColumnarPress$Floated" ({ cls := "ColumnarPress$Floated", name := "liesIn", desc := "(II)Z" } : Jvm.MethodName) ({ cls := "ColumnarPress$Floated", name := "liesIn", desc := "(II)Z" } : Jvm.MethodName)) ∈ lw_all := lw_g (lw_at lw_m6 122 rfl) rfl
theorem q1375 : (Jvm.Cond.code ({ cls := "ColumnarPress$Floated", name := "liesIn", desc := "(II)Z" } : Jvm.MethodName) prog_5_method_3_code (3 : Nat) (Option.some Jvm.ClassFile.FieldType.boolean)) ∈ lw_all := lw_g (lw_at lw_m6 123 rfl) rfl
theorem q1376 : (Jvm.Cond.methodLink "ColumnarPress$Floated" (32 : Nat) ({ cls := "ColumnarPress$Floated", name := "end", desc := "()I" } : Jvm.MethodName)) ∈ lw_all := lw_g (lw_at lw_m6 124 rfl) rfl
theorem q1377 : (Jvm.Cond.instanceMethod ({ cls := "ColumnarPress$Floated", name := "end", desc := "()I" } : Jvm.MethodName)) ∈ lw_all := lw_g (lw_at lw_m6 125 rfl) rfl
theorem q1378 : (Jvm.Cond.selects "ColumnarPress$Floated" ({ cls := "ColumnarPress$Floated", name := "end", desc := "()I" } : Jvm.MethodName) ({ cls := "ColumnarPress$Floated", name := "end", desc := "()I" } : Jvm.MethodName)) ∈ lw_all := lw_g (lw_at lw_m6 126 rfl) rfl
theorem q1379 : (Jvm.Cond.code ({ cls := "ColumnarPress$Floated", name := "end", desc := "()I" } : Jvm.MethodName) prog_5_method_2_code (1 : Nat) (Option.some Jvm.ClassFile.FieldType.int)) ∈ lw_all := lw_g (lw_at lw_m6 127 rfl) rfl
theorem q1380 : (Jvm.Cond.methodLink "ColumnarPress$Floated" (26 : Nat) ({ cls := "java/lang/Math", name := "max", desc := "(II)I" } : Jvm.MethodName)) ∈ lw_all := lw_g (lw_at lw_m6 128 rfl) rfl
theorem q1382 : (Jvm.Cond.instanceMethod ({ cls := "ColumnarPress$Floated", name := "side", desc := "()C" } : Jvm.MethodName)) ∈ lw_all := lw_g (lw_at lw_m6 130 rfl) rfl
theorem q1383 : (Jvm.Cond.selects "ColumnarPress$Floated" ({ cls := "ColumnarPress$Floated", name := "side", desc := "()C" } : Jvm.MethodName) ({ cls := "ColumnarPress$Floated", name := "side", desc := "()C" } : Jvm.MethodName)) ∈ lw_all := lw_g (lw_at lw_m6 131 rfl) rfl
theorem q1384 : (Jvm.Cond.code ({ cls := "ColumnarPress$Floated", name := "side", desc := "()C" } : Jvm.MethodName) prog_5_method_11_code (1 : Nat) (Option.some Jvm.ClassFile.FieldType.char)) ∈ lw_all := lw_g (lw_at lw_m6 132 rfl) rfl
theorem q1386 : (Jvm.Cond.instanceMethod ({ cls := "ColumnarPress$Floated", name := "x", desc := "()I" } : Jvm.MethodName)) ∈ lw_all := lw_g (lw_at lw_m6 134 rfl) rfl
theorem q1387 : (Jvm.Cond.selects "ColumnarPress$Floated" ({ cls := "ColumnarPress$Floated", name := "x", desc := "()I" } : Jvm.MethodName) ({ cls := "ColumnarPress$Floated", name := "x", desc := "()I" } : Jvm.MethodName)) ∈ lw_all := lw_g (lw_at lw_m6 135 rfl) rfl
theorem q1388 : (Jvm.Cond.code ({ cls := "ColumnarPress$Floated", name := "x", desc := "()I" } : Jvm.MethodName) prog_5_method_7_code (1 : Nat) (Option.some Jvm.ClassFile.FieldType.int)) ∈ lw_all := lw_g (lw_at lw_m6 136 rfl) rfl
theorem q1390 : (Jvm.Cond.instanceMethod ({ cls := "ColumnarPress$Floated", name := "width", desc := "()I" } : Jvm.MethodName)) ∈ lw_all := lw_g (lw_at lw_m6 138 rfl) rfl
theorem q1391 : (Jvm.Cond.selects "ColumnarPress$Floated" ({ cls := "ColumnarPress$Floated", name := "width", desc := "()I" } : Jvm.MethodName) ({ cls := "ColumnarPress$Floated", name := "width", desc := "()I" } : Jvm.MethodName)) ∈ lw_all := lw_g (lw_at lw_m6 139 rfl) rfl
theorem q1392 : (Jvm.Cond.code ({ cls := "ColumnarPress$Floated", name := "width", desc := "()I" } : Jvm.MethodName) prog_5_method_9_code (1 : Nat) (Option.some Jvm.ClassFile.FieldType.int)) ∈ lw_all := lw_g (lw_at lw_m6 140 rfl) rfl
theorem q1535 : (Jvm.Cond.instanceMethod ({ cls := "ColumnarPress$Floated", name := "y", desc := "()I" } : Jvm.MethodName)) ∈ lw_all := lw_g (lw_at lw_m7 43 rfl) rfl
theorem q1536 : (Jvm.Cond.selects "ColumnarPress$Floated" ({ cls := "ColumnarPress$Floated", name := "y", desc := "()I" } : Jvm.MethodName) ({ cls := "ColumnarPress$Floated", name := "y", desc := "()I" } : Jvm.MethodName)) ∈ lw_all := lw_g (lw_at lw_m7 44 rfl) rfl
theorem q1537 : (Jvm.Cond.code ({ cls := "ColumnarPress$Floated", name := "y", desc := "()I" } : Jvm.MethodName) prog_5_method_8_code (1 : Nat) (Option.some Jvm.ClassFile.FieldType.int)) ∈ lw_all := lw_g (lw_at lw_m7 45 rfl) rfl
theorem q1542 : (Jvm.Cond.instantiable "ColumnarPress$Floated" (5 : Nat)) ∈ lw_all := lw_g (lw_at lw_m7 50 rfl) rfl
theorem q1544 : (Jvm.Cond.instanceMethod ({ cls := "ColumnarPress$Floated", name := "<init>", desc := "(IIIIC)V" } : Jvm.MethodName)) ∈ lw_all := lw_g (lw_at lw_m7 52 rfl) rfl
theorem q1545 : (Jvm.Cond.code ({ cls := "ColumnarPress$Floated", name := "<init>", desc := "(IIIIC)V" } : Jvm.MethodName) prog_5_method_1_code (6 : Nat) (Option.none : Option Jvm.ClassFile.FieldType)) ∈ lw_all := lw_g (lw_at lw_m7 53 rfl) rfl
theorem q1546 : (Jvm.Cond.methodLink "ColumnarPress$Floated" (1 : Nat) ({ cls := "java/lang/Record", name := "<init>", desc := "()V" } : Jvm.MethodName)) ∈ lw_all := lw_g (lw_at lw_m7 54 rfl) rfl
theorem q1547 : (Jvm.Cond.fieldLink "ColumnarPress$Floated" (7 : Nat) "ColumnarPress$Floated" "x" "I") ∈ lw_all := lw_g (lw_at lw_m7 55 rfl) rfl
theorem q1548 : (Jvm.Cond.fieldLink "ColumnarPress$Floated" (13 : Nat) "ColumnarPress$Floated" "y" "I") ∈ lw_all := lw_g (lw_at lw_m7 56 rfl) rfl
theorem q1549 : (Jvm.Cond.fieldLink "ColumnarPress$Floated" (16 : Nat) "ColumnarPress$Floated" "width" "I") ∈ lw_all := lw_g (lw_at lw_m7 57 rfl) rfl
theorem q1550 : (Jvm.Cond.fieldLink "ColumnarPress$Floated" (19 : Nat) "ColumnarPress$Floated" "height" "I") ∈ lw_all := lw_g (lw_at lw_m7 58 rfl) rfl
theorem q1551 : (Jvm.Cond.fieldLink "ColumnarPress$Floated" (22 : Nat) "ColumnarPress$Floated" "side" "C") ∈ lw_all := lw_g (lw_at lw_m7 59 rfl) rfl
theorem q1552 : (Jvm.Cond.laysFinal "ColumnarPress$Floated" "ColumnarPress$Floated" "x" "I") ∈ lw_all := lw_g (lw_at lw_m7 60 rfl) rfl
theorem q1553 : (Jvm.Cond.soleField "ColumnarPress$Floated" "x") ∈ lw_all := lw_g (lw_at lw_m7 61 rfl) rfl
theorem q1554 : (Jvm.Cond.laysFinal "ColumnarPress$Floated" "ColumnarPress$Floated" "y" "I") ∈ lw_all := lw_g (lw_at lw_m7 62 rfl) rfl
theorem q1555 : (Jvm.Cond.soleField "ColumnarPress$Floated" "y") ∈ lw_all := lw_g (lw_at lw_m7 63 rfl) rfl
theorem q1556 : (Jvm.Cond.laysFinal "ColumnarPress$Floated" "ColumnarPress$Floated" "width" "I") ∈ lw_all := lw_g (lw_at lw_m7 64 rfl) rfl
theorem q1557 : (Jvm.Cond.soleField "ColumnarPress$Floated" "width") ∈ lw_all := lw_g (lw_at lw_m7 65 rfl) rfl
theorem q1558 : (Jvm.Cond.laysFinal "ColumnarPress$Floated" "ColumnarPress$Floated" "height" "I") ∈ lw_all := lw_g (lw_at lw_m7 66 rfl) rfl
theorem q1559 : (Jvm.Cond.soleField "ColumnarPress$Floated" "height") ∈ lw_all := lw_g (lw_at lw_m7 67 rfl) rfl
theorem q1560 : (Jvm.Cond.laysFinal "ColumnarPress$Floated" "ColumnarPress$Floated" "side" "C") ∈ lw_all := lw_g (lw_at lw_m7 68 rfl) rfl
theorem q1561 : (Jvm.Cond.soleField "ColumnarPress$Floated" "side") ∈ lw_all := lw_g (lw_at lw_m7 69 rfl) rfl
theorem q1562 : (Jvm.Cond.superclass "ColumnarPress$Floated" "java/lang/Record") ∈ lw_all := lw_g (lw_at lw_m7 70 rfl) rfl
theorem q1573 : (Jvm.Cond.instanceMethod ({ cls := "ColumnarPress$Floated", name := "height", desc := "()I" } : Jvm.MethodName)) ∈ lw_all := lw_g (lw_at lw_m7 81 rfl) rfl
theorem q1574 : (Jvm.Cond.selects "ColumnarPress$Floated" ({ cls := "ColumnarPress$Floated", name := "height", desc := "()I" } : Jvm.MethodName) ({ cls := "ColumnarPress$Floated", name := "height", desc := "()I" } : Jvm.MethodName)) ∈ lw_all := lw_g (lw_at lw_m7 82 rfl) rfl
theorem q1575 : (Jvm.Cond.code ({ cls := "ColumnarPress$Floated", name := "height", desc := "()I" } : Jvm.MethodName) prog_5_method_10_code (1 : Nat) (Option.some Jvm.ClassFile.FieldType.int)) ∈ lw_all := lw_g (lw_at lw_m7 83 rfl) rfl
theorem q2698 : (Jvm.Cond.selects "ColumnarPress$Floated" ({ cls := "java/lang/Object", name := "equals", desc := "(Ljava/lang/Object;)Z" } : Jvm.MethodName) ({ cls := "ColumnarPress$Floated", name := "equals", desc := "(Ljava/lang/Object;)Z" } : Jvm.MethodName)) ∈ lw_all := lw_g (lw_at lw_m12 6 rfl) rfl
theorem q2699 : (Jvm.Cond.instanceMethod ({ cls := "ColumnarPress$Floated", name := "equals", desc := "(Ljava/lang/Object;)Z" } : Jvm.MethodName)) ∈ lw_all := lw_g (lw_at lw_m12 7 rfl) rfl
theorem q2700 : (Jvm.Cond.code ({ cls := "ColumnarPress$Floated", name := "equals", desc := "(Ljava/lang/Object;)Z" } : Jvm.MethodName) prog_5_method_6_code (2 : Nat) (Option.some Jvm.ClassFile.FieldType.boolean)) ∈ lw_all := lw_g (lw_at lw_m12 8 rfl) rfl
theorem q2871 : (Jvm.Cond.castable "ColumnarPress$Floated" "java/lang/Object") ∈ lw_tbl := lw_at lw_m12 179 rfl
theorem in_X12 : ∀ w ∈ wsX120, w ∈ lw_all := lw_in wsX120 [1552, 1554, 1556, 1558, 1560] (by decide +kernel) (by decide +kernel)
/-! ColumnarPress$Unit -/
set_option maxRecDepth 100000
def RX17 : String := "ColumnarPress$Unit"
def TX17 : u_T := fun k => match k with
  | 0 => ("ColumnarPress$Unit", "box", "LColumnarPress$Box;", true)
  | 1 => ("ColumnarPress$Unit", "line", "I", true)
  | _ => ("ColumnarPress$Unit", "page", "I", true)
def tyX17 : Nat → FieldType := fun k => match k with
  | 0 => .object "ColumnarPress$Box"
  | 1 => .int
  | _ => .int
abbrev wsX170 : List Cond := u_ws RX17 TX17 3
theorem nmX17 : ∀ a, a < 3 → ∀ b, b < 3 → a ≠ b → (TX17 a).2.1 ≠ (TX17 b).2.1 := by decide +kernel
theorem tyX17_ok : ∀ k, k < 3 → parseFieldDescriptor (TX17 k).2.2.1 = some (tyX17 k) := by decide +kernel
abbrev cX17_init : ByteArray := prog_12_method_1_code
def yX17_init : MethodName := ⟨RX17, "<init>", "(LColumnarPress$Box;II)V"⟩
def dkwX17_init_0 : List UInt8 := [42, 183, 0, 1, 42, 43, 181, 0, 7, 42, 28, 181, 0, 13, 42, 29, 181, 0, 17, 177]
abbrev dktX17_init_0 : List UInt8 := dkwX17_init_0 ++ []
theorem dksX17_init_0 : cX17_init.data.toList.drop 0 = dktX17_init_0 := by decide +kernel
theorem dX17_init_0 : decode cX17_init 0 = .ok (.aload_n 0, 1) := dk_42 (dk_at dksX17_init_0 0 rfl rfl)
theorem dX17_init_1 : decode cX17_init 1 = .ok (.invokespecial 1, 3) := dk_183 0 1 (dk_at dksX17_init_0 1 rfl rfl)
theorem dX17_init_4 : decode cX17_init 4 = .ok (.aload_n 0, 1) := dk_42 (dk_at dksX17_init_0 4 rfl rfl)
theorem dX17_init_5 : decode cX17_init 5 = .ok (.aload_n 1, 1) := dk_43 (dk_at dksX17_init_0 5 rfl rfl)
theorem dX17_init_6 : decode cX17_init 6 = .ok (.putfield 7, 3) := dk_181 0 7 (dk_at dksX17_init_0 6 rfl rfl)
theorem dX17_init_9 : decode cX17_init 9 = .ok (.aload_n 0, 1) := dk_42 (dk_at dksX17_init_0 9 rfl rfl)
theorem dX17_init_10 : decode cX17_init 10 = .ok (.iload_n 2, 1) := dk_28 (dk_at dksX17_init_0 10 rfl rfl)
theorem dX17_init_11 : decode cX17_init 11 = .ok (.putfield 13, 3) := dk_181 0 13 (dk_at dksX17_init_0 11 rfl rfl)
theorem dX17_init_14 : decode cX17_init 14 = .ok (.aload_n 0, 1) := dk_42 (dk_at dksX17_init_0 14 rfl rfl)
theorem dX17_init_15 : decode cX17_init 15 = .ok (.iload_n 3, 1) := dk_29 (dk_at dksX17_init_0 15 rfl rfl)
theorem dX17_init_16 : decode cX17_init 16 = .ok (.putfield 17, 3) := dk_181 0 17 (dk_at dksX17_init_0 16 rfl rfl)
theorem dX17_init_19 : decode cX17_init 19 = .ok (.return_, 1) := dk_177 (dk_at dksX17_init_0 19 rfl rfl)
abbrev cX17_box : ByteArray := prog_12_method_5_code
def yX17_box : MethodName := ⟨RX17, "box", "()LColumnarPress$Box;"⟩
theorem dX17_box_0 : decode cX17_box 0 = .ok (.aload_n 0, 1) := by decide +kernel
theorem dX17_box_1 : decode cX17_box 1 = .ok (.getfield 7, 3) := by decide +kernel
theorem dX17_box_4 : decode cX17_box 4 = .ok (.areturn, 1) := by decide +kernel
abbrev cX17_line : ByteArray := prog_12_method_6_code
def yX17_line : MethodName := ⟨RX17, "line", "()I"⟩
theorem dX17_line_0 : decode cX17_line 0 = .ok (.aload_n 0, 1) := by decide +kernel
theorem dX17_line_1 : decode cX17_line 1 = .ok (.getfield 13, 3) := by decide +kernel
theorem dX17_line_4 : decode cX17_line 4 = .ok (.ireturn, 1) := by decide +kernel
abbrev cX17_page : ByteArray := prog_12_method_7_code
def yX17_page : MethodName := ⟨RX17, "page", "()I"⟩
theorem dX17_page_0 : decode cX17_page 0 = .ok (.aload_n 0, 1) := by decide +kernel
theorem dX17_page_1 : decode cX17_page 1 = .ok (.getfield 17, 3) := by decide +kernel
theorem dX17_page_4 : decode cX17_page 4 = .ok (.ireturn, 1) := by decide +kernel
abbrev cX17_equals : ByteArray := prog_12_method_4_code
def yX17_equals : MethodName := ⟨RX17, "equals", "(Ljava/lang/Object;)Z"⟩
def dkwX17_equals_0 : List UInt8 := [42, 43, 186, 0, 28, 0, 0, 172]
abbrev dktX17_equals_0 : List UInt8 := dkwX17_equals_0 ++ []
theorem dksX17_equals_0 : cX17_equals.data.toList.drop 0 = dktX17_equals_0 := by decide +kernel
theorem dX17_equals_0 : decode cX17_equals 0 = .ok (.aload_n 0, 1) := dk_42 (dk_at dksX17_equals_0 0 rfl rfl)
theorem dX17_equals_1 : decode cX17_equals 1 = .ok (.aload_n 1, 1) := dk_43 (dk_at dksX17_equals_0 1 rfl rfl)
theorem dX17_equals_2 : decode cX17_equals 2 = .ok (.invokedynamic 28, 5) := by decide +kernel
theorem dX17_equals_7 : decode cX17_equals 7 = .ok (.ireturn, 1) := dk_172 (dk_at dksX17_equals_0 7 rfl rfl)
theorem q102 : (Jvm.Cond.initialized "ColumnarPress$Unit") ∈ lw_all := lw_g (lw_at lw_m1 50 rfl) rfl
theorem q399 : (Jvm.Cond.selects "ColumnarPress$Unit" ({ cls := "java/lang/Object", name := "getClass", desc := "()Ljava/lang/Class;" } : Jvm.MethodName) ({ cls := "java/lang/Object", name := "getClass", desc := "()Ljava/lang/Class;" } : Jvm.MethodName)) ∈ lw_all := lw_g (lw_at lw_m2 107 rfl) rfl
theorem q1965 : (Jvm.Cond.instantiable "ColumnarPress$Unit" (3 : Nat)) ∈ lw_all := lw_g (lw_at lw_m8 233 rfl) rfl
theorem q1967 : (Jvm.Cond.instanceMethod ({ cls := "ColumnarPress$Unit", name := "<init>", desc := "(LColumnarPress$Box;II)V" } : Jvm.MethodName)) ∈ lw_all := lw_g (lw_at lw_m8 235 rfl) rfl
theorem q1968 : (Jvm.Cond.code ({ cls := "ColumnarPress$Unit", name := "<init>", desc := "(LColumnarPress$Box;II)V" } : Jvm.MethodName) prog_12_method_1_code (4 : Nat) (Option.none : Option Jvm.ClassFile.FieldType)) ∈ lw_all := lw_g (lw_at lw_m8 236 rfl) rfl
theorem q1969 : (Jvm.Cond.methodLink "ColumnarPress$Unit" (1 : Nat) ({ cls := "java/lang/Record", name := "<init>", desc := "()V" } : Jvm.MethodName)) ∈ lw_all := lw_g (lw_at lw_m8 237 rfl) rfl
theorem q1970 : (Jvm.Cond.fieldLink "ColumnarPress$Unit" (7 : Nat) "ColumnarPress$Unit" "box" "LColumnarPress$Box;") ∈ lw_all := lw_g (lw_at lw_m8 238 rfl) rfl
theorem q1971 : (Jvm.Cond.fieldLink "ColumnarPress$Unit" (13 : Nat) "ColumnarPress$Unit" "line" "I") ∈ lw_all := lw_g (lw_at lw_m8 239 rfl) rfl
theorem q1972 : (Jvm.Cond.fieldLink "ColumnarPress$Unit" (17 : Nat) "ColumnarPress$Unit" "page" "I") ∈ lw_all := lw_g (lw_at lw_m9 0 rfl) rfl
theorem q1973 : (Jvm.Cond.laysFinal "ColumnarPress$Unit" "ColumnarPress$Unit" "box" "LColumnarPress$Box;") ∈ lw_all := lw_g (lw_at lw_m9 1 rfl) rfl
theorem q1974 : (Jvm.Cond.soleField "ColumnarPress$Unit" "box") ∈ lw_all := lw_g (lw_at lw_m9 2 rfl) rfl
theorem q1975 : (Jvm.Cond.laysFinal "ColumnarPress$Unit" "ColumnarPress$Unit" "line" "I") ∈ lw_all := lw_g (lw_at lw_m9 3 rfl) rfl
theorem q1976 : (Jvm.Cond.soleField "ColumnarPress$Unit" "line") ∈ lw_all := lw_g (lw_at lw_m9 4 rfl) rfl
theorem q1977 : (Jvm.Cond.laysFinal "ColumnarPress$Unit" "ColumnarPress$Unit" "page" "I") ∈ lw_all := lw_g (lw_at lw_m9 5 rfl) rfl
theorem q1978 : (Jvm.Cond.soleField "ColumnarPress$Unit" "page") ∈ lw_all := lw_g (lw_at lw_m9 6 rfl) rfl
theorem q1979 : (Jvm.Cond.superclass "ColumnarPress$Unit" "java/lang/Record") ∈ lw_all := lw_g (lw_at lw_m9 7 rfl) rfl
theorem q2025 : (Jvm.Cond.instanceMethod ({ cls := "ColumnarPress$Unit", name := "box", desc := "()LColumnarPress$Box;" } : Jvm.MethodName)) ∈ lw_all := lw_g (lw_at lw_m9 53 rfl) rfl
theorem q2026 : (Jvm.Cond.selects "ColumnarPress$Unit" ({ cls := "ColumnarPress$Unit", name := "box", desc := "()LColumnarPress$Box;" } : Jvm.MethodName) ({ cls := "ColumnarPress$Unit", name := "box", desc := "()LColumnarPress$Box;" } : Jvm.MethodName)) ∈ lw_all := lw_g (lw_at lw_m9 54 rfl) rfl
theorem q2027 : (Jvm.Cond.code ({ cls := "ColumnarPress$Unit", name := "box", desc := "()LColumnarPress$Box;" } : Jvm.MethodName) prog_12_method_5_code (1 : Nat) (Option.some (Jvm.ClassFile.FieldType.object "ColumnarPress$Box"))) ∈ lw_all := lw_g (lw_at lw_m9 55 rfl) rfl
theorem q2029 : (Jvm.Cond.instanceMethod ({ cls := "ColumnarPress$Unit", name := "line", desc := "()I" } : Jvm.MethodName)) ∈ lw_all := lw_g (lw_at lw_m9 57 rfl) rfl
theorem q2030 : (Jvm.Cond.selects "ColumnarPress$Unit" ({ cls := "ColumnarPress$Unit", name := "line", desc := "()I" } : Jvm.MethodName) ({ cls := "ColumnarPress$Unit", name := "line", desc := "()I" } : Jvm.MethodName)) ∈ lw_all := lw_g (lw_at lw_m9 58 rfl) rfl
theorem q2031 : (Jvm.Cond.code ({ cls := "ColumnarPress$Unit", name := "line", desc := "()I" } : Jvm.MethodName) prog_12_method_6_code (1 : Nat) (Option.some Jvm.ClassFile.FieldType.int)) ∈ lw_all := lw_g (lw_at lw_m9 59 rfl) rfl
theorem q2033 : (Jvm.Cond.instanceMethod ({ cls := "ColumnarPress$Unit", name := "page", desc := "()I" } : Jvm.MethodName)) ∈ lw_all := lw_g (lw_at lw_m9 61 rfl) rfl
theorem q2034 : (Jvm.Cond.selects "ColumnarPress$Unit" ({ cls := "ColumnarPress$Unit", name := "page", desc := "()I" } : Jvm.MethodName) ({ cls := "ColumnarPress$Unit", name := "page", desc := "()I" } : Jvm.MethodName)) ∈ lw_all := lw_g (lw_at lw_m9 62 rfl) rfl
theorem q2035 : (Jvm.Cond.code ({ cls := "ColumnarPress$Unit", name := "page", desc := "()I" } : Jvm.MethodName) prog_12_method_7_code (1 : Nat) (Option.some Jvm.ClassFile.FieldType.int)) ∈ lw_all := lw_g (lw_at lw_m9 63 rfl) rfl
theorem q2709 : (Jvm.Cond.selects "ColumnarPress$Unit" ({ cls := "java/lang/Object", name := "equals", desc := "(Ljava/lang/Object;)Z" } : Jvm.MethodName) ({ cls := "ColumnarPress$Unit", name := "equals", desc := "(Ljava/lang/Object;)Z" } : Jvm.MethodName)) ∈ lw_all := lw_g (lw_at lw_m12 17 rfl) rfl
theorem q2710 : (Jvm.Cond.instanceMethod ({ cls := "ColumnarPress$Unit", name := "equals", desc := "(Ljava/lang/Object;)Z" } : Jvm.MethodName)) ∈ lw_all := lw_g (lw_at lw_m12 18 rfl) rfl
theorem q2711 : (Jvm.Cond.code ({ cls := "ColumnarPress$Unit", name := "equals", desc := "(Ljava/lang/Object;)Z" } : Jvm.MethodName) prog_12_method_4_code (2 : Nat) (Option.some Jvm.ClassFile.FieldType.boolean)) ∈ lw_all := lw_g (lw_at lw_m12 19 rfl) rfl
theorem q2876 : (Jvm.Cond.castable "ColumnarPress$Unit" "java/lang/Object") ∈ lw_tbl := lw_at lw_m12 184 rfl
theorem in_X17 : ∀ w ∈ wsX170, w ∈ lw_all := lw_in wsX170 [1973, 1975, 1977] (by decide +kernel) (by decide +kernel)
