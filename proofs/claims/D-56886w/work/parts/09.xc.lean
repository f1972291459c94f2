/-! ColumnarPress$Layout -/
set_option maxRecDepth 100000
def RX6 : String := "ColumnarPress$Layout"
def TX6 : u_T := fun k => match k with
  | 0 => ("ColumnarPress$Layout", "isChecking", "Z", true)
  | 1 => ("ColumnarPress$Layout", "count", "I", false)
  | _ => ("ColumnarPress$Layout", "this$0", "LColumnarPress;", true)
def tyX6 : Nat → FieldType := fun k => match k with
  | 0 => .boolean
  | 1 => .int
  | _ => .object "ColumnarPress"
abbrev wsX60 : List Cond := u_ws RX6 TX6 3
theorem nmX6 : ∀ a, a < 3 → ∀ b, b < 3 → a ≠ b → (TX6 a).2.1 ≠ (TX6 b).2.1 := by decide +kernel
theorem tyX6_ok : ∀ k, k < 3 → parseFieldDescriptor (TX6 k).2.2.1 = some (tyX6 k) := by decide +kernel
abbrev cX6_init : ByteArray := prog_6_method_1_code
def yX6_init : MethodName := ⟨RX6, "<init>", "(LColumnarPress;Z)V"⟩
def dkwX6_init_0 : List UInt8 := [42, 43, 181, 0, 3, 42, 183, 0, 9, 42, 28, 181, 0, 15, 177]
abbrev dktX6_init_0 : List UInt8 := dkwX6_init_0 ++ []
theorem dksX6_init_0 : cX6_init.data.toList.drop 0 = dktX6_init_0 := by decide +kernel
theorem dX6_init_0 : decode cX6_init 0 = .ok (.aload_n 0, 1) := dk_42 (dk_at dksX6_init_0 0 rfl rfl)
theorem dX6_init_1 : decode cX6_init 1 = .ok (.aload_n 1, 1) := dk_43 (dk_at dksX6_init_0 1 rfl rfl)
theorem dX6_init_2 : decode cX6_init 2 = .ok (.putfield 3, 3) := dk_181 0 3 (dk_at dksX6_init_0 2 rfl rfl)
theorem dX6_init_5 : decode cX6_init 5 = .ok (.aload_n 0, 1) := dk_42 (dk_at dksX6_init_0 5 rfl rfl)
theorem dX6_init_6 : decode cX6_init 6 = .ok (.invokespecial 9, 3) := dk_183 0 9 (dk_at dksX6_init_0 6 rfl rfl)
theorem dX6_init_9 : decode cX6_init 9 = .ok (.aload_n 0, 1) := dk_42 (dk_at dksX6_init_0 9 rfl rfl)
theorem dX6_init_10 : decode cX6_init 10 = .ok (.iload_n 2, 1) := dk_28 (dk_at dksX6_init_0 10 rfl rfl)
theorem dX6_init_11 : decode cX6_init 11 = .ok (.putfield 15, 3) := dk_181 0 15 (dk_at dksX6_init_0 11 rfl rfl)
theorem dX6_init_14 : decode cX6_init 14 = .ok (.return_, 1) := dk_177 (dk_at dksX6_init_0 14 rfl rfl)
abbrev cX6_layAll : ByteArray := prog_6_method_2_code
def yX6_layAll : MethodName := ⟨RX6, "layAll", "(I)V"⟩
def dkwX6_layAll_4 : List UInt8 := [180, 0, 69, 45, 180, 0, 72, 100, 184, 0, 75, 184, 0, 81, 182, 0, 31, 167, 255, 182, 177]
abbrev dktX6_layAll_4 : List UInt8 := dkwX6_layAll_4 ++ []
def dkwX6_layAll_3 : List UInt8 := [45, 180, 0, 52, 3, 181, 0, 62, 45, 182, 0, 65, 58, 4, 42, 45, 45, 3, 25, 4, 180, 0, 52]
abbrev dktX6_layAll_3 : List UInt8 := dkwX6_layAll_3 ++ dktX6_layAll_4
def dkwX6_layAll_2 : List UInt8 := [185, 0, 45, 1, 0, 192, 0, 29, 78, 45, 182, 0, 49, 153, 0, 51, 45, 180, 0, 52, 3, 181, 0, 56]
abbrev dktX6_layAll_2 : List UInt8 := dkwX6_layAll_2 ++ dktX6_layAll_3
def dkwX6_layAll_1 : List UInt8 := [180, 0, 3, 180, 0, 19, 185, 0, 35, 1, 0, 77, 44, 185, 0, 39, 1, 0, 153, 0, 71, 44]
abbrev dktX6_layAll_1 : List UInt8 := dkwX6_layAll_1 ++ dktX6_layAll_2
def dkwX6_layAll_0 : List UInt8 := [42, 42, 180, 0, 3, 180, 0, 19, 3, 185, 0, 23, 2, 0, 192, 0, 29, 27, 182, 0, 31, 42]
abbrev dktX6_layAll_0 : List UInt8 := dkwX6_layAll_0 ++ dktX6_layAll_1
theorem dksX6_layAll_0 : cX6_layAll.data.toList.drop 0 = dktX6_layAll_0 := by decide +kernel
theorem dksX6_layAll_1 : cX6_layAll.data.toList.drop 22 = dktX6_layAll_1 := dk_seg dksX6_layAll_0 22 rfl rfl
theorem dksX6_layAll_2 : cX6_layAll.data.toList.drop 44 = dktX6_layAll_2 := dk_seg dksX6_layAll_1 22 rfl rfl
theorem dksX6_layAll_3 : cX6_layAll.data.toList.drop 68 = dktX6_layAll_3 := dk_seg dksX6_layAll_2 24 rfl rfl
theorem dksX6_layAll_4 : cX6_layAll.data.toList.drop 91 = dktX6_layAll_4 := dk_seg dksX6_layAll_3 23 rfl rfl
theorem dX6_layAll_0 : decode cX6_layAll 0 = .ok (.aload_n 0, 1) := dk_42 (dk_at dksX6_layAll_0 0 rfl rfl)
theorem dX6_layAll_1 : decode cX6_layAll 1 = .ok (.aload_n 0, 1) := dk_42 (dk_at dksX6_layAll_0 1 rfl rfl)
theorem dX6_layAll_2 : decode cX6_layAll 2 = .ok (.getfield 3, 3) := dk_180 0 3 (dk_at dksX6_layAll_0 2 rfl rfl)
theorem dX6_layAll_5 : decode cX6_layAll 5 = .ok (.getfield 19, 3) := dk_180 0 19 (dk_at dksX6_layAll_0 5 rfl rfl)
theorem dX6_layAll_8 : decode cX6_layAll 8 = .ok (.iconst 0, 1) := dk_3 (dk_at dksX6_layAll_0 8 rfl rfl)
theorem dX6_layAll_9 : decode cX6_layAll 9 = .ok (.invokeinterface 23 2, 5) := by decide +kernel
theorem dX6_layAll_14 : decode cX6_layAll 14 = .ok (.checkcast 29, 3) := dk_192 0 29 (dk_at dksX6_layAll_0 14 rfl rfl)
theorem dX6_layAll_17 : decode cX6_layAll 17 = .ok (.iload_n 1, 1) := dk_27 (dk_at dksX6_layAll_0 17 rfl rfl)
theorem dX6_layAll_18 : decode cX6_layAll 18 = .ok (.invokevirtual 31, 3) := dk_182 0 31 (dk_at dksX6_layAll_0 18 rfl rfl)
theorem dX6_layAll_21 : decode cX6_layAll 21 = .ok (.aload_n 0, 1) := dk_42 (dk_at dksX6_layAll_0 21 rfl rfl)
theorem dX6_layAll_22 : decode cX6_layAll 22 = .ok (.getfield 3, 3) := dk_180 0 3 (dk_at dksX6_layAll_1 0 rfl rfl)
theorem dX6_layAll_25 : decode cX6_layAll 25 = .ok (.getfield 19, 3) := dk_180 0 19 (dk_at dksX6_layAll_1 3 rfl rfl)
theorem dX6_layAll_28 : decode cX6_layAll 28 = .ok (.invokeinterface 35 1, 5) := by decide +kernel
theorem dX6_layAll_33 : decode cX6_layAll 33 = .ok (.astore_n 2, 1) := dk_77 (dk_at dksX6_layAll_1 11 rfl rfl)
theorem dX6_layAll_34 : decode cX6_layAll 34 = .ok (.aload_n 2, 1) := dk_44 (dk_at dksX6_layAll_1 12 rfl rfl)
theorem dX6_layAll_35 : decode cX6_layAll 35 = .ok (.invokeinterface 39 1, 5) := by decide +kernel
theorem dX6_layAll_40 : decode cX6_layAll 40 = .ok (.ifCond .eq 71, 3) := dk_153 0 71 (dk_at dksX6_layAll_1 18 rfl rfl)
theorem dX6_layAll_43 : decode cX6_layAll 43 = .ok (.aload_n 2, 1) := dk_44 (dk_at dksX6_layAll_1 21 rfl rfl)
theorem dX6_layAll_44 : decode cX6_layAll 44 = .ok (.invokeinterface 45 1, 5) := by decide +kernel
theorem dX6_layAll_49 : decode cX6_layAll 49 = .ok (.checkcast 29, 3) := dk_192 0 29 (dk_at dksX6_layAll_2 5 rfl rfl)
theorem dX6_layAll_52 : decode cX6_layAll 52 = .ok (.astore_n 3, 1) := dk_78 (dk_at dksX6_layAll_2 8 rfl rfl)
theorem dX6_layAll_53 : decode cX6_layAll 53 = .ok (.aload_n 3, 1) := dk_45 (dk_at dksX6_layAll_2 9 rfl rfl)
theorem dX6_layAll_54 : decode cX6_layAll 54 = .ok (.invokevirtual 49, 3) := dk_182 0 49 (dk_at dksX6_layAll_2 10 rfl rfl)
theorem dX6_layAll_57 : decode cX6_layAll 57 = .ok (.ifCond .eq 51, 3) := dk_153 0 51 (dk_at dksX6_layAll_2 13 rfl rfl)
theorem dX6_layAll_60 : decode cX6_layAll 60 = .ok (.aload_n 3, 1) := dk_45 (dk_at dksX6_layAll_2 16 rfl rfl)
theorem dX6_layAll_61 : decode cX6_layAll 61 = .ok (.getfield 52, 3) := dk_180 0 52 (dk_at dksX6_layAll_2 17 rfl rfl)
theorem dX6_layAll_64 : decode cX6_layAll 64 = .ok (.iconst 0, 1) := dk_3 (dk_at dksX6_layAll_2 20 rfl rfl)
theorem dX6_layAll_65 : decode cX6_layAll 65 = .ok (.putfield 56, 3) := dk_181 0 56 (dk_at dksX6_layAll_2 21 rfl rfl)
theorem dX6_layAll_68 : decode cX6_layAll 68 = .ok (.aload_n 3, 1) := dk_45 (dk_at dksX6_layAll_3 0 rfl rfl)
theorem dX6_layAll_69 : decode cX6_layAll 69 = .ok (.getfield 52, 3) := dk_180 0 52 (dk_at dksX6_layAll_3 1 rfl rfl)
theorem dX6_layAll_72 : decode cX6_layAll 72 = .ok (.iconst 0, 1) := dk_3 (dk_at dksX6_layAll_3 4 rfl rfl)
theorem dX6_layAll_73 : decode cX6_layAll 73 = .ok (.putfield 62, 3) := dk_181 0 62 (dk_at dksX6_layAll_3 5 rfl rfl)
theorem dX6_layAll_76 : decode cX6_layAll 76 = .ok (.aload_n 3, 1) := dk_45 (dk_at dksX6_layAll_3 8 rfl rfl)
theorem dX6_layAll_77 : decode cX6_layAll 77 = .ok (.invokevirtual 65, 3) := dk_182 0 65 (dk_at dksX6_layAll_3 9 rfl rfl)
theorem dX6_layAll_80 : decode cX6_layAll 80 = .ok (.astore 4, 2) := dk_58 4 (dk_at dksX6_layAll_3 12 rfl rfl)
theorem dX6_layAll_82 : decode cX6_layAll 82 = .ok (.aload_n 0, 1) := dk_42 (dk_at dksX6_layAll_3 14 rfl rfl)
theorem dX6_layAll_83 : decode cX6_layAll 83 = .ok (.aload_n 3, 1) := dk_45 (dk_at dksX6_layAll_3 15 rfl rfl)
theorem dX6_layAll_84 : decode cX6_layAll 84 = .ok (.aload_n 3, 1) := dk_45 (dk_at dksX6_layAll_3 16 rfl rfl)
theorem dX6_layAll_85 : decode cX6_layAll 85 = .ok (.iconst 0, 1) := dk_3 (dk_at dksX6_layAll_3 17 rfl rfl)
theorem dX6_layAll_86 : decode cX6_layAll 86 = .ok (.aload 4, 2) := dk_25 4 (dk_at dksX6_layAll_3 18 rfl rfl)
theorem dX6_layAll_88 : decode cX6_layAll 88 = .ok (.getfield 52, 3) := dk_180 0 52 (dk_at dksX6_layAll_3 20 rfl rfl)
theorem dX6_layAll_91 : decode cX6_layAll 91 = .ok (.getfield 69, 3) := dk_180 0 69 (dk_at dksX6_layAll_4 0 rfl rfl)
theorem dX6_layAll_94 : decode cX6_layAll 94 = .ok (.aload_n 3, 1) := dk_45 (dk_at dksX6_layAll_4 3 rfl rfl)
theorem dX6_layAll_95 : decode cX6_layAll 95 = .ok (.getfield 72, 3) := dk_180 0 72 (dk_at dksX6_layAll_4 4 rfl rfl)
theorem dX6_layAll_98 : decode cX6_layAll 98 = .ok (.isub, 1) := dk_100 (dk_at dksX6_layAll_4 7 rfl rfl)
theorem dX6_layAll_99 : decode cX6_layAll 99 = .ok (.invokestatic 75, 3) := dk_184 0 75 (dk_at dksX6_layAll_4 8 rfl rfl)
theorem dX6_layAll_102 : decode cX6_layAll 102 = .ok (.invokestatic 81, 3) := dk_184 0 81 (dk_at dksX6_layAll_4 11 rfl rfl)
theorem dX6_layAll_105 : decode cX6_layAll 105 = .ok (.invokevirtual 31, 3) := dk_182 0 31 (dk_at dksX6_layAll_4 14 rfl rfl)
theorem dX6_layAll_108 : decode cX6_layAll 108 = .ok (.goto (-74), 3) := dk_167 255 182 (dk_at dksX6_layAll_4 17 rfl rfl)
theorem dX6_layAll_111 : decode cX6_layAll 111 = .ok (.return_, 1) := dk_177 (dk_at dksX6_layAll_4 20 rfl rfl)
abbrev cX6_lay : ByteArray := prog_6_method_3_code
def yX6_lay : MethodName := ⟨RX6, "lay", "(LColumnarPress$Box;I)V"⟩
def dkwX6_lay_5 : List UInt8 := [180, 0, 15, 154, 0, 8, 43, 28, 181, 0, 85, 177]
abbrev dktX6_lay_5 : List UInt8 := dkwX6_lay_5 ++ []
def dkwX6_lay_4 : List UInt8 := [183, 0, 110, 78, 45, 43, 182, 0, 113, 43, 180, 0, 52, 43, 180, 0, 52, 180, 0, 91, 181, 0, 88, 42]
abbrev dktX6_lay_4 : List UInt8 := dkwX6_lay_4 ++ dktX6_lay_5
def dkwX6_lay_3 : List UInt8 := [16, 103, 160, 0, 11, 42, 43, 182, 0, 105, 167, 0, 21, 187, 0, 108, 89, 42, 180, 0, 3, 42]
abbrev dktX6_lay_3 : List UInt8 := dkwX6_lay_3 ++ dktX6_lay_4
def dkwX6_lay_2 : List UInt8 := [181, 0, 69, 43, 180, 0, 97, 16, 102, 160, 0, 11, 42, 43, 182, 0, 101, 167, 0, 38, 43, 180, 0, 97]
abbrev dktX6_lay_2 : List UInt8 := dkwX6_lay_2 ++ dktX6_lay_3
def dkwX6_lay_1 : List UInt8 := [180, 0, 88, 181, 0, 91, 177, 42, 89, 180, 0, 94, 4, 96, 181, 0, 94, 43, 180, 0, 52, 28]
abbrev dktX6_lay_1 : List UInt8 := dkwX6_lay_1 ++ dktX6_lay_2
def dkwX6_lay_0 : List UInt8 := [42, 180, 0, 15, 154, 0, 26, 43, 180, 0, 85, 28, 160, 0, 18, 43, 180, 0, 52, 43, 180, 0, 52]
abbrev dktX6_lay_0 : List UInt8 := dkwX6_lay_0 ++ dktX6_lay_1
theorem dksX6_lay_0 : cX6_lay.data.toList.drop 0 = dktX6_lay_0 := by decide +kernel
theorem dksX6_lay_1 : cX6_lay.data.toList.drop 23 = dktX6_lay_1 := dk_seg dksX6_lay_0 23 rfl rfl
theorem dksX6_lay_2 : cX6_lay.data.toList.drop 45 = dktX6_lay_2 := dk_seg dksX6_lay_1 22 rfl rfl
theorem dksX6_lay_3 : cX6_lay.data.toList.drop 69 = dktX6_lay_3 := dk_seg dksX6_lay_2 24 rfl rfl
theorem dksX6_lay_4 : cX6_lay.data.toList.drop 91 = dktX6_lay_4 := dk_seg dksX6_lay_3 22 rfl rfl
theorem dksX6_lay_5 : cX6_lay.data.toList.drop 115 = dktX6_lay_5 := dk_seg dksX6_lay_4 24 rfl rfl
theorem dX6_lay_0 : decode cX6_lay 0 = .ok (.aload_n 0, 1) := dk_42 (dk_at dksX6_lay_0 0 rfl rfl)
theorem dX6_lay_1 : decode cX6_lay 1 = .ok (.getfield 15, 3) := dk_180 0 15 (dk_at dksX6_lay_0 1 rfl rfl)
theorem dX6_lay_4 : decode cX6_lay 4 = .ok (.ifCond .ne 26, 3) := dk_154 0 26 (dk_at dksX6_lay_0 4 rfl rfl)
theorem dX6_lay_7 : decode cX6_lay 7 = .ok (.aload_n 1, 1) := dk_43 (dk_at dksX6_lay_0 7 rfl rfl)
theorem dX6_lay_8 : decode cX6_lay 8 = .ok (.getfield 85, 3) := dk_180 0 85 (dk_at dksX6_lay_0 8 rfl rfl)
theorem dX6_lay_11 : decode cX6_lay 11 = .ok (.iload_n 2, 1) := dk_28 (dk_at dksX6_lay_0 11 rfl rfl)
theorem dX6_lay_12 : decode cX6_lay 12 = .ok (.if_icmp .ne 18, 3) := dk_160 0 18 (dk_at dksX6_lay_0 12 rfl rfl)
theorem dX6_lay_15 : decode cX6_lay 15 = .ok (.aload_n 1, 1) := dk_43 (dk_at dksX6_lay_0 15 rfl rfl)
theorem dX6_lay_16 : decode cX6_lay 16 = .ok (.getfield 52, 3) := dk_180 0 52 (dk_at dksX6_lay_0 16 rfl rfl)
theorem dX6_lay_19 : decode cX6_lay 19 = .ok (.aload_n 1, 1) := dk_43 (dk_at dksX6_lay_0 19 rfl rfl)
theorem dX6_lay_20 : decode cX6_lay 20 = .ok (.getfield 52, 3) := dk_180 0 52 (dk_at dksX6_lay_0 20 rfl rfl)
theorem dX6_lay_23 : decode cX6_lay 23 = .ok (.getfield 88, 3) := dk_180 0 88 (dk_at dksX6_lay_1 0 rfl rfl)
theorem dX6_lay_26 : decode cX6_lay 26 = .ok (.putfield 91, 3) := dk_181 0 91 (dk_at dksX6_lay_1 3 rfl rfl)
theorem dX6_lay_29 : decode cX6_lay 29 = .ok (.return_, 1) := dk_177 (dk_at dksX6_lay_1 6 rfl rfl)
theorem dX6_lay_30 : decode cX6_lay 30 = .ok (.aload_n 0, 1) := dk_42 (dk_at dksX6_lay_1 7 rfl rfl)
theorem dX6_lay_31 : decode cX6_lay 31 = .ok (.dup, 1) := dk_89 (dk_at dksX6_lay_1 8 rfl rfl)
theorem dX6_lay_32 : decode cX6_lay 32 = .ok (.getfield 94, 3) := dk_180 0 94 (dk_at dksX6_lay_1 9 rfl rfl)
theorem dX6_lay_35 : decode cX6_lay 35 = .ok (.iconst 1, 1) := dk_4 (dk_at dksX6_lay_1 12 rfl rfl)
theorem dX6_lay_36 : decode cX6_lay 36 = .ok (.iadd, 1) := dk_96 (dk_at dksX6_lay_1 13 rfl rfl)
theorem dX6_lay_37 : decode cX6_lay 37 = .ok (.putfield 94, 3) := dk_181 0 94 (dk_at dksX6_lay_1 14 rfl rfl)
theorem dX6_lay_40 : decode cX6_lay 40 = .ok (.aload_n 1, 1) := dk_43 (dk_at dksX6_lay_1 17 rfl rfl)
theorem dX6_lay_41 : decode cX6_lay 41 = .ok (.getfield 52, 3) := dk_180 0 52 (dk_at dksX6_lay_1 18 rfl rfl)
theorem dX6_lay_44 : decode cX6_lay 44 = .ok (.iload_n 2, 1) := dk_28 (dk_at dksX6_lay_1 21 rfl rfl)
theorem dX6_lay_45 : decode cX6_lay 45 = .ok (.putfield 69, 3) := dk_181 0 69 (dk_at dksX6_lay_2 0 rfl rfl)
theorem dX6_lay_48 : decode cX6_lay 48 = .ok (.aload_n 1, 1) := dk_43 (dk_at dksX6_lay_2 3 rfl rfl)
theorem dX6_lay_49 : decode cX6_lay 49 = .ok (.getfield 97, 3) := dk_180 0 97 (dk_at dksX6_lay_2 4 rfl rfl)
theorem dX6_lay_52 : decode cX6_lay 52 = .ok (.bipush 102, 2) := dk_16 102 (dk_at dksX6_lay_2 7 rfl rfl)
theorem dX6_lay_54 : decode cX6_lay 54 = .ok (.if_icmp .ne 11, 3) := dk_160 0 11 (dk_at dksX6_lay_2 9 rfl rfl)
theorem dX6_lay_57 : decode cX6_lay 57 = .ok (.aload_n 0, 1) := dk_42 (dk_at dksX6_lay_2 12 rfl rfl)
theorem dX6_lay_58 : decode cX6_lay 58 = .ok (.aload_n 1, 1) := dk_43 (dk_at dksX6_lay_2 13 rfl rfl)
theorem dX6_lay_59 : decode cX6_lay 59 = .ok (.invokevirtual 101, 3) := dk_182 0 101 (dk_at dksX6_lay_2 14 rfl rfl)
theorem dX6_lay_62 : decode cX6_lay 62 = .ok (.goto 38, 3) := dk_167 0 38 (dk_at dksX6_lay_2 17 rfl rfl)
theorem dX6_lay_65 : decode cX6_lay 65 = .ok (.aload_n 1, 1) := dk_43 (dk_at dksX6_lay_2 20 rfl rfl)
theorem dX6_lay_66 : decode cX6_lay 66 = .ok (.getfield 97, 3) := dk_180 0 97 (dk_at dksX6_lay_2 21 rfl rfl)
theorem dX6_lay_69 : decode cX6_lay 69 = .ok (.bipush 103, 2) := dk_16 103 (dk_at dksX6_lay_3 0 rfl rfl)
theorem dX6_lay_71 : decode cX6_lay 71 = .ok (.if_icmp .ne 11, 3) := dk_160 0 11 (dk_at dksX6_lay_3 2 rfl rfl)
theorem dX6_lay_74 : decode cX6_lay 74 = .ok (.aload_n 0, 1) := dk_42 (dk_at dksX6_lay_3 5 rfl rfl)
theorem dX6_lay_75 : decode cX6_lay 75 = .ok (.aload_n 1, 1) := dk_43 (dk_at dksX6_lay_3 6 rfl rfl)
theorem dX6_lay_76 : decode cX6_lay 76 = .ok (.invokevirtual 105, 3) := dk_182 0 105 (dk_at dksX6_lay_3 7 rfl rfl)
theorem dX6_lay_79 : decode cX6_lay 79 = .ok (.goto 21, 3) := dk_167 0 21 (dk_at dksX6_lay_3 10 rfl rfl)
theorem dX6_lay_82 : decode cX6_lay 82 = .ok (.new 108, 3) := dk_187 0 108 (dk_at dksX6_lay_3 13 rfl rfl)
theorem dX6_lay_85 : decode cX6_lay 85 = .ok (.dup, 1) := dk_89 (dk_at dksX6_lay_3 16 rfl rfl)
theorem dX6_lay_86 : decode cX6_lay 86 = .ok (.aload_n 0, 1) := dk_42 (dk_at dksX6_lay_3 17 rfl rfl)
theorem dX6_lay_87 : decode cX6_lay 87 = .ok (.getfield 3, 3) := dk_180 0 3 (dk_at dksX6_lay_3 18 rfl rfl)
theorem dX6_lay_90 : decode cX6_lay 90 = .ok (.aload_n 0, 1) := dk_42 (dk_at dksX6_lay_3 21 rfl rfl)
theorem dX6_lay_91 : decode cX6_lay 91 = .ok (.invokespecial 110, 3) := dk_183 0 110 (dk_at dksX6_lay_4 0 rfl rfl)
theorem dX6_lay_94 : decode cX6_lay 94 = .ok (.astore_n 3, 1) := dk_78 (dk_at dksX6_lay_4 3 rfl rfl)
theorem dX6_lay_95 : decode cX6_lay 95 = .ok (.aload_n 3, 1) := dk_45 (dk_at dksX6_lay_4 4 rfl rfl)
theorem dX6_lay_96 : decode cX6_lay 96 = .ok (.aload_n 1, 1) := dk_43 (dk_at dksX6_lay_4 5 rfl rfl)
theorem dX6_lay_97 : decode cX6_lay 97 = .ok (.invokevirtual 113, 3) := dk_182 0 113 (dk_at dksX6_lay_4 6 rfl rfl)
theorem dX6_lay_100 : decode cX6_lay 100 = .ok (.aload_n 1, 1) := dk_43 (dk_at dksX6_lay_4 9 rfl rfl)
theorem dX6_lay_101 : decode cX6_lay 101 = .ok (.getfield 52, 3) := dk_180 0 52 (dk_at dksX6_lay_4 10 rfl rfl)
theorem dX6_lay_104 : decode cX6_lay 104 = .ok (.aload_n 1, 1) := dk_43 (dk_at dksX6_lay_4 13 rfl rfl)
theorem dX6_lay_105 : decode cX6_lay 105 = .ok (.getfield 52, 3) := dk_180 0 52 (dk_at dksX6_lay_4 14 rfl rfl)
theorem dX6_lay_108 : decode cX6_lay 108 = .ok (.getfield 91, 3) := dk_180 0 91 (dk_at dksX6_lay_4 17 rfl rfl)
theorem dX6_lay_111 : decode cX6_lay 111 = .ok (.putfield 88, 3) := dk_181 0 88 (dk_at dksX6_lay_4 20 rfl rfl)
theorem dX6_lay_114 : decode cX6_lay 114 = .ok (.aload_n 0, 1) := dk_42 (dk_at dksX6_lay_4 23 rfl rfl)
theorem dX6_lay_115 : decode cX6_lay 115 = .ok (.getfield 15, 3) := dk_180 0 15 (dk_at dksX6_lay_5 0 rfl rfl)
theorem dX6_lay_118 : decode cX6_lay 118 = .ok (.ifCond .ne 8, 3) := dk_154 0 8 (dk_at dksX6_lay_5 3 rfl rfl)
theorem dX6_lay_121 : decode cX6_lay 121 = .ok (.aload_n 1, 1) := dk_43 (dk_at dksX6_lay_5 6 rfl rfl)
theorem dX6_lay_122 : decode cX6_lay 122 = .ok (.iload_n 2, 1) := dk_28 (dk_at dksX6_lay_5 7 rfl rfl)
theorem dX6_lay_123 : decode cX6_lay 123 = .ok (.putfield 85, 3) := dk_181 0 85 (dk_at dksX6_lay_5 8 rfl rfl)
theorem dX6_lay_126 : decode cX6_lay 126 = .ok (.return_, 1) := dk_177 (dk_at dksX6_lay_5 11 rfl rfl)
abbrev cX6_layRow : ByteArray := prog_6_method_7_code
def yX6_layRow : MethodName := ⟨RX6, "layRow", "(LColumnarPress$Box;)V"⟩
def dkwX6_layRow_10 : List UInt8 := [192, 0, 29, 58, 8, 42, 25, 8, 21, 5, 182, 0, 158, 167, 255, 226, 42, 43, 21, 5, 182, 0, 161, 177]
abbrev dktX6_layRow_10 : List UInt8 := dkwX6_layRow_10 ++ []
def dkwX6_layRow_9 : List UInt8 := [185, 0, 35, 1, 0, 58, 7, 25, 7, 185, 0, 39, 1, 0, 153, 0, 26, 25, 7, 185, 0, 45, 1, 0]
abbrev dktX6_layRow_9 : List UInt8 := dkwX6_layRow_9 ++ dktX6_layRow_10
def dkwX6_layRow_8 : List UInt8 := [180, 0, 52, 180, 0, 91, 25, 8, 182, 0, 120, 96, 184, 0, 75, 54, 5, 132, 7, 1, 167, 255, 175, 44]
abbrev dktX6_layRow_8 : List UInt8 := dkwX6_layRow_8 ++ dktX6_layRow_9
def dkwX6_layRow_7 : List UInt8 := [182, 0, 154, 21, 6, 45, 21, 7, 46, 25, 8, 182, 0, 144, 96, 96, 54, 6, 21, 5, 25, 8]
abbrev dktX6_layRow_7 : List UInt8 := dkwX6_layRow_7 ++ dktX6_layRow_8
def dkwX6_layRow_6 : List UInt8 := [192, 0, 29, 58, 8, 42, 25, 8, 45, 21, 7, 46, 182, 0, 31, 42, 25, 8, 21, 6, 43, 180, 0, 117]
abbrev dktX6_layRow_6 : List UInt8 := dkwX6_layRow_6 ++ dktX6_layRow_7
def dkwX6_layRow_5 : List UInt8 := [180, 0, 117, 54, 6, 3, 54, 7, 21, 7, 45, 190, 162, 0, 80, 44, 21, 7, 185, 0, 23, 2, 0]
abbrev dktX6_layRow_5 : List UInt8 := dkwX6_layRow_5 ++ dktX6_layRow_6
def dkwX6_layRow_4 : List UInt8 := [167, 0, 18, 21, 4, 156, 0, 13, 42, 44, 45, 43, 182, 0, 137, 182, 0, 151, 3, 54, 5, 43]
abbrev dktX6_layRow_4 : List UInt8 := dkwX6_layRow_4 ++ dktX6_layRow_5
def dkwX6_layRow_3 : List UInt8 := [96, 100, 54, 4, 132, 5, 1, 167, 255, 203, 21, 4, 158, 0, 14, 42, 44, 45, 21, 4, 182, 0, 147]
abbrev dktX6_layRow_3 : List UInt8 := dkwX6_layRow_3 ++ dktX6_layRow_4
def dkwX6_layRow_2 : List UInt8 := [184, 0, 140, 79, 21, 4, 45, 21, 5, 46, 44, 21, 5, 185, 0, 23, 2, 0, 192, 0, 29, 182, 0, 144]
abbrev dktX6_layRow_2 : List UInt8 := dkwX6_layRow_2 ++ dktX6_layRow_3
def dkwX6_layRow_1 : List UInt8 := [21, 5, 45, 190, 162, 0, 52, 45, 21, 5, 44, 21, 5, 185, 0, 23, 2, 0, 192, 0, 29, 3]
abbrev dktX6_layRow_1 : List UInt8 := dkwX6_layRow_1 ++ dktX6_layRow_2
def dkwX6_layRow_0 : List UInt8 := [43, 184, 0, 130, 77, 44, 185, 0, 134, 1, 0, 188, 10, 78, 43, 182, 0, 137, 54, 4, 3, 54, 5]
abbrev dktX6_layRow_0 : List UInt8 := dkwX6_layRow_0 ++ dktX6_layRow_1
theorem dksX6_layRow_0 : cX6_layRow.data.toList.drop 0 = dktX6_layRow_0 := by decide +kernel
theorem dksX6_layRow_1 : cX6_layRow.data.toList.drop 23 = dktX6_layRow_1 := dk_seg dksX6_layRow_0 23 rfl rfl
theorem dksX6_layRow_2 : cX6_layRow.data.toList.drop 45 = dktX6_layRow_2 := dk_seg dksX6_layRow_1 22 rfl rfl
theorem dksX6_layRow_3 : cX6_layRow.data.toList.drop 69 = dktX6_layRow_3 := dk_seg dksX6_layRow_2 24 rfl rfl
theorem dksX6_layRow_4 : cX6_layRow.data.toList.drop 92 = dktX6_layRow_4 := dk_seg dksX6_layRow_3 23 rfl rfl
theorem dksX6_layRow_5 : cX6_layRow.data.toList.drop 114 = dktX6_layRow_5 := dk_seg dksX6_layRow_4 22 rfl rfl
theorem dksX6_layRow_6 : cX6_layRow.data.toList.drop 137 = dktX6_layRow_6 := dk_seg dksX6_layRow_5 23 rfl rfl
theorem dksX6_layRow_7 : cX6_layRow.data.toList.drop 161 = dktX6_layRow_7 := dk_seg dksX6_layRow_6 24 rfl rfl
theorem dksX6_layRow_8 : cX6_layRow.data.toList.drop 183 = dktX6_layRow_8 := dk_seg dksX6_layRow_7 22 rfl rfl
theorem dksX6_layRow_9 : cX6_layRow.data.toList.drop 207 = dktX6_layRow_9 := dk_seg dksX6_layRow_8 24 rfl rfl
theorem dksX6_layRow_10 : cX6_layRow.data.toList.drop 231 = dktX6_layRow_10 := dk_seg dksX6_layRow_9 24 rfl rfl
theorem dX6_layRow_0 : decode cX6_layRow 0 = .ok (.aload_n 1, 1) := dk_43 (dk_at dksX6_layRow_0 0 rfl rfl)
theorem dX6_layRow_1 : decode cX6_layRow 1 = .ok (.invokestatic 130, 3) := dk_184 0 130 (dk_at dksX6_layRow_0 1 rfl rfl)
theorem dX6_layRow_4 : decode cX6_layRow 4 = .ok (.astore_n 2, 1) := dk_77 (dk_at dksX6_layRow_0 4 rfl rfl)
theorem dX6_layRow_5 : decode cX6_layRow 5 = .ok (.aload_n 2, 1) := dk_44 (dk_at dksX6_layRow_0 5 rfl rfl)
theorem dX6_layRow_6 : decode cX6_layRow 6 = .ok (.invokeinterface 134 1, 5) := by decide +kernel
theorem dX6_layRow_11 : decode cX6_layRow 11 = .ok (.newarray .int, 2) := dk_188_10 (dk_at dksX6_layRow_0 11 rfl rfl)
theorem dX6_layRow_13 : decode cX6_layRow 13 = .ok (.astore_n 3, 1) := dk_78 (dk_at dksX6_layRow_0 13 rfl rfl)
theorem dX6_layRow_14 : decode cX6_layRow 14 = .ok (.aload_n 1, 1) := dk_43 (dk_at dksX6_layRow_0 14 rfl rfl)
theorem dX6_layRow_15 : decode cX6_layRow 15 = .ok (.invokevirtual 137, 3) := dk_182 0 137 (dk_at dksX6_layRow_0 15 rfl rfl)
theorem dX6_layRow_18 : decode cX6_layRow 18 = .ok (.istore 4, 2) := dk_54 4 (dk_at dksX6_layRow_0 18 rfl rfl)
theorem dX6_layRow_20 : decode cX6_layRow 20 = .ok (.iconst 0, 1) := dk_3 (dk_at dksX6_layRow_0 20 rfl rfl)
theorem dX6_layRow_21 : decode cX6_layRow 21 = .ok (.istore 5, 2) := dk_54 5 (dk_at dksX6_layRow_0 21 rfl rfl)
theorem dX6_layRow_23 : decode cX6_layRow 23 = .ok (.iload 5, 2) := dk_21 5 (dk_at dksX6_layRow_1 0 rfl rfl)
theorem dX6_layRow_25 : decode cX6_layRow 25 = .ok (.aload_n 3, 1) := dk_45 (dk_at dksX6_layRow_1 2 rfl rfl)
theorem dX6_layRow_26 : decode cX6_layRow 26 = .ok (.arraylength, 1) := dk_190 (dk_at dksX6_layRow_1 3 rfl rfl)
theorem dX6_layRow_27 : decode cX6_layRow 27 = .ok (.if_icmp .ge 52, 3) := dk_162 0 52 (dk_at dksX6_layRow_1 4 rfl rfl)
theorem dX6_layRow_30 : decode cX6_layRow 30 = .ok (.aload_n 3, 1) := dk_45 (dk_at dksX6_layRow_1 7 rfl rfl)
theorem dX6_layRow_31 : decode cX6_layRow 31 = .ok (.iload 5, 2) := dk_21 5 (dk_at dksX6_layRow_1 8 rfl rfl)
theorem dX6_layRow_33 : decode cX6_layRow 33 = .ok (.aload_n 2, 1) := dk_44 (dk_at dksX6_layRow_1 10 rfl rfl)
theorem dX6_layRow_34 : decode cX6_layRow 34 = .ok (.iload 5, 2) := dk_21 5 (dk_at dksX6_layRow_1 11 rfl rfl)
theorem dX6_layRow_36 : decode cX6_layRow 36 = .ok (.invokeinterface 23 2, 5) := by decide +kernel
theorem dX6_layRow_41 : decode cX6_layRow 41 = .ok (.checkcast 29, 3) := dk_192 0 29 (dk_at dksX6_layRow_1 18 rfl rfl)
theorem dX6_layRow_44 : decode cX6_layRow 44 = .ok (.iconst 0, 1) := dk_3 (dk_at dksX6_layRow_1 21 rfl rfl)
theorem dX6_layRow_45 : decode cX6_layRow 45 = .ok (.invokestatic 140, 3) := dk_184 0 140 (dk_at dksX6_layRow_2 0 rfl rfl)
theorem dX6_layRow_48 : decode cX6_layRow 48 = .ok (.iastore, 1) := dk_79 (dk_at dksX6_layRow_2 3 rfl rfl)
theorem dX6_layRow_49 : decode cX6_layRow 49 = .ok (.iload 4, 2) := dk_21 4 (dk_at dksX6_layRow_2 4 rfl rfl)
theorem dX6_layRow_51 : decode cX6_layRow 51 = .ok (.aload_n 3, 1) := dk_45 (dk_at dksX6_layRow_2 6 rfl rfl)
theorem dX6_layRow_52 : decode cX6_layRow 52 = .ok (.iload 5, 2) := dk_21 5 (dk_at dksX6_layRow_2 7 rfl rfl)
theorem dX6_layRow_54 : decode cX6_layRow 54 = .ok (.iaload, 1) := dk_46 (dk_at dksX6_layRow_2 9 rfl rfl)
theorem dX6_layRow_55 : decode cX6_layRow 55 = .ok (.aload_n 2, 1) := dk_44 (dk_at dksX6_layRow_2 10 rfl rfl)
theorem dX6_layRow_56 : decode cX6_layRow 56 = .ok (.iload 5, 2) := dk_21 5 (dk_at dksX6_layRow_2 11 rfl rfl)
theorem dX6_layRow_58 : decode cX6_layRow 58 = .ok (.invokeinterface 23 2, 5) := by decide +kernel
theorem dX6_layRow_63 : decode cX6_layRow 63 = .ok (.checkcast 29, 3) := dk_192 0 29 (dk_at dksX6_layRow_2 18 rfl rfl)
theorem dX6_layRow_66 : decode cX6_layRow 66 = .ok (.invokevirtual 144, 3) := dk_182 0 144 (dk_at dksX6_layRow_2 21 rfl rfl)
theorem dX6_layRow_69 : decode cX6_layRow 69 = .ok (.iadd, 1) := dk_96 (dk_at dksX6_layRow_3 0 rfl rfl)
theorem dX6_layRow_70 : decode cX6_layRow 70 = .ok (.isub, 1) := dk_100 (dk_at dksX6_layRow_3 1 rfl rfl)
theorem dX6_layRow_71 : decode cX6_layRow 71 = .ok (.istore 4, 2) := dk_54 4 (dk_at dksX6_layRow_3 2 rfl rfl)
theorem dX6_layRow_73 : decode cX6_layRow 73 = .ok (.iinc 5 1, 3) := dk_132 5 1 (dk_at dksX6_layRow_3 4 rfl rfl)
theorem dX6_layRow_76 : decode cX6_layRow 76 = .ok (.goto (-53), 3) := dk_167 255 203 (dk_at dksX6_layRow_3 7 rfl rfl)
theorem dX6_layRow_79 : decode cX6_layRow 79 = .ok (.iload 4, 2) := dk_21 4 (dk_at dksX6_layRow_3 10 rfl rfl)
theorem dX6_layRow_81 : decode cX6_layRow 81 = .ok (.ifCond .le 14, 3) := dk_158 0 14 (dk_at dksX6_layRow_3 12 rfl rfl)
theorem dX6_layRow_84 : decode cX6_layRow 84 = .ok (.aload_n 0, 1) := dk_42 (dk_at dksX6_layRow_3 15 rfl rfl)
theorem dX6_layRow_85 : decode cX6_layRow 85 = .ok (.aload_n 2, 1) := dk_44 (dk_at dksX6_layRow_3 16 rfl rfl)
theorem dX6_layRow_86 : decode cX6_layRow 86 = .ok (.aload_n 3, 1) := dk_45 (dk_at dksX6_layRow_3 17 rfl rfl)
theorem dX6_layRow_87 : decode cX6_layRow 87 = .ok (.iload 4, 2) := dk_21 4 (dk_at dksX6_layRow_3 18 rfl rfl)
theorem dX6_layRow_89 : decode cX6_layRow 89 = .ok (.invokevirtual 147, 3) := dk_182 0 147 (dk_at dksX6_layRow_3 20 rfl rfl)
theorem dX6_layRow_92 : decode cX6_layRow 92 = .ok (.goto 18, 3) := dk_167 0 18 (dk_at dksX6_layRow_4 0 rfl rfl)
theorem dX6_layRow_95 : decode cX6_layRow 95 = .ok (.iload 4, 2) := dk_21 4 (dk_at dksX6_layRow_4 3 rfl rfl)
theorem dX6_layRow_97 : decode cX6_layRow 97 = .ok (.ifCond .ge 13, 3) := dk_156 0 13 (dk_at dksX6_layRow_4 5 rfl rfl)
theorem dX6_layRow_100 : decode cX6_layRow 100 = .ok (.aload_n 0, 1) := dk_42 (dk_at dksX6_layRow_4 8 rfl rfl)
theorem dX6_layRow_101 : decode cX6_layRow 101 = .ok (.aload_n 2, 1) := dk_44 (dk_at dksX6_layRow_4 9 rfl rfl)
theorem dX6_layRow_102 : decode cX6_layRow 102 = .ok (.aload_n 3, 1) := dk_45 (dk_at dksX6_layRow_4 10 rfl rfl)
theorem dX6_layRow_103 : decode cX6_layRow 103 = .ok (.aload_n 1, 1) := dk_43 (dk_at dksX6_layRow_4 11 rfl rfl)
theorem dX6_layRow_104 : decode cX6_layRow 104 = .ok (.invokevirtual 137, 3) := dk_182 0 137 (dk_at dksX6_layRow_4 12 rfl rfl)
theorem dX6_layRow_107 : decode cX6_layRow 107 = .ok (.invokevirtual 151, 3) := dk_182 0 151 (dk_at dksX6_layRow_4 15 rfl rfl)
theorem dX6_layRow_110 : decode cX6_layRow 110 = .ok (.iconst 0, 1) := dk_3 (dk_at dksX6_layRow_4 18 rfl rfl)
theorem dX6_layRow_111 : decode cX6_layRow 111 = .ok (.istore 5, 2) := dk_54 5 (dk_at dksX6_layRow_4 19 rfl rfl)
theorem dX6_layRow_113 : decode cX6_layRow 113 = .ok (.aload_n 1, 1) := dk_43 (dk_at dksX6_layRow_4 21 rfl rfl)
theorem dX6_layRow_114 : decode cX6_layRow 114 = .ok (.getfield 117, 3) := dk_180 0 117 (dk_at dksX6_layRow_5 0 rfl rfl)
theorem dX6_layRow_117 : decode cX6_layRow 117 = .ok (.istore 6, 2) := dk_54 6 (dk_at dksX6_layRow_5 3 rfl rfl)
theorem dX6_layRow_119 : decode cX6_layRow 119 = .ok (.iconst 0, 1) := dk_3 (dk_at dksX6_layRow_5 5 rfl rfl)
theorem dX6_layRow_120 : decode cX6_layRow 120 = .ok (.istore 7, 2) := dk_54 7 (dk_at dksX6_layRow_5 6 rfl rfl)
theorem dX6_layRow_122 : decode cX6_layRow 122 = .ok (.iload 7, 2) := dk_21 7 (dk_at dksX6_layRow_5 8 rfl rfl)
theorem dX6_layRow_124 : decode cX6_layRow 124 = .ok (.aload_n 3, 1) := dk_45 (dk_at dksX6_layRow_5 10 rfl rfl)
theorem dX6_layRow_125 : decode cX6_layRow 125 = .ok (.arraylength, 1) := dk_190 (dk_at dksX6_layRow_5 11 rfl rfl)
theorem dX6_layRow_126 : decode cX6_layRow 126 = .ok (.if_icmp .ge 80, 3) := dk_162 0 80 (dk_at dksX6_layRow_5 12 rfl rfl)
theorem dX6_layRow_129 : decode cX6_layRow 129 = .ok (.aload_n 2, 1) := dk_44 (dk_at dksX6_layRow_5 15 rfl rfl)
theorem dX6_layRow_130 : decode cX6_layRow 130 = .ok (.iload 7, 2) := dk_21 7 (dk_at dksX6_layRow_5 16 rfl rfl)
theorem dX6_layRow_132 : decode cX6_layRow 132 = .ok (.invokeinterface 23 2, 5) := by decide +kernel
theorem dX6_layRow_137 : decode cX6_layRow 137 = .ok (.checkcast 29, 3) := dk_192 0 29 (dk_at dksX6_layRow_6 0 rfl rfl)
theorem dX6_layRow_140 : decode cX6_layRow 140 = .ok (.astore 8, 2) := dk_58 8 (dk_at dksX6_layRow_6 3 rfl rfl)
theorem dX6_layRow_142 : decode cX6_layRow 142 = .ok (.aload_n 0, 1) := dk_42 (dk_at dksX6_layRow_6 5 rfl rfl)
theorem dX6_layRow_143 : decode cX6_layRow 143 = .ok (.aload 8, 2) := dk_25 8 (dk_at dksX6_layRow_6 6 rfl rfl)
theorem dX6_layRow_145 : decode cX6_layRow 145 = .ok (.aload_n 3, 1) := dk_45 (dk_at dksX6_layRow_6 8 rfl rfl)
theorem dX6_layRow_146 : decode cX6_layRow 146 = .ok (.iload 7, 2) := dk_21 7 (dk_at dksX6_layRow_6 9 rfl rfl)
theorem dX6_layRow_148 : decode cX6_layRow 148 = .ok (.iaload, 1) := dk_46 (dk_at dksX6_layRow_6 11 rfl rfl)
theorem dX6_layRow_149 : decode cX6_layRow 149 = .ok (.invokevirtual 31, 3) := dk_182 0 31 (dk_at dksX6_layRow_6 12 rfl rfl)
theorem dX6_layRow_152 : decode cX6_layRow 152 = .ok (.aload_n 0, 1) := dk_42 (dk_at dksX6_layRow_6 15 rfl rfl)
theorem dX6_layRow_153 : decode cX6_layRow 153 = .ok (.aload 8, 2) := dk_25 8 (dk_at dksX6_layRow_6 16 rfl rfl)
theorem dX6_layRow_155 : decode cX6_layRow 155 = .ok (.iload 6, 2) := dk_21 6 (dk_at dksX6_layRow_6 18 rfl rfl)
theorem dX6_layRow_157 : decode cX6_layRow 157 = .ok (.aload_n 1, 1) := dk_43 (dk_at dksX6_layRow_6 20 rfl rfl)
theorem dX6_layRow_158 : decode cX6_layRow 158 = .ok (.getfield 117, 3) := dk_180 0 117 (dk_at dksX6_layRow_6 21 rfl rfl)
theorem dX6_layRow_161 : decode cX6_layRow 161 = .ok (.invokevirtual 154, 3) := dk_182 0 154 (dk_at dksX6_layRow_7 0 rfl rfl)
theorem dX6_layRow_164 : decode cX6_layRow 164 = .ok (.iload 6, 2) := dk_21 6 (dk_at dksX6_layRow_7 3 rfl rfl)
theorem dX6_layRow_166 : decode cX6_layRow 166 = .ok (.aload_n 3, 1) := dk_45 (dk_at dksX6_layRow_7 5 rfl rfl)
theorem dX6_layRow_167 : decode cX6_layRow 167 = .ok (.iload 7, 2) := dk_21 7 (dk_at dksX6_layRow_7 6 rfl rfl)
theorem dX6_layRow_169 : decode cX6_layRow 169 = .ok (.iaload, 1) := dk_46 (dk_at dksX6_layRow_7 8 rfl rfl)
theorem dX6_layRow_170 : decode cX6_layRow 170 = .ok (.aload 8, 2) := dk_25 8 (dk_at dksX6_layRow_7 9 rfl rfl)
theorem dX6_layRow_172 : decode cX6_layRow 172 = .ok (.invokevirtual 144, 3) := dk_182 0 144 (dk_at dksX6_layRow_7 11 rfl rfl)
theorem dX6_layRow_175 : decode cX6_layRow 175 = .ok (.iadd, 1) := dk_96 (dk_at dksX6_layRow_7 14 rfl rfl)
theorem dX6_layRow_176 : decode cX6_layRow 176 = .ok (.iadd, 1) := dk_96 (dk_at dksX6_layRow_7 15 rfl rfl)
theorem dX6_layRow_177 : decode cX6_layRow 177 = .ok (.istore 6, 2) := dk_54 6 (dk_at dksX6_layRow_7 16 rfl rfl)
theorem dX6_layRow_179 : decode cX6_layRow 179 = .ok (.iload 5, 2) := dk_21 5 (dk_at dksX6_layRow_7 18 rfl rfl)
theorem dX6_layRow_181 : decode cX6_layRow 181 = .ok (.aload 8, 2) := dk_25 8 (dk_at dksX6_layRow_7 20 rfl rfl)
theorem dX6_layRow_183 : decode cX6_layRow 183 = .ok (.getfield 52, 3) := dk_180 0 52 (dk_at dksX6_layRow_8 0 rfl rfl)
theorem dX6_layRow_186 : decode cX6_layRow 186 = .ok (.getfield 91, 3) := dk_180 0 91 (dk_at dksX6_layRow_8 3 rfl rfl)
theorem dX6_layRow_189 : decode cX6_layRow 189 = .ok (.aload 8, 2) := dk_25 8 (dk_at dksX6_layRow_8 6 rfl rfl)
theorem dX6_layRow_191 : decode cX6_layRow 191 = .ok (.invokevirtual 120, 3) := dk_182 0 120 (dk_at dksX6_layRow_8 8 rfl rfl)
theorem dX6_layRow_194 : decode cX6_layRow 194 = .ok (.iadd, 1) := dk_96 (dk_at dksX6_layRow_8 11 rfl rfl)
theorem dX6_layRow_195 : decode cX6_layRow 195 = .ok (.invokestatic 75, 3) := dk_184 0 75 (dk_at dksX6_layRow_8 12 rfl rfl)
theorem dX6_layRow_198 : decode cX6_layRow 198 = .ok (.istore 5, 2) := dk_54 5 (dk_at dksX6_layRow_8 15 rfl rfl)
theorem dX6_layRow_200 : decode cX6_layRow 200 = .ok (.iinc 7 1, 3) := dk_132 7 1 (dk_at dksX6_layRow_8 17 rfl rfl)
theorem dX6_layRow_203 : decode cX6_layRow 203 = .ok (.goto (-81), 3) := dk_167 255 175 (dk_at dksX6_layRow_8 20 rfl rfl)
theorem dX6_layRow_206 : decode cX6_layRow 206 = .ok (.aload_n 2, 1) := dk_44 (dk_at dksX6_layRow_8 23 rfl rfl)
theorem dX6_layRow_207 : decode cX6_layRow 207 = .ok (.invokeinterface 35 1, 5) := by decide +kernel
theorem dX6_layRow_212 : decode cX6_layRow 212 = .ok (.astore 7, 2) := dk_58 7 (dk_at dksX6_layRow_9 5 rfl rfl)
theorem dX6_layRow_214 : decode cX6_layRow 214 = .ok (.aload 7, 2) := dk_25 7 (dk_at dksX6_layRow_9 7 rfl rfl)
theorem dX6_layRow_216 : decode cX6_layRow 216 = .ok (.invokeinterface 39 1, 5) := by decide +kernel
theorem dX6_layRow_221 : decode cX6_layRow 221 = .ok (.ifCond .eq 26, 3) := dk_153 0 26 (dk_at dksX6_layRow_9 14 rfl rfl)
theorem dX6_layRow_224 : decode cX6_layRow 224 = .ok (.aload 7, 2) := dk_25 7 (dk_at dksX6_layRow_9 17 rfl rfl)
theorem dX6_layRow_226 : decode cX6_layRow 226 = .ok (.invokeinterface 45 1, 5) := by decide +kernel
theorem dX6_layRow_231 : decode cX6_layRow 231 = .ok (.checkcast 29, 3) := dk_192 0 29 (dk_at dksX6_layRow_10 0 rfl rfl)
theorem dX6_layRow_234 : decode cX6_layRow 234 = .ok (.astore 8, 2) := dk_58 8 (dk_at dksX6_layRow_10 3 rfl rfl)
theorem dX6_layRow_236 : decode cX6_layRow 236 = .ok (.aload_n 0, 1) := dk_42 (dk_at dksX6_layRow_10 5 rfl rfl)
theorem dX6_layRow_237 : decode cX6_layRow 237 = .ok (.aload 8, 2) := dk_25 8 (dk_at dksX6_layRow_10 6 rfl rfl)
theorem dX6_layRow_239 : decode cX6_layRow 239 = .ok (.iload 5, 2) := dk_21 5 (dk_at dksX6_layRow_10 8 rfl rfl)
theorem dX6_layRow_241 : decode cX6_layRow 241 = .ok (.invokevirtual 158, 3) := dk_182 0 158 (dk_at dksX6_layRow_10 10 rfl rfl)
theorem dX6_layRow_244 : decode cX6_layRow 244 = .ok (.goto (-30), 3) := dk_167 255 226 (dk_at dksX6_layRow_10 13 rfl rfl)
theorem dX6_layRow_247 : decode cX6_layRow 247 = .ok (.aload_n 0, 1) := dk_42 (dk_at dksX6_layRow_10 16 rfl rfl)
theorem dX6_layRow_248 : decode cX6_layRow 248 = .ok (.aload_n 1, 1) := dk_43 (dk_at dksX6_layRow_10 17 rfl rfl)
theorem dX6_layRow_249 : decode cX6_layRow 249 = .ok (.iload 5, 2) := dk_21 5 (dk_at dksX6_layRow_10 18 rfl rfl)
theorem dX6_layRow_251 : decode cX6_layRow 251 = .ok (.invokevirtual 161, 3) := dk_182 0 161 (dk_at dksX6_layRow_10 20 rfl rfl)
theorem dX6_layRow_254 : decode cX6_layRow 254 = .ok (.return_, 1) := dk_177 (dk_at dksX6_layRow_10 23 rfl rfl)
abbrev cX6_grow : ByteArray := prog_6_method_8_code
def yX6_grow : MethodName := ⟨RX6, "grow", "(Ljava/util/List;[II)V"⟩
def dkwX6_grow_7 : List UInt8 := [167, 255, 213, 177]
abbrev dktX6_grow_7 : List UInt8 := dkwX6_grow_7 ++ []
def dkwX6_grow_6 : List UInt8 := [192, 0, 29, 180, 0, 164, 158, 0, 14, 44, 21, 6, 92, 46, 4, 96, 79, 132, 5, 255, 132, 6, 1]
abbrev dktX6_grow_6 : List UInt8 := dkwX6_grow_6 ++ dktX6_grow_7
def dkwX6_grow_5 : List UInt8 := [54, 6, 21, 6, 44, 190, 162, 0, 42, 21, 5, 158, 0, 37, 43, 21, 6, 185, 0, 23, 2, 0]
abbrev dktX6_grow_5 : List UInt8 := dkwX6_grow_5 ++ dktX6_grow_6
def dkwX6_grow_4 : List UInt8 := [44, 21, 6, 92, 46, 21, 7, 96, 79, 21, 5, 21, 7, 100, 54, 5, 132, 6, 1, 167, 255, 204, 3]
abbrev dktX6_grow_4 : List UInt8 := dkwX6_grow_4 ++ dktX6_grow_5
def dkwX6_grow_3 : List UInt8 := [158, 0, 46, 29, 43, 21, 6, 185, 0, 23, 2, 0, 192, 0, 29, 180, 0, 164, 104, 21, 4, 108, 54, 7]
abbrev dktX6_grow_3 : List UInt8 := dkwX6_grow_3 ++ dktX6_grow_4
def dkwX6_grow_2 : List UInt8 := [21, 4, 154, 0, 7, 3, 167, 0, 4, 29, 54, 5, 3, 54, 6, 21, 6, 44, 190, 162, 0, 51, 21, 4]
abbrev dktX6_grow_2 : List UInt8 := dkwX6_grow_2 ++ dktX6_grow_3
def dkwX6_grow_1 : List UInt8 := [185, 0, 45, 1, 0, 192, 0, 29, 58, 6, 21, 4, 25, 6, 180, 0, 164, 96, 54, 4, 167, 255, 224]
abbrev dktX6_grow_1 : List UInt8 := dkwX6_grow_1 ++ dktX6_grow_2
def dkwX6_grow_0 : List UInt8 := [3, 54, 4, 43, 185, 0, 35, 1, 0, 58, 5, 25, 5, 185, 0, 39, 1, 0, 153, 0, 28, 25, 5]
abbrev dktX6_grow_0 : List UInt8 := dkwX6_grow_0 ++ dktX6_grow_1
theorem dksX6_grow_0 : cX6_grow.data.toList.drop 0 = dktX6_grow_0 := by decide +kernel
theorem dksX6_grow_1 : cX6_grow.data.toList.drop 23 = dktX6_grow_1 := dk_seg dksX6_grow_0 23 rfl rfl
theorem dksX6_grow_2 : cX6_grow.data.toList.drop 46 = dktX6_grow_2 := dk_seg dksX6_grow_1 23 rfl rfl
theorem dksX6_grow_3 : cX6_grow.data.toList.drop 70 = dktX6_grow_3 := dk_seg dksX6_grow_2 24 rfl rfl
theorem dksX6_grow_4 : cX6_grow.data.toList.drop 94 = dktX6_grow_4 := dk_seg dksX6_grow_3 24 rfl rfl
theorem dksX6_grow_5 : cX6_grow.data.toList.drop 117 = dktX6_grow_5 := dk_seg dksX6_grow_4 23 rfl rfl
theorem dksX6_grow_6 : cX6_grow.data.toList.drop 139 = dktX6_grow_6 := dk_seg dksX6_grow_5 22 rfl rfl
theorem dksX6_grow_7 : cX6_grow.data.toList.drop 162 = dktX6_grow_7 := dk_seg dksX6_grow_6 23 rfl rfl
theorem dX6_grow_0 : decode cX6_grow 0 = .ok (.iconst 0, 1) := dk_3 (dk_at dksX6_grow_0 0 rfl rfl)
theorem dX6_grow_1 : decode cX6_grow 1 = .ok (.istore 4, 2) := dk_54 4 (dk_at dksX6_grow_0 1 rfl rfl)
theorem dX6_grow_3 : decode cX6_grow 3 = .ok (.aload_n 1, 1) := dk_43 (dk_at dksX6_grow_0 3 rfl rfl)
theorem dX6_grow_4 : decode cX6_grow 4 = .ok (.invokeinterface 35 1, 5) := by decide +kernel
theorem dX6_grow_9 : decode cX6_grow 9 = .ok (.astore 5, 2) := dk_58 5 (dk_at dksX6_grow_0 9 rfl rfl)
theorem dX6_grow_11 : decode cX6_grow 11 = .ok (.aload 5, 2) := dk_25 5 (dk_at dksX6_grow_0 11 rfl rfl)
theorem dX6_grow_13 : decode cX6_grow 13 = .ok (.invokeinterface 39 1, 5) := by decide +kernel
theorem dX6_grow_18 : decode cX6_grow 18 = .ok (.ifCond .eq 28, 3) := dk_153 0 28 (dk_at dksX6_grow_0 18 rfl rfl)
theorem dX6_grow_21 : decode cX6_grow 21 = .ok (.aload 5, 2) := dk_25 5 (dk_at dksX6_grow_0 21 rfl rfl)
theorem dX6_grow_23 : decode cX6_grow 23 = .ok (.invokeinterface 45 1, 5) := by decide +kernel
theorem dX6_grow_28 : decode cX6_grow 28 = .ok (.checkcast 29, 3) := dk_192 0 29 (dk_at dksX6_grow_1 5 rfl rfl)
theorem dX6_grow_31 : decode cX6_grow 31 = .ok (.astore 6, 2) := dk_58 6 (dk_at dksX6_grow_1 8 rfl rfl)
theorem dX6_grow_33 : decode cX6_grow 33 = .ok (.iload 4, 2) := dk_21 4 (dk_at dksX6_grow_1 10 rfl rfl)
theorem dX6_grow_35 : decode cX6_grow 35 = .ok (.aload 6, 2) := dk_25 6 (dk_at dksX6_grow_1 12 rfl rfl)
theorem dX6_grow_37 : decode cX6_grow 37 = .ok (.getfield 164, 3) := dk_180 0 164 (dk_at dksX6_grow_1 14 rfl rfl)
theorem dX6_grow_40 : decode cX6_grow 40 = .ok (.iadd, 1) := dk_96 (dk_at dksX6_grow_1 17 rfl rfl)
theorem dX6_grow_41 : decode cX6_grow 41 = .ok (.istore 4, 2) := dk_54 4 (dk_at dksX6_grow_1 18 rfl rfl)
theorem dX6_grow_43 : decode cX6_grow 43 = .ok (.goto (-32), 3) := dk_167 255 224 (dk_at dksX6_grow_1 20 rfl rfl)
theorem dX6_grow_46 : decode cX6_grow 46 = .ok (.iload 4, 2) := dk_21 4 (dk_at dksX6_grow_2 0 rfl rfl)
theorem dX6_grow_48 : decode cX6_grow 48 = .ok (.ifCond .ne 7, 3) := dk_154 0 7 (dk_at dksX6_grow_2 2 rfl rfl)
theorem dX6_grow_51 : decode cX6_grow 51 = .ok (.iconst 0, 1) := dk_3 (dk_at dksX6_grow_2 5 rfl rfl)
theorem dX6_grow_52 : decode cX6_grow 52 = .ok (.goto 4, 3) := dk_167 0 4 (dk_at dksX6_grow_2 6 rfl rfl)
theorem dX6_grow_55 : decode cX6_grow 55 = .ok (.iload_n 3, 1) := dk_29 (dk_at dksX6_grow_2 9 rfl rfl)
theorem dX6_grow_56 : decode cX6_grow 56 = .ok (.istore 5, 2) := dk_54 5 (dk_at dksX6_grow_2 10 rfl rfl)
theorem dX6_grow_58 : decode cX6_grow 58 = .ok (.iconst 0, 1) := dk_3 (dk_at dksX6_grow_2 12 rfl rfl)
theorem dX6_grow_59 : decode cX6_grow 59 = .ok (.istore 6, 2) := dk_54 6 (dk_at dksX6_grow_2 13 rfl rfl)
theorem dX6_grow_61 : decode cX6_grow 61 = .ok (.iload 6, 2) := dk_21 6 (dk_at dksX6_grow_2 15 rfl rfl)
theorem dX6_grow_63 : decode cX6_grow 63 = .ok (.aload_n 2, 1) := dk_44 (dk_at dksX6_grow_2 17 rfl rfl)
theorem dX6_grow_64 : decode cX6_grow 64 = .ok (.arraylength, 1) := dk_190 (dk_at dksX6_grow_2 18 rfl rfl)
theorem dX6_grow_65 : decode cX6_grow 65 = .ok (.if_icmp .ge 51, 3) := dk_162 0 51 (dk_at dksX6_grow_2 19 rfl rfl)
theorem dX6_grow_68 : decode cX6_grow 68 = .ok (.iload 4, 2) := dk_21 4 (dk_at dksX6_grow_2 22 rfl rfl)
theorem dX6_grow_70 : decode cX6_grow 70 = .ok (.ifCond .le 46, 3) := dk_158 0 46 (dk_at dksX6_grow_3 0 rfl rfl)
theorem dX6_grow_73 : decode cX6_grow 73 = .ok (.iload_n 3, 1) := dk_29 (dk_at dksX6_grow_3 3 rfl rfl)
theorem dX6_grow_74 : decode cX6_grow 74 = .ok (.aload_n 1, 1) := dk_43 (dk_at dksX6_grow_3 4 rfl rfl)
theorem dX6_grow_75 : decode cX6_grow 75 = .ok (.iload 6, 2) := dk_21 6 (dk_at dksX6_grow_3 5 rfl rfl)
theorem dX6_grow_77 : decode cX6_grow 77 = .ok (.invokeinterface 23 2, 5) := by decide +kernel
theorem dX6_grow_82 : decode cX6_grow 82 = .ok (.checkcast 29, 3) := dk_192 0 29 (dk_at dksX6_grow_3 12 rfl rfl)
theorem dX6_grow_85 : decode cX6_grow 85 = .ok (.getfield 164, 3) := dk_180 0 164 (dk_at dksX6_grow_3 15 rfl rfl)
theorem dX6_grow_88 : decode cX6_grow 88 = .ok (.imul, 1) := dk_104 (dk_at dksX6_grow_3 18 rfl rfl)
theorem dX6_grow_89 : decode cX6_grow 89 = .ok (.iload 4, 2) := dk_21 4 (dk_at dksX6_grow_3 19 rfl rfl)
theorem dX6_grow_91 : decode cX6_grow 91 = .ok (.idiv, 1) := dk_108 (dk_at dksX6_grow_3 21 rfl rfl)
theorem dX6_grow_92 : decode cX6_grow 92 = .ok (.istore 7, 2) := dk_54 7 (dk_at dksX6_grow_3 22 rfl rfl)
theorem dX6_grow_94 : decode cX6_grow 94 = .ok (.aload_n 2, 1) := dk_44 (dk_at dksX6_grow_4 0 rfl rfl)
theorem dX6_grow_95 : decode cX6_grow 95 = .ok (.iload 6, 2) := dk_21 6 (dk_at dksX6_grow_4 1 rfl rfl)
theorem dX6_grow_97 : decode cX6_grow 97 = .ok (.dup2, 1) := dk_92 (dk_at dksX6_grow_4 3 rfl rfl)
theorem dX6_grow_98 : decode cX6_grow 98 = .ok (.iaload, 1) := dk_46 (dk_at dksX6_grow_4 4 rfl rfl)
theorem dX6_grow_99 : decode cX6_grow 99 = .ok (.iload 7, 2) := dk_21 7 (dk_at dksX6_grow_4 5 rfl rfl)
theorem dX6_grow_101 : decode cX6_grow 101 = .ok (.iadd, 1) := dk_96 (dk_at dksX6_grow_4 7 rfl rfl)
theorem dX6_grow_102 : decode cX6_grow 102 = .ok (.iastore, 1) := dk_79 (dk_at dksX6_grow_4 8 rfl rfl)
theorem dX6_grow_103 : decode cX6_grow 103 = .ok (.iload 5, 2) := dk_21 5 (dk_at dksX6_grow_4 9 rfl rfl)
theorem dX6_grow_105 : decode cX6_grow 105 = .ok (.iload 7, 2) := dk_21 7 (dk_at dksX6_grow_4 11 rfl rfl)
theorem dX6_grow_107 : decode cX6_grow 107 = .ok (.isub, 1) := dk_100 (dk_at dksX6_grow_4 13 rfl rfl)
theorem dX6_grow_108 : decode cX6_grow 108 = .ok (.istore 5, 2) := dk_54 5 (dk_at dksX6_grow_4 14 rfl rfl)
theorem dX6_grow_110 : decode cX6_grow 110 = .ok (.iinc 6 1, 3) := dk_132 6 1 (dk_at dksX6_grow_4 16 rfl rfl)
theorem dX6_grow_113 : decode cX6_grow 113 = .ok (.goto (-52), 3) := dk_167 255 204 (dk_at dksX6_grow_4 19 rfl rfl)
theorem dX6_grow_116 : decode cX6_grow 116 = .ok (.iconst 0, 1) := dk_3 (dk_at dksX6_grow_4 22 rfl rfl)
theorem dX6_grow_117 : decode cX6_grow 117 = .ok (.istore 6, 2) := dk_54 6 (dk_at dksX6_grow_5 0 rfl rfl)
theorem dX6_grow_119 : decode cX6_grow 119 = .ok (.iload 6, 2) := dk_21 6 (dk_at dksX6_grow_5 2 rfl rfl)
theorem dX6_grow_121 : decode cX6_grow 121 = .ok (.aload_n 2, 1) := dk_44 (dk_at dksX6_grow_5 4 rfl rfl)
theorem dX6_grow_122 : decode cX6_grow 122 = .ok (.arraylength, 1) := dk_190 (dk_at dksX6_grow_5 5 rfl rfl)
theorem dX6_grow_123 : decode cX6_grow 123 = .ok (.if_icmp .ge 42, 3) := dk_162 0 42 (dk_at dksX6_grow_5 6 rfl rfl)
theorem dX6_grow_126 : decode cX6_grow 126 = .ok (.iload 5, 2) := dk_21 5 (dk_at dksX6_grow_5 9 rfl rfl)
theorem dX6_grow_128 : decode cX6_grow 128 = .ok (.ifCond .le 37, 3) := dk_158 0 37 (dk_at dksX6_grow_5 11 rfl rfl)
theorem dX6_grow_131 : decode cX6_grow 131 = .ok (.aload_n 1, 1) := dk_43 (dk_at dksX6_grow_5 14 rfl rfl)
theorem dX6_grow_132 : decode cX6_grow 132 = .ok (.iload 6, 2) := dk_21 6 (dk_at dksX6_grow_5 15 rfl rfl)
theorem dX6_grow_134 : decode cX6_grow 134 = .ok (.invokeinterface 23 2, 5) := by decide +kernel
theorem dX6_grow_139 : decode cX6_grow 139 = .ok (.checkcast 29, 3) := dk_192 0 29 (dk_at dksX6_grow_6 0 rfl rfl)
theorem dX6_grow_142 : decode cX6_grow 142 = .ok (.getfield 164, 3) := dk_180 0 164 (dk_at dksX6_grow_6 3 rfl rfl)
theorem dX6_grow_145 : decode cX6_grow 145 = .ok (.ifCond .le 14, 3) := dk_158 0 14 (dk_at dksX6_grow_6 6 rfl rfl)
theorem dX6_grow_148 : decode cX6_grow 148 = .ok (.aload_n 2, 1) := dk_44 (dk_at dksX6_grow_6 9 rfl rfl)
theorem dX6_grow_149 : decode cX6_grow 149 = .ok (.iload 6, 2) := dk_21 6 (dk_at dksX6_grow_6 10 rfl rfl)
theorem dX6_grow_151 : decode cX6_grow 151 = .ok (.dup2, 1) := dk_92 (dk_at dksX6_grow_6 12 rfl rfl)
theorem dX6_grow_152 : decode cX6_grow 152 = .ok (.iaload, 1) := dk_46 (dk_at dksX6_grow_6 13 rfl rfl)
theorem dX6_grow_153 : decode cX6_grow 153 = .ok (.iconst 1, 1) := dk_4 (dk_at dksX6_grow_6 14 rfl rfl)
theorem dX6_grow_154 : decode cX6_grow 154 = .ok (.iadd, 1) := dk_96 (dk_at dksX6_grow_6 15 rfl rfl)
theorem dX6_grow_155 : decode cX6_grow 155 = .ok (.iastore, 1) := dk_79 (dk_at dksX6_grow_6 16 rfl rfl)
theorem dX6_grow_156 : decode cX6_grow 156 = .ok (.iinc 5 (-1), 3) := dk_132 5 255 (dk_at dksX6_grow_6 17 rfl rfl)
theorem dX6_grow_159 : decode cX6_grow 159 = .ok (.iinc 6 1, 3) := dk_132 6 1 (dk_at dksX6_grow_6 20 rfl rfl)
theorem dX6_grow_162 : decode cX6_grow 162 = .ok (.goto (-43), 3) := dk_167 255 213 (dk_at dksX6_grow_7 0 rfl rfl)
theorem dX6_grow_165 : decode cX6_grow 165 = .ok (.return_, 1) := dk_177 (dk_at dksX6_grow_7 3 rfl rfl)
abbrev cX6_shrink : ByteArray := prog_6_method_9_code
def yX6_shrink : MethodName := ⟨RX6, "shrink", "(Ljava/util/List;[II)V"⟩
def dkwX6_shrink_15 : List UInt8 := [21, 7, 46, 79, 132, 7, 1, 167, 255, 222, 177]
abbrev dktX6_shrink_15 : List UInt8 := dkwX6_shrink_15 ++ []
def dkwX6_shrink_14 : List UInt8 := [162, 0, 33, 44, 21, 7, 25, 4, 21, 7, 51, 153, 0, 11, 25, 5, 21, 7, 46, 167, 0, 7, 44]
abbrev dktX6_shrink_14 : List UInt8 := dkwX6_shrink_14 ++ dktX6_shrink_15
def dkwX6_shrink_13 : List UInt8 := [25, 9, 21, 10, 51, 128, 84, 132, 10, 1, 167, 255, 233, 167, 254, 255, 3, 54, 7, 21, 7, 44, 190]
abbrev dktX6_shrink_13 : List UInt8 := dkwX6_shrink_13 ++ dktX6_shrink_14
def dkwX6_shrink_12 : List UInt8 := [21, 7, 21, 8, 182, 0, 171, 3, 54, 10, 21, 10, 44, 190, 162, 0, 22, 25, 4, 21, 10, 92, 51]
abbrev dktX6_shrink_12 : List UInt8 := dkwX6_shrink_12 ++ dktX6_shrink_13
def dkwX6_shrink_11 : List UInt8 := [132, 10, 1, 167, 255, 171, 21, 6, 154, 0, 22, 21, 8, 158, 0, 17, 42, 43, 44, 25, 4, 25, 5]
abbrev dktX6_shrink_11 : List UInt8 := dkwX6_shrink_11 ++ dktX6_shrink_12
def dkwX6_shrink_10 : List UInt8 := [21, 10, 46, 162, 0, 7, 4, 167, 0, 4, 3, 84, 21, 6, 25, 9, 21, 10, 51, 128, 54, 6]
abbrev dktX6_shrink_10 : List UInt8 := dkwX6_shrink_10 ++ dktX6_shrink_11
def dkwX6_shrink_9 : List UInt8 := [108, 54, 11, 25, 9, 21, 10, 25, 4, 21, 10, 51, 154, 0, 22, 44, 21, 10, 46, 21, 11, 100, 25, 5]
abbrev dktX6_shrink_9 : List UInt8 := dkwX6_shrink_9 ++ dktX6_shrink_10
def dkwX6_shrink_8 : List UInt8 := [21, 7, 43, 21, 10, 185, 0, 23, 2, 0, 192, 0, 29, 180, 0, 169, 44, 21, 10, 46, 104, 104, 21, 8]
abbrev dktX6_shrink_8 : List UInt8 := dkwX6_shrink_8 ++ dktX6_shrink_9
def dkwX6_shrink_7 : List UInt8 := [167, 255, 170, 44, 190, 188, 4, 58, 9, 3, 54, 10, 21, 10, 44, 190, 162, 0, 84, 21, 8, 158, 0, 79]
abbrev dktX6_shrink_7 : List UInt8 := dkwX6_shrink_7 ++ dktX6_shrink_8
def dkwX6_shrink_6 : List UInt8 := [185, 0, 23, 2, 0, 192, 0, 29, 180, 0, 169, 44, 21, 9, 46, 104, 96, 54, 8, 132, 9, 1]
abbrev dktX6_shrink_6 : List UInt8 := dkwX6_shrink_6 ++ dktX6_shrink_7
def dkwX6_shrink_5 : List UInt8 := [96, 96, 54, 7, 21, 8, 25, 4, 21, 9, 51, 153, 0, 7, 3, 167, 0, 22, 43, 21, 9]
abbrev dktX6_shrink_5 : List UInt8 := dkwX6_shrink_5 ++ dktX6_shrink_6
def dkwX6_shrink_4 : List UInt8 := [21, 9, 46, 167, 0, 7, 44, 21, 9, 46, 43, 21, 9, 185, 0, 23, 2, 0, 192, 0, 29, 182, 0, 144]
abbrev dktX6_shrink_4 : List UInt8 := dkwX6_shrink_4 ++ dktX6_shrink_5
def dkwX6_shrink_3 : List UInt8 := [54, 8, 3, 54, 9, 21, 9, 44, 190, 162, 0, 85, 21, 7, 25, 4, 21, 9, 51, 153, 0, 11, 25, 5]
abbrev dktX6_shrink_3 : List UInt8 := dkwX6_shrink_3 ++ dktX6_shrink_4
def dkwX6_shrink_2 : List UInt8 := [79, 132, 6, 1, 167, 255, 219, 4, 54, 6, 21, 6, 153, 1, 2, 3, 54, 6, 29, 116, 54, 7, 3]
abbrev dktX6_shrink_2 : List UInt8 := dkwX6_shrink_2 ++ dktX6_shrink_3
def dkwX6_shrink_1 : List UInt8 := [21, 6, 44, 21, 6, 46, 43, 21, 6, 185, 0, 23, 2, 0, 192, 0, 29, 4, 184, 0, 140, 184, 0, 166]
abbrev dktX6_shrink_1 : List UInt8 := dkwX6_shrink_1 ++ dktX6_shrink_2
def dkwX6_shrink_0 : List UInt8 := [44, 190, 188, 4, 58, 4, 44, 190, 188, 10, 58, 5, 3, 54, 6, 21, 6, 44, 190, 162, 0, 36, 25, 5]
abbrev dktX6_shrink_0 : List UInt8 := dkwX6_shrink_0 ++ dktX6_shrink_1
theorem dksX6_shrink_0 : cX6_shrink.data.toList.drop 0 = dktX6_shrink_0 := by decide +kernel
theorem dksX6_shrink_1 : cX6_shrink.data.toList.drop 24 = dktX6_shrink_1 := dk_seg dksX6_shrink_0 24 rfl rfl
theorem dksX6_shrink_2 : cX6_shrink.data.toList.drop 48 = dktX6_shrink_2 := dk_seg dksX6_shrink_1 24 rfl rfl
theorem dksX6_shrink_3 : cX6_shrink.data.toList.drop 71 = dktX6_shrink_3 := dk_seg dksX6_shrink_2 23 rfl rfl
theorem dksX6_shrink_4 : cX6_shrink.data.toList.drop 95 = dktX6_shrink_4 := dk_seg dksX6_shrink_3 24 rfl rfl
theorem dksX6_shrink_5 : cX6_shrink.data.toList.drop 119 = dktX6_shrink_5 := dk_seg dksX6_shrink_4 24 rfl rfl
theorem dksX6_shrink_6 : cX6_shrink.data.toList.drop 140 = dktX6_shrink_6 := dk_seg dksX6_shrink_5 21 rfl rfl
theorem dksX6_shrink_7 : cX6_shrink.data.toList.drop 162 = dktX6_shrink_7 := dk_seg dksX6_shrink_6 22 rfl rfl
theorem dksX6_shrink_8 : cX6_shrink.data.toList.drop 186 = dktX6_shrink_8 := dk_seg dksX6_shrink_7 24 rfl rfl
theorem dksX6_shrink_9 : cX6_shrink.data.toList.drop 210 = dktX6_shrink_9 := dk_seg dksX6_shrink_8 24 rfl rfl
theorem dksX6_shrink_10 : cX6_shrink.data.toList.drop 234 = dktX6_shrink_10 := dk_seg dksX6_shrink_9 24 rfl rfl
theorem dksX6_shrink_11 : cX6_shrink.data.toList.drop 256 = dktX6_shrink_11 := dk_seg dksX6_shrink_10 22 rfl rfl
theorem dksX6_shrink_12 : cX6_shrink.data.toList.drop 279 = dktX6_shrink_12 := dk_seg dksX6_shrink_11 23 rfl rfl
theorem dksX6_shrink_13 : cX6_shrink.data.toList.drop 302 = dktX6_shrink_13 := dk_seg dksX6_shrink_12 23 rfl rfl
theorem dksX6_shrink_14 : cX6_shrink.data.toList.drop 325 = dktX6_shrink_14 := dk_seg dksX6_shrink_13 23 rfl rfl
theorem dksX6_shrink_15 : cX6_shrink.data.toList.drop 348 = dktX6_shrink_15 := dk_seg dksX6_shrink_14 23 rfl rfl
theorem dX6_shrink_0 : decode cX6_shrink 0 = .ok (.aload_n 2, 1) := dk_44 (dk_at dksX6_shrink_0 0 rfl rfl)
theorem dX6_shrink_1 : decode cX6_shrink 1 = .ok (.arraylength, 1) := dk_190 (dk_at dksX6_shrink_0 1 rfl rfl)
theorem dX6_shrink_2 : decode cX6_shrink 2 = .ok (.newarray .boolean, 2) := dk_188_4 (dk_at dksX6_shrink_0 2 rfl rfl)
theorem dX6_shrink_4 : decode cX6_shrink 4 = .ok (.astore 4, 2) := dk_58 4 (dk_at dksX6_shrink_0 4 rfl rfl)
theorem dX6_shrink_6 : decode cX6_shrink 6 = .ok (.aload_n 2, 1) := dk_44 (dk_at dksX6_shrink_0 6 rfl rfl)
theorem dX6_shrink_7 : decode cX6_shrink 7 = .ok (.arraylength, 1) := dk_190 (dk_at dksX6_shrink_0 7 rfl rfl)
theorem dX6_shrink_8 : decode cX6_shrink 8 = .ok (.newarray .int, 2) := dk_188_10 (dk_at dksX6_shrink_0 8 rfl rfl)
theorem dX6_shrink_10 : decode cX6_shrink 10 = .ok (.astore 5, 2) := dk_58 5 (dk_at dksX6_shrink_0 10 rfl rfl)
theorem dX6_shrink_12 : decode cX6_shrink 12 = .ok (.iconst 0, 1) := dk_3 (dk_at dksX6_shrink_0 12 rfl rfl)
theorem dX6_shrink_13 : decode cX6_shrink 13 = .ok (.istore 6, 2) := dk_54 6 (dk_at dksX6_shrink_0 13 rfl rfl)
theorem dX6_shrink_15 : decode cX6_shrink 15 = .ok (.iload 6, 2) := dk_21 6 (dk_at dksX6_shrink_0 15 rfl rfl)
theorem dX6_shrink_17 : decode cX6_shrink 17 = .ok (.aload_n 2, 1) := dk_44 (dk_at dksX6_shrink_0 17 rfl rfl)
theorem dX6_shrink_18 : decode cX6_shrink 18 = .ok (.arraylength, 1) := dk_190 (dk_at dksX6_shrink_0 18 rfl rfl)
theorem dX6_shrink_19 : decode cX6_shrink 19 = .ok (.if_icmp .ge 36, 3) := dk_162 0 36 (dk_at dksX6_shrink_0 19 rfl rfl)
theorem dX6_shrink_22 : decode cX6_shrink 22 = .ok (.aload 5, 2) := dk_25 5 (dk_at dksX6_shrink_0 22 rfl rfl)
theorem dX6_shrink_24 : decode cX6_shrink 24 = .ok (.iload 6, 2) := dk_21 6 (dk_at dksX6_shrink_1 0 rfl rfl)
theorem dX6_shrink_26 : decode cX6_shrink 26 = .ok (.aload_n 2, 1) := dk_44 (dk_at dksX6_shrink_1 2 rfl rfl)
theorem dX6_shrink_27 : decode cX6_shrink 27 = .ok (.iload 6, 2) := dk_21 6 (dk_at dksX6_shrink_1 3 rfl rfl)
theorem dX6_shrink_29 : decode cX6_shrink 29 = .ok (.iaload, 1) := dk_46 (dk_at dksX6_shrink_1 5 rfl rfl)
theorem dX6_shrink_30 : decode cX6_shrink 30 = .ok (.aload_n 1, 1) := dk_43 (dk_at dksX6_shrink_1 6 rfl rfl)
theorem dX6_shrink_31 : decode cX6_shrink 31 = .ok (.iload 6, 2) := dk_21 6 (dk_at dksX6_shrink_1 7 rfl rfl)
theorem dX6_shrink_33 : decode cX6_shrink 33 = .ok (.invokeinterface 23 2, 5) := by decide +kernel
theorem dX6_shrink_38 : decode cX6_shrink 38 = .ok (.checkcast 29, 3) := dk_192 0 29 (dk_at dksX6_shrink_1 14 rfl rfl)
theorem dX6_shrink_41 : decode cX6_shrink 41 = .ok (.iconst 1, 1) := dk_4 (dk_at dksX6_shrink_1 17 rfl rfl)
theorem dX6_shrink_42 : decode cX6_shrink 42 = .ok (.invokestatic 140, 3) := dk_184 0 140 (dk_at dksX6_shrink_1 18 rfl rfl)
theorem dX6_shrink_45 : decode cX6_shrink 45 = .ok (.invokestatic 166, 3) := dk_184 0 166 (dk_at dksX6_shrink_1 21 rfl rfl)
theorem dX6_shrink_48 : decode cX6_shrink 48 = .ok (.iastore, 1) := dk_79 (dk_at dksX6_shrink_2 0 rfl rfl)
theorem dX6_shrink_49 : decode cX6_shrink 49 = .ok (.iinc 6 1, 3) := dk_132 6 1 (dk_at dksX6_shrink_2 1 rfl rfl)
theorem dX6_shrink_52 : decode cX6_shrink 52 = .ok (.goto (-37), 3) := dk_167 255 219 (dk_at dksX6_shrink_2 4 rfl rfl)
theorem dX6_shrink_55 : decode cX6_shrink 55 = .ok (.iconst 1, 1) := dk_4 (dk_at dksX6_shrink_2 7 rfl rfl)
theorem dX6_shrink_56 : decode cX6_shrink 56 = .ok (.istore 6, 2) := dk_54 6 (dk_at dksX6_shrink_2 8 rfl rfl)
theorem dX6_shrink_58 : decode cX6_shrink 58 = .ok (.iload 6, 2) := dk_21 6 (dk_at dksX6_shrink_2 10 rfl rfl)
theorem dX6_shrink_60 : decode cX6_shrink 60 = .ok (.ifCond .eq 258, 3) := dk_153 1 2 (dk_at dksX6_shrink_2 12 rfl rfl)
theorem dX6_shrink_63 : decode cX6_shrink 63 = .ok (.iconst 0, 1) := dk_3 (dk_at dksX6_shrink_2 15 rfl rfl)
theorem dX6_shrink_64 : decode cX6_shrink 64 = .ok (.istore 6, 2) := dk_54 6 (dk_at dksX6_shrink_2 16 rfl rfl)
theorem dX6_shrink_66 : decode cX6_shrink 66 = .ok (.iload_n 3, 1) := dk_29 (dk_at dksX6_shrink_2 18 rfl rfl)
theorem dX6_shrink_67 : decode cX6_shrink 67 = .ok (.ineg, 1) := dk_116 (dk_at dksX6_shrink_2 19 rfl rfl)
theorem dX6_shrink_68 : decode cX6_shrink 68 = .ok (.istore 7, 2) := dk_54 7 (dk_at dksX6_shrink_2 20 rfl rfl)
theorem dX6_shrink_70 : decode cX6_shrink 70 = .ok (.iconst 0, 1) := dk_3 (dk_at dksX6_shrink_2 22 rfl rfl)
theorem dX6_shrink_71 : decode cX6_shrink 71 = .ok (.istore 8, 2) := dk_54 8 (dk_at dksX6_shrink_3 0 rfl rfl)
theorem dX6_shrink_73 : decode cX6_shrink 73 = .ok (.iconst 0, 1) := dk_3 (dk_at dksX6_shrink_3 2 rfl rfl)
theorem dX6_shrink_74 : decode cX6_shrink 74 = .ok (.istore 9, 2) := dk_54 9 (dk_at dksX6_shrink_3 3 rfl rfl)
theorem dX6_shrink_76 : decode cX6_shrink 76 = .ok (.iload 9, 2) := dk_21 9 (dk_at dksX6_shrink_3 5 rfl rfl)
theorem dX6_shrink_78 : decode cX6_shrink 78 = .ok (.aload_n 2, 1) := dk_44 (dk_at dksX6_shrink_3 7 rfl rfl)
theorem dX6_shrink_79 : decode cX6_shrink 79 = .ok (.arraylength, 1) := dk_190 (dk_at dksX6_shrink_3 8 rfl rfl)
theorem dX6_shrink_80 : decode cX6_shrink 80 = .ok (.if_icmp .ge 85, 3) := dk_162 0 85 (dk_at dksX6_shrink_3 9 rfl rfl)
theorem dX6_shrink_83 : decode cX6_shrink 83 = .ok (.iload 7, 2) := dk_21 7 (dk_at dksX6_shrink_3 12 rfl rfl)
theorem dX6_shrink_85 : decode cX6_shrink 85 = .ok (.aload 4, 2) := dk_25 4 (dk_at dksX6_shrink_3 14 rfl rfl)
theorem dX6_shrink_87 : decode cX6_shrink 87 = .ok (.iload 9, 2) := dk_21 9 (dk_at dksX6_shrink_3 16 rfl rfl)
theorem dX6_shrink_89 : decode cX6_shrink 89 = .ok (.baload, 1) := dk_51 (dk_at dksX6_shrink_3 18 rfl rfl)
theorem dX6_shrink_90 : decode cX6_shrink 90 = .ok (.ifCond .eq 11, 3) := dk_153 0 11 (dk_at dksX6_shrink_3 19 rfl rfl)
theorem dX6_shrink_93 : decode cX6_shrink 93 = .ok (.aload 5, 2) := dk_25 5 (dk_at dksX6_shrink_3 22 rfl rfl)
theorem dX6_shrink_95 : decode cX6_shrink 95 = .ok (.iload 9, 2) := dk_21 9 (dk_at dksX6_shrink_4 0 rfl rfl)
theorem dX6_shrink_97 : decode cX6_shrink 97 = .ok (.iaload, 1) := dk_46 (dk_at dksX6_shrink_4 2 rfl rfl)
theorem dX6_shrink_98 : decode cX6_shrink 98 = .ok (.goto 7, 3) := dk_167 0 7 (dk_at dksX6_shrink_4 3 rfl rfl)
theorem dX6_shrink_101 : decode cX6_shrink 101 = .ok (.aload_n 2, 1) := dk_44 (dk_at dksX6_shrink_4 6 rfl rfl)
theorem dX6_shrink_102 : decode cX6_shrink 102 = .ok (.iload 9, 2) := dk_21 9 (dk_at dksX6_shrink_4 7 rfl rfl)
theorem dX6_shrink_104 : decode cX6_shrink 104 = .ok (.iaload, 1) := dk_46 (dk_at dksX6_shrink_4 9 rfl rfl)
theorem dX6_shrink_105 : decode cX6_shrink 105 = .ok (.aload_n 1, 1) := dk_43 (dk_at dksX6_shrink_4 10 rfl rfl)
theorem dX6_shrink_106 : decode cX6_shrink 106 = .ok (.iload 9, 2) := dk_21 9 (dk_at dksX6_shrink_4 11 rfl rfl)
theorem dX6_shrink_108 : decode cX6_shrink 108 = .ok (.invokeinterface 23 2, 5) := by decide +kernel
theorem dX6_shrink_113 : decode cX6_shrink 113 = .ok (.checkcast 29, 3) := dk_192 0 29 (dk_at dksX6_shrink_4 18 rfl rfl)
theorem dX6_shrink_116 : decode cX6_shrink 116 = .ok (.invokevirtual 144, 3) := dk_182 0 144 (dk_at dksX6_shrink_4 21 rfl rfl)
theorem dX6_shrink_119 : decode cX6_shrink 119 = .ok (.iadd, 1) := dk_96 (dk_at dksX6_shrink_5 0 rfl rfl)
theorem dX6_shrink_120 : decode cX6_shrink 120 = .ok (.iadd, 1) := dk_96 (dk_at dksX6_shrink_5 1 rfl rfl)
theorem dX6_shrink_121 : decode cX6_shrink 121 = .ok (.istore 7, 2) := dk_54 7 (dk_at dksX6_shrink_5 2 rfl rfl)
theorem dX6_shrink_123 : decode cX6_shrink 123 = .ok (.iload 8, 2) := dk_21 8 (dk_at dksX6_shrink_5 4 rfl rfl)
theorem dX6_shrink_125 : decode cX6_shrink 125 = .ok (.aload 4, 2) := dk_25 4 (dk_at dksX6_shrink_5 6 rfl rfl)
theorem dX6_shrink_127 : decode cX6_shrink 127 = .ok (.iload 9, 2) := dk_21 9 (dk_at dksX6_shrink_5 8 rfl rfl)
theorem dX6_shrink_129 : decode cX6_shrink 129 = .ok (.baload, 1) := dk_51 (dk_at dksX6_shrink_5 10 rfl rfl)
theorem dX6_shrink_130 : decode cX6_shrink 130 = .ok (.ifCond .eq 7, 3) := dk_153 0 7 (dk_at dksX6_shrink_5 11 rfl rfl)
theorem dX6_shrink_133 : decode cX6_shrink 133 = .ok (.iconst 0, 1) := dk_3 (dk_at dksX6_shrink_5 14 rfl rfl)
theorem dX6_shrink_134 : decode cX6_shrink 134 = .ok (.goto 22, 3) := dk_167 0 22 (dk_at dksX6_shrink_5 15 rfl rfl)
theorem dX6_shrink_137 : decode cX6_shrink 137 = .ok (.aload_n 1, 1) := dk_43 (dk_at dksX6_shrink_5 18 rfl rfl)
theorem dX6_shrink_138 : decode cX6_shrink 138 = .ok (.iload 9, 2) := dk_21 9 (dk_at dksX6_shrink_5 19 rfl rfl)
theorem dX6_shrink_140 : decode cX6_shrink 140 = .ok (.invokeinterface 23 2, 5) := by decide +kernel
theorem dX6_shrink_145 : decode cX6_shrink 145 = .ok (.checkcast 29, 3) := dk_192 0 29 (dk_at dksX6_shrink_6 5 rfl rfl)
theorem dX6_shrink_148 : decode cX6_shrink 148 = .ok (.getfield 169, 3) := dk_180 0 169 (dk_at dksX6_shrink_6 8 rfl rfl)
theorem dX6_shrink_151 : decode cX6_shrink 151 = .ok (.aload_n 2, 1) := dk_44 (dk_at dksX6_shrink_6 11 rfl rfl)
theorem dX6_shrink_152 : decode cX6_shrink 152 = .ok (.iload 9, 2) := dk_21 9 (dk_at dksX6_shrink_6 12 rfl rfl)
theorem dX6_shrink_154 : decode cX6_shrink 154 = .ok (.iaload, 1) := dk_46 (dk_at dksX6_shrink_6 14 rfl rfl)
theorem dX6_shrink_155 : decode cX6_shrink 155 = .ok (.imul, 1) := dk_104 (dk_at dksX6_shrink_6 15 rfl rfl)
theorem dX6_shrink_156 : decode cX6_shrink 156 = .ok (.iadd, 1) := dk_96 (dk_at dksX6_shrink_6 16 rfl rfl)
theorem dX6_shrink_157 : decode cX6_shrink 157 = .ok (.istore 8, 2) := dk_54 8 (dk_at dksX6_shrink_6 17 rfl rfl)
theorem dX6_shrink_159 : decode cX6_shrink 159 = .ok (.iinc 9 1, 3) := dk_132 9 1 (dk_at dksX6_shrink_6 19 rfl rfl)
theorem dX6_shrink_162 : decode cX6_shrink 162 = .ok (.goto (-86), 3) := dk_167 255 170 (dk_at dksX6_shrink_7 0 rfl rfl)
theorem dX6_shrink_165 : decode cX6_shrink 165 = .ok (.aload_n 2, 1) := dk_44 (dk_at dksX6_shrink_7 3 rfl rfl)
theorem dX6_shrink_166 : decode cX6_shrink 166 = .ok (.arraylength, 1) := dk_190 (dk_at dksX6_shrink_7 4 rfl rfl)
theorem dX6_shrink_167 : decode cX6_shrink 167 = .ok (.newarray .boolean, 2) := dk_188_4 (dk_at dksX6_shrink_7 5 rfl rfl)
theorem dX6_shrink_169 : decode cX6_shrink 169 = .ok (.astore 9, 2) := dk_58 9 (dk_at dksX6_shrink_7 7 rfl rfl)
theorem dX6_shrink_171 : decode cX6_shrink 171 = .ok (.iconst 0, 1) := dk_3 (dk_at dksX6_shrink_7 9 rfl rfl)
theorem dX6_shrink_172 : decode cX6_shrink 172 = .ok (.istore 10, 2) := dk_54 10 (dk_at dksX6_shrink_7 10 rfl rfl)
theorem dX6_shrink_174 : decode cX6_shrink 174 = .ok (.iload 10, 2) := dk_21 10 (dk_at dksX6_shrink_7 12 rfl rfl)
theorem dX6_shrink_176 : decode cX6_shrink 176 = .ok (.aload_n 2, 1) := dk_44 (dk_at dksX6_shrink_7 14 rfl rfl)
theorem dX6_shrink_177 : decode cX6_shrink 177 = .ok (.arraylength, 1) := dk_190 (dk_at dksX6_shrink_7 15 rfl rfl)
theorem dX6_shrink_178 : decode cX6_shrink 178 = .ok (.if_icmp .ge 84, 3) := dk_162 0 84 (dk_at dksX6_shrink_7 16 rfl rfl)
theorem dX6_shrink_181 : decode cX6_shrink 181 = .ok (.iload 8, 2) := dk_21 8 (dk_at dksX6_shrink_7 19 rfl rfl)
theorem dX6_shrink_183 : decode cX6_shrink 183 = .ok (.ifCond .le 79, 3) := dk_158 0 79 (dk_at dksX6_shrink_7 21 rfl rfl)
theorem dX6_shrink_186 : decode cX6_shrink 186 = .ok (.iload 7, 2) := dk_21 7 (dk_at dksX6_shrink_8 0 rfl rfl)
theorem dX6_shrink_188 : decode cX6_shrink 188 = .ok (.aload_n 1, 1) := dk_43 (dk_at dksX6_shrink_8 2 rfl rfl)
theorem dX6_shrink_189 : decode cX6_shrink 189 = .ok (.iload 10, 2) := dk_21 10 (dk_at dksX6_shrink_8 3 rfl rfl)
theorem dX6_shrink_191 : decode cX6_shrink 191 = .ok (.invokeinterface 23 2, 5) := by decide +kernel
theorem dX6_shrink_196 : decode cX6_shrink 196 = .ok (.checkcast 29, 3) := dk_192 0 29 (dk_at dksX6_shrink_8 10 rfl rfl)
theorem dX6_shrink_199 : decode cX6_shrink 199 = .ok (.getfield 169, 3) := dk_180 0 169 (dk_at dksX6_shrink_8 13 rfl rfl)
theorem dX6_shrink_202 : decode cX6_shrink 202 = .ok (.aload_n 2, 1) := dk_44 (dk_at dksX6_shrink_8 16 rfl rfl)
theorem dX6_shrink_203 : decode cX6_shrink 203 = .ok (.iload 10, 2) := dk_21 10 (dk_at dksX6_shrink_8 17 rfl rfl)
theorem dX6_shrink_205 : decode cX6_shrink 205 = .ok (.iaload, 1) := dk_46 (dk_at dksX6_shrink_8 19 rfl rfl)
theorem dX6_shrink_206 : decode cX6_shrink 206 = .ok (.imul, 1) := dk_104 (dk_at dksX6_shrink_8 20 rfl rfl)
theorem dX6_shrink_207 : decode cX6_shrink 207 = .ok (.imul, 1) := dk_104 (dk_at dksX6_shrink_8 21 rfl rfl)
theorem dX6_shrink_208 : decode cX6_shrink 208 = .ok (.iload 8, 2) := dk_21 8 (dk_at dksX6_shrink_8 22 rfl rfl)
theorem dX6_shrink_210 : decode cX6_shrink 210 = .ok (.idiv, 1) := dk_108 (dk_at dksX6_shrink_9 0 rfl rfl)
theorem dX6_shrink_211 : decode cX6_shrink 211 = .ok (.istore 11, 2) := dk_54 11 (dk_at dksX6_shrink_9 1 rfl rfl)
theorem dX6_shrink_213 : decode cX6_shrink 213 = .ok (.aload 9, 2) := dk_25 9 (dk_at dksX6_shrink_9 3 rfl rfl)
theorem dX6_shrink_215 : decode cX6_shrink 215 = .ok (.iload 10, 2) := dk_21 10 (dk_at dksX6_shrink_9 5 rfl rfl)
theorem dX6_shrink_217 : decode cX6_shrink 217 = .ok (.aload 4, 2) := dk_25 4 (dk_at dksX6_shrink_9 7 rfl rfl)
theorem dX6_shrink_219 : decode cX6_shrink 219 = .ok (.iload 10, 2) := dk_21 10 (dk_at dksX6_shrink_9 9 rfl rfl)
theorem dX6_shrink_221 : decode cX6_shrink 221 = .ok (.baload, 1) := dk_51 (dk_at dksX6_shrink_9 11 rfl rfl)
theorem dX6_shrink_222 : decode cX6_shrink 222 = .ok (.ifCond .ne 22, 3) := dk_154 0 22 (dk_at dksX6_shrink_9 12 rfl rfl)
theorem dX6_shrink_225 : decode cX6_shrink 225 = .ok (.aload_n 2, 1) := dk_44 (dk_at dksX6_shrink_9 15 rfl rfl)
theorem dX6_shrink_226 : decode cX6_shrink 226 = .ok (.iload 10, 2) := dk_21 10 (dk_at dksX6_shrink_9 16 rfl rfl)
theorem dX6_shrink_228 : decode cX6_shrink 228 = .ok (.iaload, 1) := dk_46 (dk_at dksX6_shrink_9 18 rfl rfl)
theorem dX6_shrink_229 : decode cX6_shrink 229 = .ok (.iload 11, 2) := dk_21 11 (dk_at dksX6_shrink_9 19 rfl rfl)
theorem dX6_shrink_231 : decode cX6_shrink 231 = .ok (.isub, 1) := dk_100 (dk_at dksX6_shrink_9 21 rfl rfl)
theorem dX6_shrink_232 : decode cX6_shrink 232 = .ok (.aload 5, 2) := dk_25 5 (dk_at dksX6_shrink_9 22 rfl rfl)
theorem dX6_shrink_234 : decode cX6_shrink 234 = .ok (.iload 10, 2) := dk_21 10 (dk_at dksX6_shrink_10 0 rfl rfl)
theorem dX6_shrink_236 : decode cX6_shrink 236 = .ok (.iaload, 1) := dk_46 (dk_at dksX6_shrink_10 2 rfl rfl)
theorem dX6_shrink_237 : decode cX6_shrink 237 = .ok (.if_icmp .ge 7, 3) := dk_162 0 7 (dk_at dksX6_shrink_10 3 rfl rfl)
theorem dX6_shrink_240 : decode cX6_shrink 240 = .ok (.iconst 1, 1) := dk_4 (dk_at dksX6_shrink_10 6 rfl rfl)
theorem dX6_shrink_241 : decode cX6_shrink 241 = .ok (.goto 4, 3) := dk_167 0 4 (dk_at dksX6_shrink_10 7 rfl rfl)
theorem dX6_shrink_244 : decode cX6_shrink 244 = .ok (.iconst 0, 1) := dk_3 (dk_at dksX6_shrink_10 10 rfl rfl)
theorem dX6_shrink_245 : decode cX6_shrink 245 = .ok (.bastore, 1) := dk_84 (dk_at dksX6_shrink_10 11 rfl rfl)
theorem dX6_shrink_246 : decode cX6_shrink 246 = .ok (.iload 6, 2) := dk_21 6 (dk_at dksX6_shrink_10 12 rfl rfl)
theorem dX6_shrink_248 : decode cX6_shrink 248 = .ok (.aload 9, 2) := dk_25 9 (dk_at dksX6_shrink_10 14 rfl rfl)
theorem dX6_shrink_250 : decode cX6_shrink 250 = .ok (.iload 10, 2) := dk_21 10 (dk_at dksX6_shrink_10 16 rfl rfl)
theorem dX6_shrink_252 : decode cX6_shrink 252 = .ok (.baload, 1) := dk_51 (dk_at dksX6_shrink_10 18 rfl rfl)
theorem dX6_shrink_253 : decode cX6_shrink 253 = .ok (.ior, 1) := dk_128 (dk_at dksX6_shrink_10 19 rfl rfl)
theorem dX6_shrink_254 : decode cX6_shrink 254 = .ok (.istore 6, 2) := dk_54 6 (dk_at dksX6_shrink_10 20 rfl rfl)
theorem dX6_shrink_256 : decode cX6_shrink 256 = .ok (.iinc 10 1, 3) := dk_132 10 1 (dk_at dksX6_shrink_11 0 rfl rfl)
theorem dX6_shrink_259 : decode cX6_shrink 259 = .ok (.goto (-85), 3) := dk_167 255 171 (dk_at dksX6_shrink_11 3 rfl rfl)
theorem dX6_shrink_262 : decode cX6_shrink 262 = .ok (.iload 6, 2) := dk_21 6 (dk_at dksX6_shrink_11 6 rfl rfl)
theorem dX6_shrink_264 : decode cX6_shrink 264 = .ok (.ifCond .ne 22, 3) := dk_154 0 22 (dk_at dksX6_shrink_11 8 rfl rfl)
theorem dX6_shrink_267 : decode cX6_shrink 267 = .ok (.iload 8, 2) := dk_21 8 (dk_at dksX6_shrink_11 11 rfl rfl)
theorem dX6_shrink_269 : decode cX6_shrink 269 = .ok (.ifCond .le 17, 3) := dk_158 0 17 (dk_at dksX6_shrink_11 13 rfl rfl)
theorem dX6_shrink_272 : decode cX6_shrink 272 = .ok (.aload_n 0, 1) := dk_42 (dk_at dksX6_shrink_11 16 rfl rfl)
theorem dX6_shrink_273 : decode cX6_shrink 273 = .ok (.aload_n 1, 1) := dk_43 (dk_at dksX6_shrink_11 17 rfl rfl)
theorem dX6_shrink_274 : decode cX6_shrink 274 = .ok (.aload_n 2, 1) := dk_44 (dk_at dksX6_shrink_11 18 rfl rfl)
theorem dX6_shrink_275 : decode cX6_shrink 275 = .ok (.aload 4, 2) := dk_25 4 (dk_at dksX6_shrink_11 19 rfl rfl)
theorem dX6_shrink_277 : decode cX6_shrink 277 = .ok (.aload 5, 2) := dk_25 5 (dk_at dksX6_shrink_11 21 rfl rfl)
theorem dX6_shrink_279 : decode cX6_shrink 279 = .ok (.iload 7, 2) := dk_21 7 (dk_at dksX6_shrink_12 0 rfl rfl)
theorem dX6_shrink_281 : decode cX6_shrink 281 = .ok (.iload 8, 2) := dk_21 8 (dk_at dksX6_shrink_12 2 rfl rfl)
theorem dX6_shrink_283 : decode cX6_shrink 283 = .ok (.invokevirtual 171, 3) := dk_182 0 171 (dk_at dksX6_shrink_12 4 rfl rfl)
theorem dX6_shrink_286 : decode cX6_shrink 286 = .ok (.iconst 0, 1) := dk_3 (dk_at dksX6_shrink_12 7 rfl rfl)
theorem dX6_shrink_287 : decode cX6_shrink 287 = .ok (.istore 10, 2) := dk_54 10 (dk_at dksX6_shrink_12 8 rfl rfl)
theorem dX6_shrink_289 : decode cX6_shrink 289 = .ok (.iload 10, 2) := dk_21 10 (dk_at dksX6_shrink_12 10 rfl rfl)
theorem dX6_shrink_291 : decode cX6_shrink 291 = .ok (.aload_n 2, 1) := dk_44 (dk_at dksX6_shrink_12 12 rfl rfl)
theorem dX6_shrink_292 : decode cX6_shrink 292 = .ok (.arraylength, 1) := dk_190 (dk_at dksX6_shrink_12 13 rfl rfl)
theorem dX6_shrink_293 : decode cX6_shrink 293 = .ok (.if_icmp .ge 22, 3) := dk_162 0 22 (dk_at dksX6_shrink_12 14 rfl rfl)
theorem dX6_shrink_296 : decode cX6_shrink 296 = .ok (.aload 4, 2) := dk_25 4 (dk_at dksX6_shrink_12 17 rfl rfl)
theorem dX6_shrink_298 : decode cX6_shrink 298 = .ok (.iload 10, 2) := dk_21 10 (dk_at dksX6_shrink_12 19 rfl rfl)
theorem dX6_shrink_300 : decode cX6_shrink 300 = .ok (.dup2, 1) := dk_92 (dk_at dksX6_shrink_12 21 rfl rfl)
theorem dX6_shrink_301 : decode cX6_shrink 301 = .ok (.baload, 1) := dk_51 (dk_at dksX6_shrink_12 22 rfl rfl)
theorem dX6_shrink_302 : decode cX6_shrink 302 = .ok (.aload 9, 2) := dk_25 9 (dk_at dksX6_shrink_13 0 rfl rfl)
theorem dX6_shrink_304 : decode cX6_shrink 304 = .ok (.iload 10, 2) := dk_21 10 (dk_at dksX6_shrink_13 2 rfl rfl)
theorem dX6_shrink_306 : decode cX6_shrink 306 = .ok (.baload, 1) := dk_51 (dk_at dksX6_shrink_13 4 rfl rfl)
theorem dX6_shrink_307 : decode cX6_shrink 307 = .ok (.ior, 1) := dk_128 (dk_at dksX6_shrink_13 5 rfl rfl)
theorem dX6_shrink_308 : decode cX6_shrink 308 = .ok (.bastore, 1) := dk_84 (dk_at dksX6_shrink_13 6 rfl rfl)
theorem dX6_shrink_309 : decode cX6_shrink 309 = .ok (.iinc 10 1, 3) := dk_132 10 1 (dk_at dksX6_shrink_13 7 rfl rfl)
theorem dX6_shrink_312 : decode cX6_shrink 312 = .ok (.goto (-23), 3) := dk_167 255 233 (dk_at dksX6_shrink_13 10 rfl rfl)
theorem dX6_shrink_315 : decode cX6_shrink 315 = .ok (.goto (-257), 3) := dk_167 254 255 (dk_at dksX6_shrink_13 13 rfl rfl)
theorem dX6_shrink_318 : decode cX6_shrink 318 = .ok (.iconst 0, 1) := dk_3 (dk_at dksX6_shrink_13 16 rfl rfl)
theorem dX6_shrink_319 : decode cX6_shrink 319 = .ok (.istore 7, 2) := dk_54 7 (dk_at dksX6_shrink_13 17 rfl rfl)
theorem dX6_shrink_321 : decode cX6_shrink 321 = .ok (.iload 7, 2) := dk_21 7 (dk_at dksX6_shrink_13 19 rfl rfl)
theorem dX6_shrink_323 : decode cX6_shrink 323 = .ok (.aload_n 2, 1) := dk_44 (dk_at dksX6_shrink_13 21 rfl rfl)
theorem dX6_shrink_324 : decode cX6_shrink 324 = .ok (.arraylength, 1) := dk_190 (dk_at dksX6_shrink_13 22 rfl rfl)
theorem dX6_shrink_325 : decode cX6_shrink 325 = .ok (.if_icmp .ge 33, 3) := dk_162 0 33 (dk_at dksX6_shrink_14 0 rfl rfl)
theorem dX6_shrink_328 : decode cX6_shrink 328 = .ok (.aload_n 2, 1) := dk_44 (dk_at dksX6_shrink_14 3 rfl rfl)
theorem dX6_shrink_329 : decode cX6_shrink 329 = .ok (.iload 7, 2) := dk_21 7 (dk_at dksX6_shrink_14 4 rfl rfl)
theorem dX6_shrink_331 : decode cX6_shrink 331 = .ok (.aload 4, 2) := dk_25 4 (dk_at dksX6_shrink_14 6 rfl rfl)
theorem dX6_shrink_333 : decode cX6_shrink 333 = .ok (.iload 7, 2) := dk_21 7 (dk_at dksX6_shrink_14 8 rfl rfl)
theorem dX6_shrink_335 : decode cX6_shrink 335 = .ok (.baload, 1) := dk_51 (dk_at dksX6_shrink_14 10 rfl rfl)
theorem dX6_shrink_336 : decode cX6_shrink 336 = .ok (.ifCond .eq 11, 3) := dk_153 0 11 (dk_at dksX6_shrink_14 11 rfl rfl)
theorem dX6_shrink_339 : decode cX6_shrink 339 = .ok (.aload 5, 2) := dk_25 5 (dk_at dksX6_shrink_14 14 rfl rfl)
theorem dX6_shrink_341 : decode cX6_shrink 341 = .ok (.iload 7, 2) := dk_21 7 (dk_at dksX6_shrink_14 16 rfl rfl)
theorem dX6_shrink_343 : decode cX6_shrink 343 = .ok (.iaload, 1) := dk_46 (dk_at dksX6_shrink_14 18 rfl rfl)
theorem dX6_shrink_344 : decode cX6_shrink 344 = .ok (.goto 7, 3) := dk_167 0 7 (dk_at dksX6_shrink_14 19 rfl rfl)
theorem dX6_shrink_347 : decode cX6_shrink 347 = .ok (.aload_n 2, 1) := dk_44 (dk_at dksX6_shrink_14 22 rfl rfl)
theorem dX6_shrink_348 : decode cX6_shrink 348 = .ok (.iload 7, 2) := dk_21 7 (dk_at dksX6_shrink_15 0 rfl rfl)
theorem dX6_shrink_350 : decode cX6_shrink 350 = .ok (.iaload, 1) := dk_46 (dk_at dksX6_shrink_15 2 rfl rfl)
theorem dX6_shrink_351 : decode cX6_shrink 351 = .ok (.iastore, 1) := dk_79 (dk_at dksX6_shrink_15 3 rfl rfl)
theorem dX6_shrink_352 : decode cX6_shrink 352 = .ok (.iinc 7 1, 3) := dk_132 7 1 (dk_at dksX6_shrink_15 4 rfl rfl)
theorem dX6_shrink_355 : decode cX6_shrink 355 = .ok (.goto (-34), 3) := dk_167 255 222 (dk_at dksX6_shrink_15 7 rfl rfl)
theorem dX6_shrink_358 : decode cX6_shrink 358 = .ok (.return_, 1) := dk_177 (dk_at dksX6_shrink_15 10 rfl rfl)
abbrev cX6_lose : ByteArray := prog_6_method_10_code
def yX6_lose : MethodName := ⟨RX6, "lose", "(Ljava/util/List;[I[Z[III)V"⟩
def dkwX6_lose_6 : List UInt8 := [132, 7, 255, 132, 9, 1, 167, 255, 210, 177]
abbrev dktX6_lose_6 : List UInt8 := dkwX6_lose_6 ++ []
def dkwX6_lose_5 : List UInt8 := [153, 0, 26, 44, 21, 9, 46, 25, 4, 21, 9, 46, 164, 0, 14, 44, 21, 9, 92, 46, 4, 100, 79]
abbrev dktX6_lose_5 : List UInt8 := dkwX6_lose_5 ++ dktX6_lose_6
def dkwX6_lose_4 : List UInt8 := [167, 255, 173, 3, 54, 9, 21, 9, 44, 190, 162, 0, 45, 21, 7, 158, 0, 40, 25, 8, 21, 9, 51]
abbrev dktX6_lose_4 : List UInt8 := dkwX6_lose_4 ++ dktX6_lose_5
def dkwX6_lose_3 : List UInt8 := [167, 0, 4, 3, 84, 44, 21, 9, 92, 46, 21, 11, 100, 79, 21, 7, 21, 11, 100, 54, 7, 132, 9, 1]
abbrev dktX6_lose_3 : List UInt8 := dkwX6_lose_3 ++ dktX6_lose_4
def dkwX6_lose_2 : List UInt8 := [46, 104, 54, 10, 21, 5, 21, 10, 104, 21, 6, 108, 54, 11, 25, 8, 21, 9, 21, 10, 158, 0, 7, 4]
abbrev dktX6_lose_2 : List UInt8 := dkwX6_lose_2 ++ dktX6_lose_3
def dkwX6_lose_1 : List UInt8 := [153, 0, 7, 3, 167, 0, 22, 43, 21, 9, 185, 0, 23, 2, 0, 192, 0, 29, 180, 0, 169, 44, 21, 9]
abbrev dktX6_lose_1 : List UInt8 := dkwX6_lose_1 ++ dktX6_lose_2
def dkwX6_lose_0 : List UInt8 := [21, 5, 54, 7, 44, 190, 188, 4, 58, 8, 3, 54, 9, 21, 9, 44, 190, 162, 0, 82, 45, 21, 9, 51]
abbrev dktX6_lose_0 : List UInt8 := dkwX6_lose_0 ++ dktX6_lose_1
theorem dksX6_lose_0 : cX6_lose.data.toList.drop 0 = dktX6_lose_0 := by decide +kernel
theorem dksX6_lose_1 : cX6_lose.data.toList.drop 24 = dktX6_lose_1 := dk_seg dksX6_lose_0 24 rfl rfl
theorem dksX6_lose_2 : cX6_lose.data.toList.drop 48 = dktX6_lose_2 := dk_seg dksX6_lose_1 24 rfl rfl
theorem dksX6_lose_3 : cX6_lose.data.toList.drop 72 = dktX6_lose_3 := dk_seg dksX6_lose_2 24 rfl rfl
theorem dksX6_lose_4 : cX6_lose.data.toList.drop 96 = dktX6_lose_4 := dk_seg dksX6_lose_3 24 rfl rfl
theorem dksX6_lose_5 : cX6_lose.data.toList.drop 119 = dktX6_lose_5 := dk_seg dksX6_lose_4 23 rfl rfl
theorem dksX6_lose_6 : cX6_lose.data.toList.drop 142 = dktX6_lose_6 := dk_seg dksX6_lose_5 23 rfl rfl
theorem dX6_lose_0 : decode cX6_lose 0 = .ok (.iload 5, 2) := dk_21 5 (dk_at dksX6_lose_0 0 rfl rfl)
theorem dX6_lose_2 : decode cX6_lose 2 = .ok (.istore 7, 2) := dk_54 7 (dk_at dksX6_lose_0 2 rfl rfl)
theorem dX6_lose_4 : decode cX6_lose 4 = .ok (.aload_n 2, 1) := dk_44 (dk_at dksX6_lose_0 4 rfl rfl)
theorem dX6_lose_5 : decode cX6_lose 5 = .ok (.arraylength, 1) := dk_190 (dk_at dksX6_lose_0 5 rfl rfl)
theorem dX6_lose_6 : decode cX6_lose 6 = .ok (.newarray .boolean, 2) := dk_188_4 (dk_at dksX6_lose_0 6 rfl rfl)
theorem dX6_lose_8 : decode cX6_lose 8 = .ok (.astore 8, 2) := dk_58 8 (dk_at dksX6_lose_0 8 rfl rfl)
theorem dX6_lose_10 : decode cX6_lose 10 = .ok (.iconst 0, 1) := dk_3 (dk_at dksX6_lose_0 10 rfl rfl)
theorem dX6_lose_11 : decode cX6_lose 11 = .ok (.istore 9, 2) := dk_54 9 (dk_at dksX6_lose_0 11 rfl rfl)
theorem dX6_lose_13 : decode cX6_lose 13 = .ok (.iload 9, 2) := dk_21 9 (dk_at dksX6_lose_0 13 rfl rfl)
theorem dX6_lose_15 : decode cX6_lose 15 = .ok (.aload_n 2, 1) := dk_44 (dk_at dksX6_lose_0 15 rfl rfl)
theorem dX6_lose_16 : decode cX6_lose 16 = .ok (.arraylength, 1) := dk_190 (dk_at dksX6_lose_0 16 rfl rfl)
theorem dX6_lose_17 : decode cX6_lose 17 = .ok (.if_icmp .ge 82, 3) := dk_162 0 82 (dk_at dksX6_lose_0 17 rfl rfl)
theorem dX6_lose_20 : decode cX6_lose 20 = .ok (.aload_n 3, 1) := dk_45 (dk_at dksX6_lose_0 20 rfl rfl)
theorem dX6_lose_21 : decode cX6_lose 21 = .ok (.iload 9, 2) := dk_21 9 (dk_at dksX6_lose_0 21 rfl rfl)
theorem dX6_lose_23 : decode cX6_lose 23 = .ok (.baload, 1) := dk_51 (dk_at dksX6_lose_0 23 rfl rfl)
theorem dX6_lose_24 : decode cX6_lose 24 = .ok (.ifCond .eq 7, 3) := dk_153 0 7 (dk_at dksX6_lose_1 0 rfl rfl)
theorem dX6_lose_27 : decode cX6_lose 27 = .ok (.iconst 0, 1) := dk_3 (dk_at dksX6_lose_1 3 rfl rfl)
theorem dX6_lose_28 : decode cX6_lose 28 = .ok (.goto 22, 3) := dk_167 0 22 (dk_at dksX6_lose_1 4 rfl rfl)
theorem dX6_lose_31 : decode cX6_lose 31 = .ok (.aload_n 1, 1) := dk_43 (dk_at dksX6_lose_1 7 rfl rfl)
theorem dX6_lose_32 : decode cX6_lose 32 = .ok (.iload 9, 2) := dk_21 9 (dk_at dksX6_lose_1 8 rfl rfl)
theorem dX6_lose_34 : decode cX6_lose 34 = .ok (.invokeinterface 23 2, 5) := by decide +kernel
theorem dX6_lose_39 : decode cX6_lose 39 = .ok (.checkcast 29, 3) := dk_192 0 29 (dk_at dksX6_lose_1 15 rfl rfl)
theorem dX6_lose_42 : decode cX6_lose 42 = .ok (.getfield 169, 3) := dk_180 0 169 (dk_at dksX6_lose_1 18 rfl rfl)
theorem dX6_lose_45 : decode cX6_lose 45 = .ok (.aload_n 2, 1) := dk_44 (dk_at dksX6_lose_1 21 rfl rfl)
theorem dX6_lose_46 : decode cX6_lose 46 = .ok (.iload 9, 2) := dk_21 9 (dk_at dksX6_lose_1 22 rfl rfl)
theorem dX6_lose_48 : decode cX6_lose 48 = .ok (.iaload, 1) := dk_46 (dk_at dksX6_lose_2 0 rfl rfl)
theorem dX6_lose_49 : decode cX6_lose 49 = .ok (.imul, 1) := dk_104 (dk_at dksX6_lose_2 1 rfl rfl)
theorem dX6_lose_50 : decode cX6_lose 50 = .ok (.istore 10, 2) := dk_54 10 (dk_at dksX6_lose_2 2 rfl rfl)
theorem dX6_lose_52 : decode cX6_lose 52 = .ok (.iload 5, 2) := dk_21 5 (dk_at dksX6_lose_2 4 rfl rfl)
theorem dX6_lose_54 : decode cX6_lose 54 = .ok (.iload 10, 2) := dk_21 10 (dk_at dksX6_lose_2 6 rfl rfl)
theorem dX6_lose_56 : decode cX6_lose 56 = .ok (.imul, 1) := dk_104 (dk_at dksX6_lose_2 8 rfl rfl)
theorem dX6_lose_57 : decode cX6_lose 57 = .ok (.iload 6, 2) := dk_21 6 (dk_at dksX6_lose_2 9 rfl rfl)
theorem dX6_lose_59 : decode cX6_lose 59 = .ok (.idiv, 1) := dk_108 (dk_at dksX6_lose_2 11 rfl rfl)
theorem dX6_lose_60 : decode cX6_lose 60 = .ok (.istore 11, 2) := dk_54 11 (dk_at dksX6_lose_2 12 rfl rfl)
theorem dX6_lose_62 : decode cX6_lose 62 = .ok (.aload 8, 2) := dk_25 8 (dk_at dksX6_lose_2 14 rfl rfl)
theorem dX6_lose_64 : decode cX6_lose 64 = .ok (.iload 9, 2) := dk_21 9 (dk_at dksX6_lose_2 16 rfl rfl)
theorem dX6_lose_66 : decode cX6_lose 66 = .ok (.iload 10, 2) := dk_21 10 (dk_at dksX6_lose_2 18 rfl rfl)
theorem dX6_lose_68 : decode cX6_lose 68 = .ok (.ifCond .le 7, 3) := dk_158 0 7 (dk_at dksX6_lose_2 20 rfl rfl)
theorem dX6_lose_71 : decode cX6_lose 71 = .ok (.iconst 1, 1) := dk_4 (dk_at dksX6_lose_2 23 rfl rfl)
theorem dX6_lose_72 : decode cX6_lose 72 = .ok (.goto 4, 3) := dk_167 0 4 (dk_at dksX6_lose_3 0 rfl rfl)
theorem dX6_lose_75 : decode cX6_lose 75 = .ok (.iconst 0, 1) := dk_3 (dk_at dksX6_lose_3 3 rfl rfl)
theorem dX6_lose_76 : decode cX6_lose 76 = .ok (.bastore, 1) := dk_84 (dk_at dksX6_lose_3 4 rfl rfl)
theorem dX6_lose_77 : decode cX6_lose 77 = .ok (.aload_n 2, 1) := dk_44 (dk_at dksX6_lose_3 5 rfl rfl)
theorem dX6_lose_78 : decode cX6_lose 78 = .ok (.iload 9, 2) := dk_21 9 (dk_at dksX6_lose_3 6 rfl rfl)
theorem dX6_lose_80 : decode cX6_lose 80 = .ok (.dup2, 1) := dk_92 (dk_at dksX6_lose_3 8 rfl rfl)
theorem dX6_lose_81 : decode cX6_lose 81 = .ok (.iaload, 1) := dk_46 (dk_at dksX6_lose_3 9 rfl rfl)
theorem dX6_lose_82 : decode cX6_lose 82 = .ok (.iload 11, 2) := dk_21 11 (dk_at dksX6_lose_3 10 rfl rfl)
theorem dX6_lose_84 : decode cX6_lose 84 = .ok (.isub, 1) := dk_100 (dk_at dksX6_lose_3 12 rfl rfl)
theorem dX6_lose_85 : decode cX6_lose 85 = .ok (.iastore, 1) := dk_79 (dk_at dksX6_lose_3 13 rfl rfl)
theorem dX6_lose_86 : decode cX6_lose 86 = .ok (.iload 7, 2) := dk_21 7 (dk_at dksX6_lose_3 14 rfl rfl)
theorem dX6_lose_88 : decode cX6_lose 88 = .ok (.iload 11, 2) := dk_21 11 (dk_at dksX6_lose_3 16 rfl rfl)
theorem dX6_lose_90 : decode cX6_lose 90 = .ok (.isub, 1) := dk_100 (dk_at dksX6_lose_3 18 rfl rfl)
theorem dX6_lose_91 : decode cX6_lose 91 = .ok (.istore 7, 2) := dk_54 7 (dk_at dksX6_lose_3 19 rfl rfl)
theorem dX6_lose_93 : decode cX6_lose 93 = .ok (.iinc 9 1, 3) := dk_132 9 1 (dk_at dksX6_lose_3 21 rfl rfl)
theorem dX6_lose_96 : decode cX6_lose 96 = .ok (.goto (-83), 3) := dk_167 255 173 (dk_at dksX6_lose_4 0 rfl rfl)
theorem dX6_lose_99 : decode cX6_lose 99 = .ok (.iconst 0, 1) := dk_3 (dk_at dksX6_lose_4 3 rfl rfl)
theorem dX6_lose_100 : decode cX6_lose 100 = .ok (.istore 9, 2) := dk_54 9 (dk_at dksX6_lose_4 4 rfl rfl)
theorem dX6_lose_102 : decode cX6_lose 102 = .ok (.iload 9, 2) := dk_21 9 (dk_at dksX6_lose_4 6 rfl rfl)
theorem dX6_lose_104 : decode cX6_lose 104 = .ok (.aload_n 2, 1) := dk_44 (dk_at dksX6_lose_4 8 rfl rfl)
theorem dX6_lose_105 : decode cX6_lose 105 = .ok (.arraylength, 1) := dk_190 (dk_at dksX6_lose_4 9 rfl rfl)
theorem dX6_lose_106 : decode cX6_lose 106 = .ok (.if_icmp .ge 45, 3) := dk_162 0 45 (dk_at dksX6_lose_4 10 rfl rfl)
theorem dX6_lose_109 : decode cX6_lose 109 = .ok (.iload 7, 2) := dk_21 7 (dk_at dksX6_lose_4 13 rfl rfl)
theorem dX6_lose_111 : decode cX6_lose 111 = .ok (.ifCond .le 40, 3) := dk_158 0 40 (dk_at dksX6_lose_4 15 rfl rfl)
theorem dX6_lose_114 : decode cX6_lose 114 = .ok (.aload 8, 2) := dk_25 8 (dk_at dksX6_lose_4 18 rfl rfl)
theorem dX6_lose_116 : decode cX6_lose 116 = .ok (.iload 9, 2) := dk_21 9 (dk_at dksX6_lose_4 20 rfl rfl)
theorem dX6_lose_118 : decode cX6_lose 118 = .ok (.baload, 1) := dk_51 (dk_at dksX6_lose_4 22 rfl rfl)
theorem dX6_lose_119 : decode cX6_lose 119 = .ok (.ifCond .eq 26, 3) := dk_153 0 26 (dk_at dksX6_lose_5 0 rfl rfl)
theorem dX6_lose_122 : decode cX6_lose 122 = .ok (.aload_n 2, 1) := dk_44 (dk_at dksX6_lose_5 3 rfl rfl)
theorem dX6_lose_123 : decode cX6_lose 123 = .ok (.iload 9, 2) := dk_21 9 (dk_at dksX6_lose_5 4 rfl rfl)
theorem dX6_lose_125 : decode cX6_lose 125 = .ok (.iaload, 1) := dk_46 (dk_at dksX6_lose_5 6 rfl rfl)
theorem dX6_lose_126 : decode cX6_lose 126 = .ok (.aload 4, 2) := dk_25 4 (dk_at dksX6_lose_5 7 rfl rfl)
theorem dX6_lose_128 : decode cX6_lose 128 = .ok (.iload 9, 2) := dk_21 9 (dk_at dksX6_lose_5 9 rfl rfl)
theorem dX6_lose_130 : decode cX6_lose 130 = .ok (.iaload, 1) := dk_46 (dk_at dksX6_lose_5 11 rfl rfl)
theorem dX6_lose_131 : decode cX6_lose 131 = .ok (.if_icmp .le 14, 3) := dk_164 0 14 (dk_at dksX6_lose_5 12 rfl rfl)
theorem dX6_lose_134 : decode cX6_lose 134 = .ok (.aload_n 2, 1) := dk_44 (dk_at dksX6_lose_5 15 rfl rfl)
theorem dX6_lose_135 : decode cX6_lose 135 = .ok (.iload 9, 2) := dk_21 9 (dk_at dksX6_lose_5 16 rfl rfl)
theorem dX6_lose_137 : decode cX6_lose 137 = .ok (.dup2, 1) := dk_92 (dk_at dksX6_lose_5 18 rfl rfl)
theorem dX6_lose_138 : decode cX6_lose 138 = .ok (.iaload, 1) := dk_46 (dk_at dksX6_lose_5 19 rfl rfl)
theorem dX6_lose_139 : decode cX6_lose 139 = .ok (.iconst 1, 1) := dk_4 (dk_at dksX6_lose_5 20 rfl rfl)
theorem dX6_lose_140 : decode cX6_lose 140 = .ok (.isub, 1) := dk_100 (dk_at dksX6_lose_5 21 rfl rfl)
theorem dX6_lose_141 : decode cX6_lose 141 = .ok (.iastore, 1) := dk_79 (dk_at dksX6_lose_5 22 rfl rfl)
theorem dX6_lose_142 : decode cX6_lose 142 = .ok (.iinc 7 (-1), 3) := dk_132 7 255 (dk_at dksX6_lose_6 0 rfl rfl)
theorem dX6_lose_145 : decode cX6_lose 145 = .ok (.iinc 9 1, 3) := dk_132 9 1 (dk_at dksX6_lose_6 3 rfl rfl)
theorem dX6_lose_148 : decode cX6_lose 148 = .ok (.goto (-46), 3) := dk_167 255 210 (dk_at dksX6_lose_6 6 rfl rfl)
theorem dX6_lose_151 : decode cX6_lose 151 = .ok (.return_, 1) := dk_177 (dk_at dksX6_lose_6 9 rfl rfl)
abbrev cX6_put : ByteArray := prog_6_method_6_code
def yX6_put : MethodName := ⟨RX6, "put", "(LColumnarPress$Box;II)V"⟩
def dkwX6_put_1 : List UInt8 := [181, 0, 62, 177]
abbrev dktX6_put_1 : List UInt8 := dkwX6_put_1 ++ []
def dkwX6_put_0 : List UInt8 := [43, 180, 0, 52, 28, 43, 180, 0, 124, 96, 181, 0, 56, 43, 180, 0, 52, 29, 43, 182, 0, 127, 96]
abbrev dktX6_put_0 : List UInt8 := dkwX6_put_0 ++ dktX6_put_1
theorem dksX6_put_0 : cX6_put.data.toList.drop 0 = dktX6_put_0 := by decide +kernel
theorem dksX6_put_1 : cX6_put.data.toList.drop 23 = dktX6_put_1 := dk_seg dksX6_put_0 23 rfl rfl
theorem dX6_put_0 : decode cX6_put 0 = .ok (.aload_n 1, 1) := dk_43 (dk_at dksX6_put_0 0 rfl rfl)
theorem dX6_put_1 : decode cX6_put 1 = .ok (.getfield 52, 3) := dk_180 0 52 (dk_at dksX6_put_0 1 rfl rfl)
theorem dX6_put_4 : decode cX6_put 4 = .ok (.iload_n 2, 1) := dk_28 (dk_at dksX6_put_0 4 rfl rfl)
theorem dX6_put_5 : decode cX6_put 5 = .ok (.aload_n 1, 1) := dk_43 (dk_at dksX6_put_0 5 rfl rfl)
theorem dX6_put_6 : decode cX6_put 6 = .ok (.getfield 124, 3) := dk_180 0 124 (dk_at dksX6_put_0 6 rfl rfl)
theorem dX6_put_9 : decode cX6_put 9 = .ok (.iadd, 1) := dk_96 (dk_at dksX6_put_0 9 rfl rfl)
theorem dX6_put_10 : decode cX6_put 10 = .ok (.putfield 56, 3) := dk_181 0 56 (dk_at dksX6_put_0 10 rfl rfl)
theorem dX6_put_13 : decode cX6_put 13 = .ok (.aload_n 1, 1) := dk_43 (dk_at dksX6_put_0 13 rfl rfl)
theorem dX6_put_14 : decode cX6_put 14 = .ok (.getfield 52, 3) := dk_180 0 52 (dk_at dksX6_put_0 14 rfl rfl)
theorem dX6_put_17 : decode cX6_put 17 = .ok (.iload_n 3, 1) := dk_29 (dk_at dksX6_put_0 17 rfl rfl)
theorem dX6_put_18 : decode cX6_put 18 = .ok (.aload_n 1, 1) := dk_43 (dk_at dksX6_put_0 18 rfl rfl)
theorem dX6_put_19 : decode cX6_put 19 = .ok (.invokevirtual 127, 3) := dk_182 0 127 (dk_at dksX6_put_0 19 rfl rfl)
theorem dX6_put_22 : decode cX6_put 22 = .ok (.iadd, 1) := dk_96 (dk_at dksX6_put_0 22 rfl rfl)
theorem dX6_put_23 : decode cX6_put 23 = .ok (.putfield 62, 3) := dk_181 0 62 (dk_at dksX6_put_1 0 rfl rfl)
theorem dX6_put_26 : decode cX6_put 26 = .ok (.return_, 1) := dk_177 (dk_at dksX6_put_1 3 rfl rfl)
abbrev cX6_stretch : ByteArray := prog_6_method_5_code
def yX6_stretch : MethodName := ⟨RX6, "stretch", "(LColumnarPress$Box;I)V"⟩
def dkwX6_stretch_1 : List UInt8 := [100, 184, 0, 75, 181, 0, 91, 177]
abbrev dktX6_stretch_1 : List UInt8 := dkwX6_stretch_1 ++ []
def dkwX6_stretch_0 : List UInt8 := [43, 180, 0, 116, 2, 160, 0, 26, 43, 180, 0, 52, 43, 180, 0, 52, 180, 0, 91, 28, 43, 182, 0, 120]
abbrev dktX6_stretch_0 : List UInt8 := dkwX6_stretch_0 ++ dktX6_stretch_1
theorem dksX6_stretch_0 : cX6_stretch.data.toList.drop 0 = dktX6_stretch_0 := by decide +kernel
theorem dksX6_stretch_1 : cX6_stretch.data.toList.drop 24 = dktX6_stretch_1 := dk_seg dksX6_stretch_0 24 rfl rfl
theorem dX6_stretch_0 : decode cX6_stretch 0 = .ok (.aload_n 1, 1) := dk_43 (dk_at dksX6_stretch_0 0 rfl rfl)
theorem dX6_stretch_1 : decode cX6_stretch 1 = .ok (.getfield 116, 3) := dk_180 0 116 (dk_at dksX6_stretch_0 1 rfl rfl)
theorem dX6_stretch_4 : decode cX6_stretch 4 = .ok (.iconst (-1), 1) := dk_2 (dk_at dksX6_stretch_0 4 rfl rfl)
theorem dX6_stretch_5 : decode cX6_stretch 5 = .ok (.if_icmp .ne 26, 3) := dk_160 0 26 (dk_at dksX6_stretch_0 5 rfl rfl)
theorem dX6_stretch_8 : decode cX6_stretch 8 = .ok (.aload_n 1, 1) := dk_43 (dk_at dksX6_stretch_0 8 rfl rfl)
theorem dX6_stretch_9 : decode cX6_stretch 9 = .ok (.getfield 52, 3) := dk_180 0 52 (dk_at dksX6_stretch_0 9 rfl rfl)
theorem dX6_stretch_12 : decode cX6_stretch 12 = .ok (.aload_n 1, 1) := dk_43 (dk_at dksX6_stretch_0 12 rfl rfl)
theorem dX6_stretch_13 : decode cX6_stretch 13 = .ok (.getfield 52, 3) := dk_180 0 52 (dk_at dksX6_stretch_0 13 rfl rfl)
theorem dX6_stretch_16 : decode cX6_stretch 16 = .ok (.getfield 91, 3) := dk_180 0 91 (dk_at dksX6_stretch_0 16 rfl rfl)
theorem dX6_stretch_19 : decode cX6_stretch 19 = .ok (.iload_n 2, 1) := dk_28 (dk_at dksX6_stretch_0 19 rfl rfl)
theorem dX6_stretch_20 : decode cX6_stretch 20 = .ok (.aload_n 1, 1) := dk_43 (dk_at dksX6_stretch_0 20 rfl rfl)
theorem dX6_stretch_21 : decode cX6_stretch 21 = .ok (.invokevirtual 120, 3) := dk_182 0 120 (dk_at dksX6_stretch_0 21 rfl rfl)
theorem dX6_stretch_24 : decode cX6_stretch 24 = .ok (.isub, 1) := dk_100 (dk_at dksX6_stretch_1 0 rfl rfl)
theorem dX6_stretch_25 : decode cX6_stretch 25 = .ok (.invokestatic 75, 3) := dk_184 0 75 (dk_at dksX6_stretch_1 1 rfl rfl)
theorem dX6_stretch_28 : decode cX6_stretch 28 = .ok (.putfield 91, 3) := dk_181 0 91 (dk_at dksX6_stretch_1 4 rfl rfl)
theorem dX6_stretch_31 : decode cX6_stretch 31 = .ok (.return_, 1) := dk_177 (dk_at dksX6_stretch_1 7 rfl rfl)
abbrev cX6_setHeight : ByteArray := prog_6_method_4_code
def yX6_setHeight : MethodName := ⟨RX6, "setHeight", "(LColumnarPress$Box;I)V"⟩
def dkwX6_setHeight_1 : List UInt8 := [180, 0, 116, 181, 0, 91, 177]
abbrev dktX6_setHeight_1 : List UInt8 := dkwX6_setHeight_1 ++ []
def dkwX6_setHeight_0 : List UInt8 := [43, 180, 0, 52, 43, 180, 0, 116, 2, 160, 0, 14, 28, 5, 43, 180, 0, 117, 104, 96, 167, 0, 7, 43]
abbrev dktX6_setHeight_0 : List UInt8 := dkwX6_setHeight_0 ++ dktX6_setHeight_1
theorem dksX6_setHeight_0 : cX6_setHeight.data.toList.drop 0 = dktX6_setHeight_0 := by decide +kernel
theorem dksX6_setHeight_1 : cX6_setHeight.data.toList.drop 24 = dktX6_setHeight_1 := dk_seg dksX6_setHeight_0 24 rfl rfl
theorem dX6_setHeight_0 : decode cX6_setHeight 0 = .ok (.aload_n 1, 1) := dk_43 (dk_at dksX6_setHeight_0 0 rfl rfl)
theorem dX6_setHeight_1 : decode cX6_setHeight 1 = .ok (.getfield 52, 3) := dk_180 0 52 (dk_at dksX6_setHeight_0 1 rfl rfl)
theorem dX6_setHeight_4 : decode cX6_setHeight 4 = .ok (.aload_n 1, 1) := dk_43 (dk_at dksX6_setHeight_0 4 rfl rfl)
theorem dX6_setHeight_5 : decode cX6_setHeight 5 = .ok (.getfield 116, 3) := dk_180 0 116 (dk_at dksX6_setHeight_0 5 rfl rfl)
theorem dX6_setHeight_8 : decode cX6_setHeight 8 = .ok (.iconst (-1), 1) := dk_2 (dk_at dksX6_setHeight_0 8 rfl rfl)
theorem dX6_setHeight_9 : decode cX6_setHeight 9 = .ok (.if_icmp .ne 14, 3) := dk_160 0 14 (dk_at dksX6_setHeight_0 9 rfl rfl)
theorem dX6_setHeight_12 : decode cX6_setHeight 12 = .ok (.iload_n 2, 1) := dk_28 (dk_at dksX6_setHeight_0 12 rfl rfl)
theorem dX6_setHeight_13 : decode cX6_setHeight 13 = .ok (.iconst 2, 1) := dk_5 (dk_at dksX6_setHeight_0 13 rfl rfl)
theorem dX6_setHeight_14 : decode cX6_setHeight 14 = .ok (.aload_n 1, 1) := dk_43 (dk_at dksX6_setHeight_0 14 rfl rfl)
theorem dX6_setHeight_15 : decode cX6_setHeight 15 = .ok (.getfield 117, 3) := dk_180 0 117 (dk_at dksX6_setHeight_0 15 rfl rfl)
theorem dX6_setHeight_18 : decode cX6_setHeight 18 = .ok (.imul, 1) := dk_104 (dk_at dksX6_setHeight_0 18 rfl rfl)
theorem dX6_setHeight_19 : decode cX6_setHeight 19 = .ok (.iadd, 1) := dk_96 (dk_at dksX6_setHeight_0 19 rfl rfl)
theorem dX6_setHeight_20 : decode cX6_setHeight 20 = .ok (.goto 7, 3) := dk_167 0 7 (dk_at dksX6_setHeight_0 20 rfl rfl)
theorem dX6_setHeight_23 : decode cX6_setHeight 23 = .ok (.aload_n 1, 1) := dk_43 (dk_at dksX6_setHeight_0 23 rfl rfl)
theorem dX6_setHeight_24 : decode cX6_setHeight 24 = .ok (.getfield 116, 3) := dk_180 0 116 (dk_at dksX6_setHeight_1 0 rfl rfl)
theorem dX6_setHeight_27 : decode cX6_setHeight 27 = .ok (.putfield 91, 3) := dk_181 0 91 (dk_at dksX6_setHeight_1 3 rfl rfl)
theorem dX6_setHeight_30 : decode cX6_setHeight 30 = .ok (.return_, 1) := dk_177 (dk_at dksX6_setHeight_1 6 rfl rfl)
abbrev cX6_layGrid : ByteArray := prog_6_method_11_code
def yX6_layGrid : MethodName := ⟨RX6, "layGrid", "(LColumnarPress$Box;)V"⟩
def dkwX6_layGrid_8 : List UInt8 := [100, 182, 0, 161, 177]
abbrev dktX6_layGrid_8 : List UInt8 := dkwX6_layGrid_8 ++ []
def dkwX6_layGrid_7 : List UInt8 := [182, 0, 183, 96, 54, 5, 21, 6, 45, 190, 96, 54, 6, 167, 255, 196, 42, 43, 21, 5, 43, 180, 0, 117]
abbrev dktX6_layGrid_7 : List UInt8 := dkwX6_layGrid_7 ++ dktX6_layGrid_8
def dkwX6_layGrid_6 : List UInt8 := [184, 0, 166, 185, 0, 179, 3, 0, 58, 7, 21, 5, 42, 25, 7, 45, 43, 180, 0, 117, 21, 5]
abbrev dktX6_layGrid_6 : List UInt8 := dkwX6_layGrid_6 ++ dktX6_layGrid_7
def dkwX6_layGrid_5 : List UInt8 := [185, 0, 134, 1, 0, 162, 0, 55, 44, 21, 6, 44, 185, 0, 134, 1, 0, 21, 6, 45, 190, 96]
abbrev dktX6_layGrid_5 : List UInt8 := dkwX6_layGrid_5 ++ dktX6_layGrid_6
def dkwX6_layGrid_4 : List UInt8 := [96, 96, 79, 132, 5, 1, 167, 255, 213, 43, 180, 0, 117, 54, 5, 3, 54, 6, 21, 6, 44]
abbrev dktX6_layGrid_4 : List UInt8 := dkwX6_layGrid_4 ++ dktX6_layGrid_5
def dkwX6_layGrid_3 : List UInt8 := [21, 5, 92, 46, 21, 4, 45, 190, 108, 21, 5, 21, 4, 45, 190, 112, 162, 0, 7, 4, 167, 0, 4, 3]
abbrev dktX6_layGrid_3 : List UInt8 := dkwX6_layGrid_3 ++ dktX6_layGrid_4
def dkwX6_layGrid_2 : List UInt8 := [54, 4, 132, 7, 1, 167, 255, 232, 3, 54, 5, 21, 5, 45, 190, 162, 0, 42, 21, 4, 158, 0, 37, 45]
abbrev dktX6_layGrid_2 : List UInt8 := dkwX6_layGrid_2 ++ dktX6_layGrid_3
def dkwX6_layGrid_1 : List UInt8 := [54, 6, 3, 54, 7, 21, 7, 21, 6, 162, 0, 23, 25, 5, 21, 7, 46, 54, 8, 21, 4, 21, 8, 100]
abbrev dktX6_layGrid_1 : List UInt8 := dkwX6_layGrid_1 ++ dktX6_layGrid_2
def dkwX6_layGrid_0 : List UInt8 := [43, 184, 0, 130, 77, 43, 4, 184, 0, 175, 78, 43, 182, 0, 137, 54, 4, 45, 58, 5, 25, 5, 190]
abbrev dktX6_layGrid_0 : List UInt8 := dkwX6_layGrid_0 ++ dktX6_layGrid_1
theorem dksX6_layGrid_0 : cX6_layGrid.data.toList.drop 0 = dktX6_layGrid_0 := by decide +kernel
theorem dksX6_layGrid_1 : cX6_layGrid.data.toList.drop 23 = dktX6_layGrid_1 := dk_seg dksX6_layGrid_0 23 rfl rfl
theorem dksX6_layGrid_2 : cX6_layGrid.data.toList.drop 47 = dktX6_layGrid_2 := dk_seg dksX6_layGrid_1 24 rfl rfl
theorem dksX6_layGrid_3 : cX6_layGrid.data.toList.drop 71 = dktX6_layGrid_3 := dk_seg dksX6_layGrid_2 24 rfl rfl
theorem dksX6_layGrid_4 : cX6_layGrid.data.toList.drop 95 = dktX6_layGrid_4 := dk_seg dksX6_layGrid_3 24 rfl rfl
theorem dksX6_layGrid_5 : cX6_layGrid.data.toList.drop 116 = dktX6_layGrid_5 := dk_seg dksX6_layGrid_4 21 rfl rfl
theorem dksX6_layGrid_6 : cX6_layGrid.data.toList.drop 138 = dktX6_layGrid_6 := dk_seg dksX6_layGrid_5 22 rfl rfl
theorem dksX6_layGrid_7 : cX6_layGrid.data.toList.drop 160 = dktX6_layGrid_7 := dk_seg dksX6_layGrid_6 22 rfl rfl
theorem dksX6_layGrid_8 : cX6_layGrid.data.toList.drop 184 = dktX6_layGrid_8 := dk_seg dksX6_layGrid_7 24 rfl rfl
theorem dX6_layGrid_0 : decode cX6_layGrid 0 = .ok (.aload_n 1, 1) := dk_43 (dk_at dksX6_layGrid_0 0 rfl rfl)
theorem dX6_layGrid_1 : decode cX6_layGrid 1 = .ok (.invokestatic 130, 3) := dk_184 0 130 (dk_at dksX6_layGrid_0 1 rfl rfl)
theorem dX6_layGrid_4 : decode cX6_layGrid 4 = .ok (.astore_n 2, 1) := dk_77 (dk_at dksX6_layGrid_0 4 rfl rfl)
theorem dX6_layGrid_5 : decode cX6_layGrid 5 = .ok (.aload_n 1, 1) := dk_43 (dk_at dksX6_layGrid_0 5 rfl rfl)
theorem dX6_layGrid_6 : decode cX6_layGrid 6 = .ok (.iconst 1, 1) := dk_4 (dk_at dksX6_layGrid_0 6 rfl rfl)
theorem dX6_layGrid_7 : decode cX6_layGrid 7 = .ok (.invokestatic 175, 3) := dk_184 0 175 (dk_at dksX6_layGrid_0 7 rfl rfl)
theorem dX6_layGrid_10 : decode cX6_layGrid 10 = .ok (.astore_n 3, 1) := dk_78 (dk_at dksX6_layGrid_0 10 rfl rfl)
theorem dX6_layGrid_11 : decode cX6_layGrid 11 = .ok (.aload_n 1, 1) := dk_43 (dk_at dksX6_layGrid_0 11 rfl rfl)
theorem dX6_layGrid_12 : decode cX6_layGrid 12 = .ok (.invokevirtual 137, 3) := dk_182 0 137 (dk_at dksX6_layGrid_0 12 rfl rfl)
theorem dX6_layGrid_15 : decode cX6_layGrid 15 = .ok (.istore 4, 2) := dk_54 4 (dk_at dksX6_layGrid_0 15 rfl rfl)
theorem dX6_layGrid_17 : decode cX6_layGrid 17 = .ok (.aload_n 3, 1) := dk_45 (dk_at dksX6_layGrid_0 17 rfl rfl)
theorem dX6_layGrid_18 : decode cX6_layGrid 18 = .ok (.astore 5, 2) := dk_58 5 (dk_at dksX6_layGrid_0 18 rfl rfl)
theorem dX6_layGrid_20 : decode cX6_layGrid 20 = .ok (.aload 5, 2) := dk_25 5 (dk_at dksX6_layGrid_0 20 rfl rfl)
theorem dX6_layGrid_22 : decode cX6_layGrid 22 = .ok (.arraylength, 1) := dk_190 (dk_at dksX6_layGrid_0 22 rfl rfl)
theorem dX6_layGrid_23 : decode cX6_layGrid 23 = .ok (.istore 6, 2) := dk_54 6 (dk_at dksX6_layGrid_1 0 rfl rfl)
theorem dX6_layGrid_25 : decode cX6_layGrid 25 = .ok (.iconst 0, 1) := dk_3 (dk_at dksX6_layGrid_1 2 rfl rfl)
theorem dX6_layGrid_26 : decode cX6_layGrid 26 = .ok (.istore 7, 2) := dk_54 7 (dk_at dksX6_layGrid_1 3 rfl rfl)
theorem dX6_layGrid_28 : decode cX6_layGrid 28 = .ok (.iload 7, 2) := dk_21 7 (dk_at dksX6_layGrid_1 5 rfl rfl)
theorem dX6_layGrid_30 : decode cX6_layGrid 30 = .ok (.iload 6, 2) := dk_21 6 (dk_at dksX6_layGrid_1 7 rfl rfl)
theorem dX6_layGrid_32 : decode cX6_layGrid 32 = .ok (.if_icmp .ge 23, 3) := dk_162 0 23 (dk_at dksX6_layGrid_1 9 rfl rfl)
theorem dX6_layGrid_35 : decode cX6_layGrid 35 = .ok (.aload 5, 2) := dk_25 5 (dk_at dksX6_layGrid_1 12 rfl rfl)
theorem dX6_layGrid_37 : decode cX6_layGrid 37 = .ok (.iload 7, 2) := dk_21 7 (dk_at dksX6_layGrid_1 14 rfl rfl)
theorem dX6_layGrid_39 : decode cX6_layGrid 39 = .ok (.iaload, 1) := dk_46 (dk_at dksX6_layGrid_1 16 rfl rfl)
theorem dX6_layGrid_40 : decode cX6_layGrid 40 = .ok (.istore 8, 2) := dk_54 8 (dk_at dksX6_layGrid_1 17 rfl rfl)
theorem dX6_layGrid_42 : decode cX6_layGrid 42 = .ok (.iload 4, 2) := dk_21 4 (dk_at dksX6_layGrid_1 19 rfl rfl)
theorem dX6_layGrid_44 : decode cX6_layGrid 44 = .ok (.iload 8, 2) := dk_21 8 (dk_at dksX6_layGrid_1 21 rfl rfl)
theorem dX6_layGrid_46 : decode cX6_layGrid 46 = .ok (.isub, 1) := dk_100 (dk_at dksX6_layGrid_1 23 rfl rfl)
theorem dX6_layGrid_47 : decode cX6_layGrid 47 = .ok (.istore 4, 2) := dk_54 4 (dk_at dksX6_layGrid_2 0 rfl rfl)
theorem dX6_layGrid_49 : decode cX6_layGrid 49 = .ok (.iinc 7 1, 3) := dk_132 7 1 (dk_at dksX6_layGrid_2 2 rfl rfl)
theorem dX6_layGrid_52 : decode cX6_layGrid 52 = .ok (.goto (-24), 3) := dk_167 255 232 (dk_at dksX6_layGrid_2 5 rfl rfl)
theorem dX6_layGrid_55 : decode cX6_layGrid 55 = .ok (.iconst 0, 1) := dk_3 (dk_at dksX6_layGrid_2 8 rfl rfl)
theorem dX6_layGrid_56 : decode cX6_layGrid 56 = .ok (.istore 5, 2) := dk_54 5 (dk_at dksX6_layGrid_2 9 rfl rfl)
theorem dX6_layGrid_58 : decode cX6_layGrid 58 = .ok (.iload 5, 2) := dk_21 5 (dk_at dksX6_layGrid_2 11 rfl rfl)
theorem dX6_layGrid_60 : decode cX6_layGrid 60 = .ok (.aload_n 3, 1) := dk_45 (dk_at dksX6_layGrid_2 13 rfl rfl)
theorem dX6_layGrid_61 : decode cX6_layGrid 61 = .ok (.arraylength, 1) := dk_190 (dk_at dksX6_layGrid_2 14 rfl rfl)
theorem dX6_layGrid_62 : decode cX6_layGrid 62 = .ok (.if_icmp .ge 42, 3) := dk_162 0 42 (dk_at dksX6_layGrid_2 15 rfl rfl)
theorem dX6_layGrid_65 : decode cX6_layGrid 65 = .ok (.iload 4, 2) := dk_21 4 (dk_at dksX6_layGrid_2 18 rfl rfl)
theorem dX6_layGrid_67 : decode cX6_layGrid 67 = .ok (.ifCond .le 37, 3) := dk_158 0 37 (dk_at dksX6_layGrid_2 20 rfl rfl)
theorem dX6_layGrid_70 : decode cX6_layGrid 70 = .ok (.aload_n 3, 1) := dk_45 (dk_at dksX6_layGrid_2 23 rfl rfl)
theorem dX6_layGrid_71 : decode cX6_layGrid 71 = .ok (.iload 5, 2) := dk_21 5 (dk_at dksX6_layGrid_3 0 rfl rfl)
theorem dX6_layGrid_73 : decode cX6_layGrid 73 = .ok (.dup2, 1) := dk_92 (dk_at dksX6_layGrid_3 2 rfl rfl)
theorem dX6_layGrid_74 : decode cX6_layGrid 74 = .ok (.iaload, 1) := dk_46 (dk_at dksX6_layGrid_3 3 rfl rfl)
theorem dX6_layGrid_75 : decode cX6_layGrid 75 = .ok (.iload 4, 2) := dk_21 4 (dk_at dksX6_layGrid_3 4 rfl rfl)
theorem dX6_layGrid_77 : decode cX6_layGrid 77 = .ok (.aload_n 3, 1) := dk_45 (dk_at dksX6_layGrid_3 6 rfl rfl)
theorem dX6_layGrid_78 : decode cX6_layGrid 78 = .ok (.arraylength, 1) := dk_190 (dk_at dksX6_layGrid_3 7 rfl rfl)
theorem dX6_layGrid_79 : decode cX6_layGrid 79 = .ok (.idiv, 1) := dk_108 (dk_at dksX6_layGrid_3 8 rfl rfl)
theorem dX6_layGrid_80 : decode cX6_layGrid 80 = .ok (.iload 5, 2) := dk_21 5 (dk_at dksX6_layGrid_3 9 rfl rfl)
theorem dX6_layGrid_82 : decode cX6_layGrid 82 = .ok (.iload 4, 2) := dk_21 4 (dk_at dksX6_layGrid_3 11 rfl rfl)
theorem dX6_layGrid_84 : decode cX6_layGrid 84 = .ok (.aload_n 3, 1) := dk_45 (dk_at dksX6_layGrid_3 13 rfl rfl)
theorem dX6_layGrid_85 : decode cX6_layGrid 85 = .ok (.arraylength, 1) := dk_190 (dk_at dksX6_layGrid_3 14 rfl rfl)
theorem dX6_layGrid_86 : decode cX6_layGrid 86 = .ok (.irem, 1) := dk_112 (dk_at dksX6_layGrid_3 15 rfl rfl)
theorem dX6_layGrid_87 : decode cX6_layGrid 87 = .ok (.if_icmp .ge 7, 3) := dk_162 0 7 (dk_at dksX6_layGrid_3 16 rfl rfl)
theorem dX6_layGrid_90 : decode cX6_layGrid 90 = .ok (.iconst 1, 1) := dk_4 (dk_at dksX6_layGrid_3 19 rfl rfl)
theorem dX6_layGrid_91 : decode cX6_layGrid 91 = .ok (.goto 4, 3) := dk_167 0 4 (dk_at dksX6_layGrid_3 20 rfl rfl)
theorem dX6_layGrid_94 : decode cX6_layGrid 94 = .ok (.iconst 0, 1) := dk_3 (dk_at dksX6_layGrid_3 23 rfl rfl)
theorem dX6_layGrid_95 : decode cX6_layGrid 95 = .ok (.iadd, 1) := dk_96 (dk_at dksX6_layGrid_4 0 rfl rfl)
theorem dX6_layGrid_96 : decode cX6_layGrid 96 = .ok (.iadd, 1) := dk_96 (dk_at dksX6_layGrid_4 1 rfl rfl)
theorem dX6_layGrid_97 : decode cX6_layGrid 97 = .ok (.iastore, 1) := dk_79 (dk_at dksX6_layGrid_4 2 rfl rfl)
theorem dX6_layGrid_98 : decode cX6_layGrid 98 = .ok (.iinc 5 1, 3) := dk_132 5 1 (dk_at dksX6_layGrid_4 3 rfl rfl)
theorem dX6_layGrid_101 : decode cX6_layGrid 101 = .ok (.goto (-43), 3) := dk_167 255 213 (dk_at dksX6_layGrid_4 6 rfl rfl)
theorem dX6_layGrid_104 : decode cX6_layGrid 104 = .ok (.aload_n 1, 1) := dk_43 (dk_at dksX6_layGrid_4 9 rfl rfl)
theorem dX6_layGrid_105 : decode cX6_layGrid 105 = .ok (.getfield 117, 3) := dk_180 0 117 (dk_at dksX6_layGrid_4 10 rfl rfl)
theorem dX6_layGrid_108 : decode cX6_layGrid 108 = .ok (.istore 5, 2) := dk_54 5 (dk_at dksX6_layGrid_4 13 rfl rfl)
theorem dX6_layGrid_110 : decode cX6_layGrid 110 = .ok (.iconst 0, 1) := dk_3 (dk_at dksX6_layGrid_4 15 rfl rfl)
theorem dX6_layGrid_111 : decode cX6_layGrid 111 = .ok (.istore 6, 2) := dk_54 6 (dk_at dksX6_layGrid_4 16 rfl rfl)
theorem dX6_layGrid_113 : decode cX6_layGrid 113 = .ok (.iload 6, 2) := dk_21 6 (dk_at dksX6_layGrid_4 18 rfl rfl)
theorem dX6_layGrid_115 : decode cX6_layGrid 115 = .ok (.aload_n 2, 1) := dk_44 (dk_at dksX6_layGrid_4 20 rfl rfl)
theorem dX6_layGrid_116 : decode cX6_layGrid 116 = .ok (.invokeinterface 134 1, 5) := by decide +kernel
theorem dX6_layGrid_121 : decode cX6_layGrid 121 = .ok (.if_icmp .ge 55, 3) := dk_162 0 55 (dk_at dksX6_layGrid_5 5 rfl rfl)
theorem dX6_layGrid_124 : decode cX6_layGrid 124 = .ok (.aload_n 2, 1) := dk_44 (dk_at dksX6_layGrid_5 8 rfl rfl)
theorem dX6_layGrid_125 : decode cX6_layGrid 125 = .ok (.iload 6, 2) := dk_21 6 (dk_at dksX6_layGrid_5 9 rfl rfl)
theorem dX6_layGrid_127 : decode cX6_layGrid 127 = .ok (.aload_n 2, 1) := dk_44 (dk_at dksX6_layGrid_5 11 rfl rfl)
theorem dX6_layGrid_128 : decode cX6_layGrid 128 = .ok (.invokeinterface 134 1, 5) := by decide +kernel
theorem dX6_layGrid_133 : decode cX6_layGrid 133 = .ok (.iload 6, 2) := dk_21 6 (dk_at dksX6_layGrid_5 17 rfl rfl)
theorem dX6_layGrid_135 : decode cX6_layGrid 135 = .ok (.aload_n 3, 1) := dk_45 (dk_at dksX6_layGrid_5 19 rfl rfl)
theorem dX6_layGrid_136 : decode cX6_layGrid 136 = .ok (.arraylength, 1) := dk_190 (dk_at dksX6_layGrid_5 20 rfl rfl)
theorem dX6_layGrid_137 : decode cX6_layGrid 137 = .ok (.iadd, 1) := dk_96 (dk_at dksX6_layGrid_5 21 rfl rfl)
theorem dX6_layGrid_138 : decode cX6_layGrid 138 = .ok (.invokestatic 166, 3) := dk_184 0 166 (dk_at dksX6_layGrid_6 0 rfl rfl)
theorem dX6_layGrid_141 : decode cX6_layGrid 141 = .ok (.invokeinterface 179 3, 5) := by decide +kernel
theorem dX6_layGrid_146 : decode cX6_layGrid 146 = .ok (.astore 7, 2) := dk_58 7 (dk_at dksX6_layGrid_6 8 rfl rfl)
theorem dX6_layGrid_148 : decode cX6_layGrid 148 = .ok (.iload 5, 2) := dk_21 5 (dk_at dksX6_layGrid_6 10 rfl rfl)
theorem dX6_layGrid_150 : decode cX6_layGrid 150 = .ok (.aload_n 0, 1) := dk_42 (dk_at dksX6_layGrid_6 12 rfl rfl)
theorem dX6_layGrid_151 : decode cX6_layGrid 151 = .ok (.aload 7, 2) := dk_25 7 (dk_at dksX6_layGrid_6 13 rfl rfl)
theorem dX6_layGrid_153 : decode cX6_layGrid 153 = .ok (.aload_n 3, 1) := dk_45 (dk_at dksX6_layGrid_6 15 rfl rfl)
theorem dX6_layGrid_154 : decode cX6_layGrid 154 = .ok (.aload_n 1, 1) := dk_43 (dk_at dksX6_layGrid_6 16 rfl rfl)
theorem dX6_layGrid_155 : decode cX6_layGrid 155 = .ok (.getfield 117, 3) := dk_180 0 117 (dk_at dksX6_layGrid_6 17 rfl rfl)
theorem dX6_layGrid_158 : decode cX6_layGrid 158 = .ok (.iload 5, 2) := dk_21 5 (dk_at dksX6_layGrid_6 20 rfl rfl)
theorem dX6_layGrid_160 : decode cX6_layGrid 160 = .ok (.invokevirtual 183, 3) := dk_182 0 183 (dk_at dksX6_layGrid_7 0 rfl rfl)
theorem dX6_layGrid_163 : decode cX6_layGrid 163 = .ok (.iadd, 1) := dk_96 (dk_at dksX6_layGrid_7 3 rfl rfl)
theorem dX6_layGrid_164 : decode cX6_layGrid 164 = .ok (.istore 5, 2) := dk_54 5 (dk_at dksX6_layGrid_7 4 rfl rfl)
theorem dX6_layGrid_166 : decode cX6_layGrid 166 = .ok (.iload 6, 2) := dk_21 6 (dk_at dksX6_layGrid_7 6 rfl rfl)
theorem dX6_layGrid_168 : decode cX6_layGrid 168 = .ok (.aload_n 3, 1) := dk_45 (dk_at dksX6_layGrid_7 8 rfl rfl)
theorem dX6_layGrid_169 : decode cX6_layGrid 169 = .ok (.arraylength, 1) := dk_190 (dk_at dksX6_layGrid_7 9 rfl rfl)
theorem dX6_layGrid_170 : decode cX6_layGrid 170 = .ok (.iadd, 1) := dk_96 (dk_at dksX6_layGrid_7 10 rfl rfl)
theorem dX6_layGrid_171 : decode cX6_layGrid 171 = .ok (.istore 6, 2) := dk_54 6 (dk_at dksX6_layGrid_7 11 rfl rfl)
theorem dX6_layGrid_173 : decode cX6_layGrid 173 = .ok (.goto (-60), 3) := dk_167 255 196 (dk_at dksX6_layGrid_7 13 rfl rfl)
theorem dX6_layGrid_176 : decode cX6_layGrid 176 = .ok (.aload_n 0, 1) := dk_42 (dk_at dksX6_layGrid_7 16 rfl rfl)
theorem dX6_layGrid_177 : decode cX6_layGrid 177 = .ok (.aload_n 1, 1) := dk_43 (dk_at dksX6_layGrid_7 17 rfl rfl)
theorem dX6_layGrid_178 : decode cX6_layGrid 178 = .ok (.iload 5, 2) := dk_21 5 (dk_at dksX6_layGrid_7 18 rfl rfl)
theorem dX6_layGrid_180 : decode cX6_layGrid 180 = .ok (.aload_n 1, 1) := dk_43 (dk_at dksX6_layGrid_7 20 rfl rfl)
theorem dX6_layGrid_181 : decode cX6_layGrid 181 = .ok (.getfield 117, 3) := dk_180 0 117 (dk_at dksX6_layGrid_7 21 rfl rfl)
theorem dX6_layGrid_184 : decode cX6_layGrid 184 = .ok (.isub, 1) := dk_100 (dk_at dksX6_layGrid_8 0 rfl rfl)
theorem dX6_layGrid_185 : decode cX6_layGrid 185 = .ok (.invokevirtual 161, 3) := dk_182 0 161 (dk_at dksX6_layGrid_8 1 rfl rfl)
theorem dX6_layGrid_188 : decode cX6_layGrid 188 = .ok (.return_, 1) := dk_177 (dk_at dksX6_layGrid_8 4 rfl rfl)
abbrev cX6_layCells : ByteArray := prog_6_method_12_code
def yX6_layCells : MethodName := ⟨RX6, "layCells", "(Ljava/util/List;[III)I"⟩
def dkwX6_layCells_7 : List UInt8 := [21, 5, 182, 0, 158, 167, 255, 226, 21, 5, 172]
abbrev dktX6_layCells_7 : List UInt8 := dkwX6_layCells_7 ++ []
def dkwX6_layCells_6 : List UInt8 := [185, 0, 39, 1, 0, 153, 0, 26, 25, 7, 185, 0, 45, 1, 0, 192, 0, 29, 58, 8, 42, 25, 8]
abbrev dktX6_layCells_6 : List UInt8 := dkwX6_layCells_6 ++ dktX6_layCells_7
def dkwX6_layCells_5 : List UInt8 := [184, 0, 75, 54, 5, 132, 7, 1, 167, 255, 142, 43, 185, 0, 35, 1, 0, 58, 7, 25, 7]
abbrev dktX6_layCells_5 : List UInt8 := dkwX6_layCells_5 ++ dktX6_layCells_6
def dkwX6_layCells_4 : List UInt8 := [21, 7, 46, 96, 54, 6, 21, 5, 25, 8, 180, 0, 52, 180, 0, 91, 25, 8, 182, 0, 120, 96]
abbrev dktX6_layCells_4 : List UInt8 := dkwX6_layCells_4 ++ dktX6_layCells_5
def dkwX6_layCells_3 : List UInt8 := [54, 9, 42, 25, 8, 21, 9, 182, 0, 31, 42, 25, 8, 21, 6, 21, 4, 182, 0, 154, 21, 6, 44]
abbrev dktX6_layCells_3 : List UInt8 := dkwX6_layCells_3 ++ dktX6_layCells_4
def dkwX6_layCells_2 : List UInt8 := [167, 0, 23, 5, 25, 8, 180, 0, 117, 104, 44, 21, 7, 46, 25, 8, 182, 0, 144, 100, 184, 0, 75]
abbrev dktX6_layCells_2 : List UInt8 := dkwX6_layCells_2 ++ dktX6_layCells_3
def dkwX6_layCells_1 : List UInt8 := [185, 0, 23, 2, 0, 192, 0, 29, 58, 8, 25, 8, 182, 0, 187, 2, 159, 0, 11, 25, 8, 182, 0, 187]
abbrev dktX6_layCells_1 : List UInt8 := dkwX6_layCells_1 ++ dktX6_layCells_2
def dkwX6_layCells_0 : List UInt8 := [3, 54, 5, 29, 54, 6, 3, 54, 7, 21, 7, 43, 185, 0, 134, 1, 0, 162, 0, 109, 43, 21, 7]
abbrev dktX6_layCells_0 : List UInt8 := dkwX6_layCells_0 ++ dktX6_layCells_1
theorem dksX6_layCells_0 : cX6_layCells.data.toList.drop 0 = dktX6_layCells_0 := by decide +kernel
theorem dksX6_layCells_1 : cX6_layCells.data.toList.drop 23 = dktX6_layCells_1 := dk_seg dksX6_layCells_0 23 rfl rfl
theorem dksX6_layCells_2 : cX6_layCells.data.toList.drop 47 = dktX6_layCells_2 := dk_seg dksX6_layCells_1 24 rfl rfl
theorem dksX6_layCells_3 : cX6_layCells.data.toList.drop 70 = dktX6_layCells_3 := dk_seg dksX6_layCells_2 23 rfl rfl
theorem dksX6_layCells_4 : cX6_layCells.data.toList.drop 93 = dktX6_layCells_4 := dk_seg dksX6_layCells_3 23 rfl rfl
theorem dksX6_layCells_5 : cX6_layCells.data.toList.drop 115 = dktX6_layCells_5 := dk_seg dksX6_layCells_4 22 rfl rfl
theorem dksX6_layCells_6 : cX6_layCells.data.toList.drop 136 = dktX6_layCells_6 := dk_seg dksX6_layCells_5 21 rfl rfl
theorem dksX6_layCells_7 : cX6_layCells.data.toList.drop 159 = dktX6_layCells_7 := dk_seg dksX6_layCells_6 23 rfl rfl
theorem dX6_layCells_0 : decode cX6_layCells 0 = .ok (.iconst 0, 1) := dk_3 (dk_at dksX6_layCells_0 0 rfl rfl)
theorem dX6_layCells_1 : decode cX6_layCells 1 = .ok (.istore 5, 2) := dk_54 5 (dk_at dksX6_layCells_0 1 rfl rfl)
theorem dX6_layCells_3 : decode cX6_layCells 3 = .ok (.iload_n 3, 1) := dk_29 (dk_at dksX6_layCells_0 3 rfl rfl)
theorem dX6_layCells_4 : decode cX6_layCells 4 = .ok (.istore 6, 2) := dk_54 6 (dk_at dksX6_layCells_0 4 rfl rfl)
theorem dX6_layCells_6 : decode cX6_layCells 6 = .ok (.iconst 0, 1) := dk_3 (dk_at dksX6_layCells_0 6 rfl rfl)
theorem dX6_layCells_7 : decode cX6_layCells 7 = .ok (.istore 7, 2) := dk_54 7 (dk_at dksX6_layCells_0 7 rfl rfl)
theorem dX6_layCells_9 : decode cX6_layCells 9 = .ok (.iload 7, 2) := dk_21 7 (dk_at dksX6_layCells_0 9 rfl rfl)
theorem dX6_layCells_11 : decode cX6_layCells 11 = .ok (.aload_n 1, 1) := dk_43 (dk_at dksX6_layCells_0 11 rfl rfl)
theorem dX6_layCells_12 : decode cX6_layCells 12 = .ok (.invokeinterface 134 1, 5) := by decide +kernel
theorem dX6_layCells_17 : decode cX6_layCells 17 = .ok (.if_icmp .ge 109, 3) := dk_162 0 109 (dk_at dksX6_layCells_0 17 rfl rfl)
theorem dX6_layCells_20 : decode cX6_layCells 20 = .ok (.aload_n 1, 1) := dk_43 (dk_at dksX6_layCells_0 20 rfl rfl)
theorem dX6_layCells_21 : decode cX6_layCells 21 = .ok (.iload 7, 2) := dk_21 7 (dk_at dksX6_layCells_0 21 rfl rfl)
theorem dX6_layCells_23 : decode cX6_layCells 23 = .ok (.invokeinterface 23 2, 5) := by decide +kernel
theorem dX6_layCells_28 : decode cX6_layCells 28 = .ok (.checkcast 29, 3) := dk_192 0 29 (dk_at dksX6_layCells_1 5 rfl rfl)
theorem dX6_layCells_31 : decode cX6_layCells 31 = .ok (.astore 8, 2) := dk_58 8 (dk_at dksX6_layCells_1 8 rfl rfl)
theorem dX6_layCells_33 : decode cX6_layCells 33 = .ok (.aload 8, 2) := dk_25 8 (dk_at dksX6_layCells_1 10 rfl rfl)
theorem dX6_layCells_35 : decode cX6_layCells 35 = .ok (.invokevirtual 187, 3) := dk_182 0 187 (dk_at dksX6_layCells_1 12 rfl rfl)
theorem dX6_layCells_38 : decode cX6_layCells 38 = .ok (.iconst (-1), 1) := dk_2 (dk_at dksX6_layCells_1 15 rfl rfl)
theorem dX6_layCells_39 : decode cX6_layCells 39 = .ok (.if_icmp .eq 11, 3) := dk_159 0 11 (dk_at dksX6_layCells_1 16 rfl rfl)
theorem dX6_layCells_42 : decode cX6_layCells 42 = .ok (.aload 8, 2) := dk_25 8 (dk_at dksX6_layCells_1 19 rfl rfl)
theorem dX6_layCells_44 : decode cX6_layCells 44 = .ok (.invokevirtual 187, 3) := dk_182 0 187 (dk_at dksX6_layCells_1 21 rfl rfl)
theorem dX6_layCells_47 : decode cX6_layCells 47 = .ok (.goto 23, 3) := dk_167 0 23 (dk_at dksX6_layCells_2 0 rfl rfl)
theorem dX6_layCells_50 : decode cX6_layCells 50 = .ok (.iconst 2, 1) := dk_5 (dk_at dksX6_layCells_2 3 rfl rfl)
theorem dX6_layCells_51 : decode cX6_layCells 51 = .ok (.aload 8, 2) := dk_25 8 (dk_at dksX6_layCells_2 4 rfl rfl)
theorem dX6_layCells_53 : decode cX6_layCells 53 = .ok (.getfield 117, 3) := dk_180 0 117 (dk_at dksX6_layCells_2 6 rfl rfl)
theorem dX6_layCells_56 : decode cX6_layCells 56 = .ok (.imul, 1) := dk_104 (dk_at dksX6_layCells_2 9 rfl rfl)
theorem dX6_layCells_57 : decode cX6_layCells 57 = .ok (.aload_n 2, 1) := dk_44 (dk_at dksX6_layCells_2 10 rfl rfl)
theorem dX6_layCells_58 : decode cX6_layCells 58 = .ok (.iload 7, 2) := dk_21 7 (dk_at dksX6_layCells_2 11 rfl rfl)
theorem dX6_layCells_60 : decode cX6_layCells 60 = .ok (.iaload, 1) := dk_46 (dk_at dksX6_layCells_2 13 rfl rfl)
theorem dX6_layCells_61 : decode cX6_layCells 61 = .ok (.aload 8, 2) := dk_25 8 (dk_at dksX6_layCells_2 14 rfl rfl)
theorem dX6_layCells_63 : decode cX6_layCells 63 = .ok (.invokevirtual 144, 3) := dk_182 0 144 (dk_at dksX6_layCells_2 16 rfl rfl)
theorem dX6_layCells_66 : decode cX6_layCells 66 = .ok (.isub, 1) := dk_100 (dk_at dksX6_layCells_2 19 rfl rfl)
theorem dX6_layCells_67 : decode cX6_layCells 67 = .ok (.invokestatic 75, 3) := dk_184 0 75 (dk_at dksX6_layCells_2 20 rfl rfl)
theorem dX6_layCells_70 : decode cX6_layCells 70 = .ok (.istore 9, 2) := dk_54 9 (dk_at dksX6_layCells_3 0 rfl rfl)
theorem dX6_layCells_72 : decode cX6_layCells 72 = .ok (.aload_n 0, 1) := dk_42 (dk_at dksX6_layCells_3 2 rfl rfl)
theorem dX6_layCells_73 : decode cX6_layCells 73 = .ok (.aload 8, 2) := dk_25 8 (dk_at dksX6_layCells_3 3 rfl rfl)
theorem dX6_layCells_75 : decode cX6_layCells 75 = .ok (.iload 9, 2) := dk_21 9 (dk_at dksX6_layCells_3 5 rfl rfl)
theorem dX6_layCells_77 : decode cX6_layCells 77 = .ok (.invokevirtual 31, 3) := dk_182 0 31 (dk_at dksX6_layCells_3 7 rfl rfl)
theorem dX6_layCells_80 : decode cX6_layCells 80 = .ok (.aload_n 0, 1) := dk_42 (dk_at dksX6_layCells_3 10 rfl rfl)
theorem dX6_layCells_81 : decode cX6_layCells 81 = .ok (.aload 8, 2) := dk_25 8 (dk_at dksX6_layCells_3 11 rfl rfl)
theorem dX6_layCells_83 : decode cX6_layCells 83 = .ok (.iload 6, 2) := dk_21 6 (dk_at dksX6_layCells_3 13 rfl rfl)
theorem dX6_layCells_85 : decode cX6_layCells 85 = .ok (.iload 4, 2) := dk_21 4 (dk_at dksX6_layCells_3 15 rfl rfl)
theorem dX6_layCells_87 : decode cX6_layCells 87 = .ok (.invokevirtual 154, 3) := dk_182 0 154 (dk_at dksX6_layCells_3 17 rfl rfl)
theorem dX6_layCells_90 : decode cX6_layCells 90 = .ok (.iload 6, 2) := dk_21 6 (dk_at dksX6_layCells_3 20 rfl rfl)
theorem dX6_layCells_92 : decode cX6_layCells 92 = .ok (.aload_n 2, 1) := dk_44 (dk_at dksX6_layCells_3 22 rfl rfl)
theorem dX6_layCells_93 : decode cX6_layCells 93 = .ok (.iload 7, 2) := dk_21 7 (dk_at dksX6_layCells_4 0 rfl rfl)
theorem dX6_layCells_95 : decode cX6_layCells 95 = .ok (.iaload, 1) := dk_46 (dk_at dksX6_layCells_4 2 rfl rfl)
theorem dX6_layCells_96 : decode cX6_layCells 96 = .ok (.iadd, 1) := dk_96 (dk_at dksX6_layCells_4 3 rfl rfl)
theorem dX6_layCells_97 : decode cX6_layCells 97 = .ok (.istore 6, 2) := dk_54 6 (dk_at dksX6_layCells_4 4 rfl rfl)
theorem dX6_layCells_99 : decode cX6_layCells 99 = .ok (.iload 5, 2) := dk_21 5 (dk_at dksX6_layCells_4 6 rfl rfl)
theorem dX6_layCells_101 : decode cX6_layCells 101 = .ok (.aload 8, 2) := dk_25 8 (dk_at dksX6_layCells_4 8 rfl rfl)
theorem dX6_layCells_103 : decode cX6_layCells 103 = .ok (.getfield 52, 3) := dk_180 0 52 (dk_at dksX6_layCells_4 10 rfl rfl)
theorem dX6_layCells_106 : decode cX6_layCells 106 = .ok (.getfield 91, 3) := dk_180 0 91 (dk_at dksX6_layCells_4 13 rfl rfl)
theorem dX6_layCells_109 : decode cX6_layCells 109 = .ok (.aload 8, 2) := dk_25 8 (dk_at dksX6_layCells_4 16 rfl rfl)
theorem dX6_layCells_111 : decode cX6_layCells 111 = .ok (.invokevirtual 120, 3) := dk_182 0 120 (dk_at dksX6_layCells_4 18 rfl rfl)
theorem dX6_layCells_114 : decode cX6_layCells 114 = .ok (.iadd, 1) := dk_96 (dk_at dksX6_layCells_4 21 rfl rfl)
theorem dX6_layCells_115 : decode cX6_layCells 115 = .ok (.invokestatic 75, 3) := dk_184 0 75 (dk_at dksX6_layCells_5 0 rfl rfl)
theorem dX6_layCells_118 : decode cX6_layCells 118 = .ok (.istore 5, 2) := dk_54 5 (dk_at dksX6_layCells_5 3 rfl rfl)
theorem dX6_layCells_120 : decode cX6_layCells 120 = .ok (.iinc 7 1, 3) := dk_132 7 1 (dk_at dksX6_layCells_5 5 rfl rfl)
theorem dX6_layCells_123 : decode cX6_layCells 123 = .ok (.goto (-114), 3) := dk_167 255 142 (dk_at dksX6_layCells_5 8 rfl rfl)
theorem dX6_layCells_126 : decode cX6_layCells 126 = .ok (.aload_n 1, 1) := dk_43 (dk_at dksX6_layCells_5 11 rfl rfl)
theorem dX6_layCells_127 : decode cX6_layCells 127 = .ok (.invokeinterface 35 1, 5) := by decide +kernel
theorem dX6_layCells_132 : decode cX6_layCells 132 = .ok (.astore 7, 2) := dk_58 7 (dk_at dksX6_layCells_5 17 rfl rfl)
theorem dX6_layCells_134 : decode cX6_layCells 134 = .ok (.aload 7, 2) := dk_25 7 (dk_at dksX6_layCells_5 19 rfl rfl)
theorem dX6_layCells_136 : decode cX6_layCells 136 = .ok (.invokeinterface 39 1, 5) := by decide +kernel
theorem dX6_layCells_141 : decode cX6_layCells 141 = .ok (.ifCond .eq 26, 3) := dk_153 0 26 (dk_at dksX6_layCells_6 5 rfl rfl)
theorem dX6_layCells_144 : decode cX6_layCells 144 = .ok (.aload 7, 2) := dk_25 7 (dk_at dksX6_layCells_6 8 rfl rfl)
theorem dX6_layCells_146 : decode cX6_layCells 146 = .ok (.invokeinterface 45 1, 5) := by decide +kernel
theorem dX6_layCells_151 : decode cX6_layCells 151 = .ok (.checkcast 29, 3) := dk_192 0 29 (dk_at dksX6_layCells_6 15 rfl rfl)
theorem dX6_layCells_154 : decode cX6_layCells 154 = .ok (.astore 8, 2) := dk_58 8 (dk_at dksX6_layCells_6 18 rfl rfl)
theorem dX6_layCells_156 : decode cX6_layCells 156 = .ok (.aload_n 0, 1) := dk_42 (dk_at dksX6_layCells_6 20 rfl rfl)
theorem dX6_layCells_157 : decode cX6_layCells 157 = .ok (.aload 8, 2) := dk_25 8 (dk_at dksX6_layCells_6 21 rfl rfl)
theorem dX6_layCells_159 : decode cX6_layCells 159 = .ok (.iload 5, 2) := dk_21 5 (dk_at dksX6_layCells_7 0 rfl rfl)
theorem dX6_layCells_161 : decode cX6_layCells 161 = .ok (.invokevirtual 158, 3) := dk_182 0 158 (dk_at dksX6_layCells_7 2 rfl rfl)
theorem dX6_layCells_164 : decode cX6_layCells 164 = .ok (.goto (-30), 3) := dk_167 255 226 (dk_at dksX6_layCells_7 5 rfl rfl)
theorem dX6_layCells_167 : decode cX6_layCells 167 = .ok (.iload 5, 2) := dk_21 5 (dk_at dksX6_layCells_7 8 rfl rfl)
theorem dX6_layCells_169 : decode cX6_layCells 169 = .ok (.ireturn, 1) := dk_172 (dk_at dksX6_layCells_7 10 rfl rfl)
theorem q83 : (Jvm.Cond.initialized "ColumnarPress$Layout") ∈ lw_all := lw_g (lw_at lw_m1 31 rfl) rfl
theorem q189 : (Jvm.Cond.fieldLinkNest "ColumnarPress$Layout" (56 : Nat) "ColumnarPress$Placed" "x" "I" "ColumnarPress") ∈ lw_tbl := lw_at lw_m1 137 rfl
theorem q193 : (Jvm.Cond.fieldLinkNest "ColumnarPress$Layout" (62 : Nat) "ColumnarPress$Placed" "y" "I" "ColumnarPress") ∈ lw_tbl := lw_at lw_m1 141 rfl
theorem q198 : (Jvm.Cond.fieldLinkNest "ColumnarPress$Layout" (69 : Nat) "ColumnarPress$Placed" "width" "I" "ColumnarPress") ∈ lw_tbl := lw_at lw_m1 146 rfl
theorem q204 : (Jvm.Cond.fieldLinkNest "ColumnarPress$Layout" (91 : Nat) "ColumnarPress$Placed" "height" "I" "ColumnarPress") ∈ lw_tbl := lw_at lw_m1 152 rfl
theorem q207 : (Jvm.Cond.fieldLinkNest "ColumnarPress$Layout" (88 : Nat) "ColumnarPress$Placed" "natural" "I" "ColumnarPress") ∈ lw_tbl := lw_at lw_m1 155 rfl
theorem q231 : (Jvm.Cond.fieldLinkNest "ColumnarPress$Layout" (97 : Nat) "ColumnarPress$Box" "kind" "C" "ColumnarPress") ∈ lw_tbl := lw_at lw_m1 179 rfl
theorem q246 : (Jvm.Cond.fieldLinkNest "ColumnarPress$Layout" (116 : Nat) "ColumnarPress$Box" "height" "I" "ColumnarPress") ∈ lw_tbl := lw_at lw_m1 194 rfl
theorem q253 : (Jvm.Cond.fieldLinkNest "ColumnarPress$Layout" (124 : Nat) "ColumnarPress$Box" "left" "I" "ColumnarPress") ∈ lw_tbl := lw_at lw_m1 201 rfl
theorem q259 : (Jvm.Cond.fieldLinkNest "ColumnarPress$Layout" (117 : Nat) "ColumnarPress$Box" "padding" "I" "ColumnarPress") ∈ lw_tbl := lw_at lw_m1 207 rfl
theorem q262 : (Jvm.Cond.fieldLinkNest "ColumnarPress$Layout" (164 : Nat) "ColumnarPress$Box" "grow" "I" "ColumnarPress") ∈ lw_tbl := lw_at lw_m1 210 rfl
theorem q265 : (Jvm.Cond.fieldLinkNest "ColumnarPress$Layout" (169 : Nat) "ColumnarPress$Box" "shrink" "I" "ColumnarPress") ∈ lw_tbl := lw_at lw_m1 213 rfl
theorem q274 : (Jvm.Cond.fieldLinkNest "ColumnarPress$Layout" (72 : Nat) "ColumnarPress$Box" "offsetX" "I" "ColumnarPress") ∈ lw_tbl := lw_at lw_m1 222 rfl
theorem q290 : (Jvm.Cond.fieldLinkNest "ColumnarPress$Layout" (52 : Nat) "ColumnarPress$Box" "placed" "LColumnarPress$Placed;" "ColumnarPress") ∈ lw_tbl := lw_at lw_m1 238 rfl
theorem q294 : (Jvm.Cond.fieldLinkNest "ColumnarPress$Layout" (85 : Nat) "ColumnarPress$Box" "keptWidth" "I" "ColumnarPress") ∈ lw_tbl := lw_at lw_m2 2 rfl
theorem q393 : (Jvm.Cond.selects "ColumnarPress$Layout" ({ cls := "java/lang/Object", name := "getClass", desc := "()Ljava/lang/Class;" } : Jvm.MethodName) ({ cls := "java/lang/Object", name := "getClass", desc := "()Ljava/lang/Class;" } : Jvm.MethodName)) ∈ lw_all := lw_g (lw_at lw_m2 101 rfl) rfl
theorem q809 : (Jvm.Cond.fieldLinkNest "ColumnarPress$Layout" (19 : Nat) "ColumnarPress" "boxes" "Ljava/util/List;" "ColumnarPress") ∈ lw_tbl := lw_at lw_m4 37 rfl
theorem q1082 : (Jvm.Cond.instantiable "ColumnarPress$Layout" (3 : Nat)) ∈ lw_all := lw_g (lw_at lw_m5 70 rfl) rfl
theorem q1084 : (Jvm.Cond.instanceMethod ({ cls := "ColumnarPress$Layout", name := "<init>", desc := "(LColumnarPress;Z)V" } : Jvm.MethodName)) ∈ lw_all := lw_g (lw_at lw_m5 72 rfl) rfl
theorem q1085 : (Jvm.Cond.code ({ cls := "ColumnarPress$Layout", name := "<init>", desc := "(LColumnarPress;Z)V" } : Jvm.MethodName) prog_6_method_1_code (3 : Nat) (Option.none : Option Jvm.ClassFile.FieldType)) ∈ lw_all := lw_g (lw_at lw_m5 73 rfl) rfl
theorem q1086 : (Jvm.Cond.methodLink "ColumnarPress$Layout" (9 : Nat) ({ cls := "java/lang/Object", name := "<init>", desc := "()V" } : Jvm.MethodName)) ∈ lw_all := lw_g (lw_at lw_m5 74 rfl) rfl
theorem q1087 : (Jvm.Cond.fieldLink "ColumnarPress$Layout" (15 : Nat) "ColumnarPress$Layout" "isChecking" "Z") ∈ lw_all := lw_g (lw_at lw_m5 75 rfl) rfl
theorem q1088 : (Jvm.Cond.fieldLink "ColumnarPress$Layout" (94 : Nat) "ColumnarPress$Layout" "count" "I") ∈ lw_all := lw_g (lw_at lw_m5 76 rfl) rfl
theorem q1090 : (Jvm.Cond.fieldLink "ColumnarPress$Layout" (3 : Nat) "ColumnarPress$Layout" "this$0" "LColumnarPress;") ∈ lw_all := lw_g (lw_at lw_m5 78 rfl) rfl
theorem q1091 : (Jvm.Cond.laysFinal "ColumnarPress$Layout" "ColumnarPress$Layout" "isChecking" "Z") ∈ lw_all := lw_g (lw_at lw_m5 79 rfl) rfl
theorem q1092 : (Jvm.Cond.soleField "ColumnarPress$Layout" "isChecking") ∈ lw_all := lw_g (lw_at lw_m5 80 rfl) rfl
theorem q1093 : (Jvm.Cond.lays "ColumnarPress$Layout" "ColumnarPress$Layout" "count" "I") ∈ lw_all := lw_g (lw_at lw_m5 81 rfl) rfl
theorem q1094 : (Jvm.Cond.soleField "ColumnarPress$Layout" "count") ∈ lw_all := lw_g (lw_at lw_m5 82 rfl) rfl
theorem q1095 : (Jvm.Cond.laysFinal "ColumnarPress$Layout" "ColumnarPress$Layout" "this$0" "LColumnarPress;") ∈ lw_all := lw_g (lw_at lw_m5 83 rfl) rfl
theorem q1096 : (Jvm.Cond.soleField "ColumnarPress$Layout" "this$0") ∈ lw_all := lw_g (lw_at lw_m5 84 rfl) rfl
theorem q1097 : (Jvm.Cond.superclass "ColumnarPress$Layout" "java/lang/Object") ∈ lw_all := lw_g (lw_at lw_m5 85 rfl) rfl
theorem q1099 : (Jvm.Cond.instanceMethod ({ cls := "ColumnarPress$Layout", name := "layAll", desc := "(I)V" } : Jvm.MethodName)) ∈ lw_all := lw_g (lw_at lw_m5 87 rfl) rfl
theorem q1100 : (Jvm.Cond.selects "ColumnarPress$Layout" ({ cls := "ColumnarPress$Layout", name := "layAll", desc := "(I)V" } : Jvm.MethodName) ({ cls := "ColumnarPress$Layout", name := "layAll", desc := "(I)V" } : Jvm.MethodName)) ∈ lw_all := lw_g (lw_at lw_m5 88 rfl) rfl
theorem q1101 : (Jvm.Cond.code ({ cls := "ColumnarPress$Layout", name := "layAll", desc := "(I)V" } : Jvm.MethodName) prog_6_method_2_code (5 : Nat) (Option.none : Option Jvm.ClassFile.FieldType)) ∈ lw_all := lw_g (lw_at lw_m5 89 rfl) rfl
theorem q1102 : (Jvm.Cond.interfaceEntry "ColumnarPress$Layout" (23 : Nat)) ∈ lw_tbl := lw_at lw_m5 90 rfl
theorem q1103 : (Jvm.Cond.methodLink "ColumnarPress$Layout" (23 : Nat) ({ cls := "java/util/List", name := "get", desc := "(I)Ljava/lang/Object;" } : Jvm.MethodName)) ∈ lw_all := lw_g (lw_at lw_m5 91 rfl) rfl
theorem q1112 : (Jvm.Cond.classLink "ColumnarPress$Layout" (29 : Nat) "ColumnarPress$Box") ∈ lw_all := lw_g (lw_at lw_m5 100 rfl) rfl
theorem q1113 : (Jvm.Cond.methodLink "ColumnarPress$Layout" (31 : Nat) ({ cls := "ColumnarPress$Layout", name := "lay", desc := "(LColumnarPress$Box;I)V" } : Jvm.MethodName)) ∈ lw_all := lw_g (lw_at lw_m5 101 rfl) rfl
theorem q1114 : (Jvm.Cond.privateMethod ({ cls := "ColumnarPress$Layout", name := "lay", desc := "(LColumnarPress$Box;I)V" } : Jvm.MethodName)) ∈ lw_tbl := lw_at lw_m5 102 rfl
theorem q1115 : (Jvm.Cond.instanceMethod ({ cls := "ColumnarPress$Layout", name := "lay", desc := "(LColumnarPress$Box;I)V" } : Jvm.MethodName)) ∈ lw_all := lw_g (lw_at lw_m5 103 rfl) rfl
theorem q1116 : (Jvm.Cond.code ({ cls := "ColumnarPress$Layout", name := "lay", desc := "(LColumnarPress$Box;I)V" } : Jvm.MethodName) prog_6_method_3_code (4 : Nat) (Option.none : Option Jvm.ClassFile.FieldType)) ∈ lw_all := lw_g (lw_at lw_m5 104 rfl) rfl
theorem q1117 : (Jvm.Cond.methodLink "ColumnarPress$Layout" (101 : Nat) ({ cls := "ColumnarPress$Layout", name := "layRow", desc := "(LColumnarPress$Box;)V" } : Jvm.MethodName)) ∈ lw_all := lw_g (lw_at lw_m5 105 rfl) rfl
theorem q1118 : (Jvm.Cond.privateMethod ({ cls := "ColumnarPress$Layout", name := "layRow", desc := "(LColumnarPress$Box;)V" } : Jvm.MethodName)) ∈ lw_tbl := lw_at lw_m5 106 rfl
theorem q1119 : (Jvm.Cond.instanceMethod ({ cls := "ColumnarPress$Layout", name := "layRow", desc := "(LColumnarPress$Box;)V" } : Jvm.MethodName)) ∈ lw_all := lw_g (lw_at lw_m5 107 rfl) rfl
theorem q1120 : (Jvm.Cond.code ({ cls := "ColumnarPress$Layout", name := "layRow", desc := "(LColumnarPress$Box;)V" } : Jvm.MethodName) prog_6_method_7_code (9 : Nat) (Option.none : Option Jvm.ClassFile.FieldType)) ∈ lw_all := lw_g (lw_at lw_m5 108 rfl) rfl
theorem q1121 : (Jvm.Cond.methodLinkNest "ColumnarPress$Layout" (130 : Nat) ({ cls := "ColumnarPress", name := "items", desc := "(LColumnarPress$Box;)Ljava/util/List;" } : Jvm.MethodName) "ColumnarPress") ∈ lw_tbl := lw_at lw_m5 109 rfl
theorem q1132 : (Jvm.Cond.interfaceEntry "ColumnarPress$Layout" (134 : Nat)) ∈ lw_tbl := lw_at lw_m5 120 rfl
theorem q1133 : (Jvm.Cond.methodLink "ColumnarPress$Layout" (134 : Nat) ({ cls := "java/util/List", name := "size", desc := "()I" } : Jvm.MethodName)) ∈ lw_all := lw_g (lw_at lw_m5 121 rfl) rfl
theorem q1134 : (Jvm.Cond.methodLink "ColumnarPress$Layout" (137 : Nat) ({ cls := "ColumnarPress$Box", name := "inner", desc := "()I" } : Jvm.MethodName)) ∈ lw_all := lw_g (lw_at lw_m5 122 rfl) rfl
theorem q1139 : (Jvm.Cond.methodLinkNest "ColumnarPress$Layout" (140 : Nat) ({ cls := "ColumnarPress", name := "contentWidth", desc := "(LColumnarPress$Box;Z)I" } : Jvm.MethodName) "ColumnarPress") ∈ lw_tbl := lw_at lw_m5 127 rfl
theorem q1181 : (Jvm.Cond.methodLink "ColumnarPress$Layout" (144 : Nat) ({ cls := "ColumnarPress$Box", name := "sides", desc := "()I" } : Jvm.MethodName)) ∈ lw_all := lw_g (lw_at lw_m5 169 rfl) rfl
theorem q1182 : (Jvm.Cond.methodLink "ColumnarPress$Layout" (147 : Nat) ({ cls := "ColumnarPress$Layout", name := "grow", desc := "(Ljava/util/List;[II)V" } : Jvm.MethodName)) ∈ lw_all := lw_g (lw_at lw_m5 170 rfl) rfl
theorem q1183 : (Jvm.Cond.privateMethod ({ cls := "ColumnarPress$Layout", name := "grow", desc := "(Ljava/util/List;[II)V" } : Jvm.MethodName)) ∈ lw_tbl := lw_at lw_m5 171 rfl
theorem q1184 : (Jvm.Cond.instanceMethod ({ cls := "ColumnarPress$Layout", name := "grow", desc := "(Ljava/util/List;[II)V" } : Jvm.MethodName)) ∈ lw_all := lw_g (lw_at lw_m5 172 rfl) rfl
theorem q1185 : (Jvm.Cond.code ({ cls := "ColumnarPress$Layout", name := "grow", desc := "(Ljava/util/List;[II)V" } : Jvm.MethodName) prog_6_method_8_code (8 : Nat) (Option.none : Option Jvm.ClassFile.FieldType)) ∈ lw_all := lw_g (lw_at lw_m5 173 rfl) rfl
theorem q1186 : (Jvm.Cond.interfaceEntry "ColumnarPress$Layout" (35 : Nat)) ∈ lw_tbl := lw_at lw_m5 174 rfl
theorem q1187 : (Jvm.Cond.methodLink "ColumnarPress$Layout" (35 : Nat) ({ cls := "java/util/List", name := "iterator", desc := "()Ljava/util/Iterator;" } : Jvm.MethodName)) ∈ lw_all := lw_g (lw_at lw_m5 175 rfl) rfl
theorem q1188 : (Jvm.Cond.interfaceEntry "ColumnarPress$Layout" (39 : Nat)) ∈ lw_tbl := lw_at lw_m5 176 rfl
theorem q1189 : (Jvm.Cond.methodLink "ColumnarPress$Layout" (39 : Nat) ({ cls := "java/util/Iterator", name := "hasNext", desc := "()Z" } : Jvm.MethodName)) ∈ lw_all := lw_g (lw_at lw_m5 177 rfl) rfl
theorem q1190 : (Jvm.Cond.interfaceEntry "ColumnarPress$Layout" (45 : Nat)) ∈ lw_tbl := lw_at lw_m5 178 rfl
theorem q1191 : (Jvm.Cond.methodLink "ColumnarPress$Layout" (45 : Nat) ({ cls := "java/util/Iterator", name := "next", desc := "()Ljava/lang/Object;" } : Jvm.MethodName)) ∈ lw_all := lw_g (lw_at lw_m5 179 rfl) rfl
theorem q1192 : (Jvm.Cond.methodLink "ColumnarPress$Layout" (151 : Nat) ({ cls := "ColumnarPress$Layout", name := "shrink", desc := "(Ljava/util/List;[II)V" } : Jvm.MethodName)) ∈ lw_all := lw_g (lw_at lw_m5 180 rfl) rfl
theorem q1193 : (Jvm.Cond.privateMethod ({ cls := "ColumnarPress$Layout", name := "shrink", desc := "(Ljava/util/List;[II)V" } : Jvm.MethodName)) ∈ lw_tbl := lw_at lw_m5 181 rfl
theorem q1194 : (Jvm.Cond.instanceMethod ({ cls := "ColumnarPress$Layout", name := "shrink", desc := "(Ljava/util/List;[II)V" } : Jvm.MethodName)) ∈ lw_all := lw_g (lw_at lw_m5 182 rfl) rfl
theorem q1195 : (Jvm.Cond.code ({ cls := "ColumnarPress$Layout", name := "shrink", desc := "(Ljava/util/List;[II)V" } : Jvm.MethodName) prog_6_method_9_code (12 : Nat) (Option.none : Option Jvm.ClassFile.FieldType)) ∈ lw_all := lw_g (lw_at lw_m5 183 rfl) rfl
theorem q1196 : (Jvm.Cond.methodLink "ColumnarPress$Layout" (166 : Nat) ({ cls := "java/lang/Math", name := "min", desc := "(II)I" } : Jvm.MethodName)) ∈ lw_all := lw_g (lw_at lw_m5 184 rfl) rfl
theorem q1197 : (Jvm.Cond.methodLink "ColumnarPress$Layout" (171 : Nat) ({ cls := "ColumnarPress$Layout", name := "lose", desc := "(Ljava/util/List;[I[Z[III)V" } : Jvm.MethodName)) ∈ lw_all := lw_g (lw_at lw_m5 185 rfl) rfl
theorem q1198 : (Jvm.Cond.privateMethod ({ cls := "ColumnarPress$Layout", name := "lose", desc := "(Ljava/util/List;[I[Z[III)V" } : Jvm.MethodName)) ∈ lw_tbl := lw_at lw_m5 186 rfl
theorem q1199 : (Jvm.Cond.instanceMethod ({ cls := "ColumnarPress$Layout", name := "lose", desc := "(Ljava/util/List;[I[Z[III)V" } : Jvm.MethodName)) ∈ lw_all := lw_g (lw_at lw_m5 187 rfl) rfl
theorem q1200 : (Jvm.Cond.code ({ cls := "ColumnarPress$Layout", name := "lose", desc := "(Ljava/util/List;[I[Z[III)V" } : Jvm.MethodName) prog_6_method_10_code (12 : Nat) (Option.none : Option Jvm.ClassFile.FieldType)) ∈ lw_all := lw_g (lw_at lw_m5 188 rfl) rfl
theorem q1201 : (Jvm.Cond.methodLink "ColumnarPress$Layout" (154 : Nat) ({ cls := "ColumnarPress$Layout", name := "put", desc := "(LColumnarPress$Box;II)V" } : Jvm.MethodName)) ∈ lw_all := lw_g (lw_at lw_m5 189 rfl) rfl
theorem q1202 : (Jvm.Cond.privateMethod ({ cls := "ColumnarPress$Layout", name := "put", desc := "(LColumnarPress$Box;II)V" } : Jvm.MethodName)) ∈ lw_tbl := lw_at lw_m5 190 rfl
theorem q1203 : (Jvm.Cond.instanceMethod ({ cls := "ColumnarPress$Layout", name := "put", desc := "(LColumnarPress$Box;II)V" } : Jvm.MethodName)) ∈ lw_all := lw_g (lw_at lw_m5 191 rfl) rfl
theorem q1204 : (Jvm.Cond.code ({ cls := "ColumnarPress$Layout", name := "put", desc := "(LColumnarPress$Box;II)V" } : Jvm.MethodName) prog_6_method_6_code (4 : Nat) (Option.none : Option Jvm.ClassFile.FieldType)) ∈ lw_all := lw_g (lw_at lw_m5 192 rfl) rfl
theorem q1205 : (Jvm.Cond.methodLink "ColumnarPress$Layout" (127 : Nat) ({ cls := "ColumnarPress$Box", name := "upper", desc := "()I" } : Jvm.MethodName)) ∈ lw_all := lw_g (lw_at lw_m5 193 rfl) rfl
theorem q1230 : (Jvm.Cond.methodLink "ColumnarPress$Layout" (120 : Nat) ({ cls := "ColumnarPress$Box", name := "ends", desc := "()I" } : Jvm.MethodName)) ∈ lw_all := lw_g (lw_at lw_m5 218 rfl) rfl
theorem q1239 : (Jvm.Cond.methodLink "ColumnarPress$Layout" (75 : Nat) ({ cls := "java/lang/Math", name := "max", desc := "(II)I" } : Jvm.MethodName)) ∈ lw_all := lw_g (lw_at lw_m5 227 rfl) rfl
theorem q1240 : (Jvm.Cond.methodLink "ColumnarPress$Layout" (158 : Nat) ({ cls := "ColumnarPress$Layout", name := "stretch", desc := "(LColumnarPress$Box;I)V" } : Jvm.MethodName)) ∈ lw_all := lw_g (lw_at lw_m5 228 rfl) rfl
theorem q1241 : (Jvm.Cond.privateMethod ({ cls := "ColumnarPress$Layout", name := "stretch", desc := "(LColumnarPress$Box;I)V" } : Jvm.MethodName)) ∈ lw_tbl := lw_at lw_m5 229 rfl
theorem q1242 : (Jvm.Cond.instanceMethod ({ cls := "ColumnarPress$Layout", name := "stretch", desc := "(LColumnarPress$Box;I)V" } : Jvm.MethodName)) ∈ lw_all := lw_g (lw_at lw_m5 230 rfl) rfl
theorem q1243 : (Jvm.Cond.code ({ cls := "ColumnarPress$Layout", name := "stretch", desc := "(LColumnarPress$Box;I)V" } : Jvm.MethodName) prog_6_method_5_code (3 : Nat) (Option.none : Option Jvm.ClassFile.FieldType)) ∈ lw_all := lw_g (lw_at lw_m5 231 rfl) rfl
theorem q1244 : (Jvm.Cond.methodLink "ColumnarPress$Layout" (161 : Nat) ({ cls := "ColumnarPress$Layout", name := "setHeight", desc := "(LColumnarPress$Box;I)V" } : Jvm.MethodName)) ∈ lw_all := lw_g (lw_at lw_m5 232 rfl) rfl
theorem q1245 : (Jvm.Cond.privateMethod ({ cls := "ColumnarPress$Layout", name := "setHeight", desc := "(LColumnarPress$Box;I)V" } : Jvm.MethodName)) ∈ lw_tbl := lw_at lw_m5 233 rfl
theorem q1246 : (Jvm.Cond.instanceMethod ({ cls := "ColumnarPress$Layout", name := "setHeight", desc := "(LColumnarPress$Box;I)V" } : Jvm.MethodName)) ∈ lw_all := lw_g (lw_at lw_m5 234 rfl) rfl
theorem q1247 : (Jvm.Cond.code ({ cls := "ColumnarPress$Layout", name := "setHeight", desc := "(LColumnarPress$Box;I)V" } : Jvm.MethodName) prog_6_method_4_code (3 : Nat) (Option.none : Option Jvm.ClassFile.FieldType)) ∈ lw_all := lw_g (lw_at lw_m5 235 rfl) rfl
theorem q1248 : (Jvm.Cond.methodLink "ColumnarPress$Layout" (105 : Nat) ({ cls := "ColumnarPress$Layout", name := "layGrid", desc := "(LColumnarPress$Box;)V" } : Jvm.MethodName)) ∈ lw_all := lw_g (lw_at lw_m5 236 rfl) rfl
theorem q1249 : (Jvm.Cond.privateMethod ({ cls := "ColumnarPress$Layout", name := "layGrid", desc := "(LColumnarPress$Box;)V" } : Jvm.MethodName)) ∈ lw_tbl := lw_at lw_m5 237 rfl
theorem q1250 : (Jvm.Cond.instanceMethod ({ cls := "ColumnarPress$Layout", name := "layGrid", desc := "(LColumnarPress$Box;)V" } : Jvm.MethodName)) ∈ lw_all := lw_g (lw_at lw_m5 238 rfl) rfl
theorem q1251 : (Jvm.Cond.code ({ cls := "ColumnarPress$Layout", name := "layGrid", desc := "(LColumnarPress$Box;)V" } : Jvm.MethodName) prog_6_method_11_code (9 : Nat) (Option.none : Option Jvm.ClassFile.FieldType)) ∈ lw_all := lw_g (lw_at lw_m5 239 rfl) rfl
theorem q1252 : (Jvm.Cond.methodLinkNest "ColumnarPress$Layout" (175 : Nat) ({ cls := "ColumnarPress", name := "columnWidths", desc := "(LColumnarPress$Box;Z)[I" } : Jvm.MethodName) "ColumnarPress") ∈ lw_tbl := lw_at lw_m6 0 rfl
theorem q1253 : (Jvm.Cond.interfaceEntry "ColumnarPress$Layout" (179 : Nat)) ∈ lw_tbl := lw_at lw_m6 1 rfl
theorem q1254 : (Jvm.Cond.methodLink "ColumnarPress$Layout" (179 : Nat) ({ cls := "java/util/List", name := "subList", desc := "(II)Ljava/util/List;" } : Jvm.MethodName)) ∈ lw_all := lw_g (lw_at lw_m6 2 rfl) rfl
theorem q1315 : (Jvm.Cond.methodLink "ColumnarPress$Layout" (183 : Nat) ({ cls := "ColumnarPress$Layout", name := "layCells", desc := "(Ljava/util/List;[III)I" } : Jvm.MethodName)) ∈ lw_all := lw_g (lw_at lw_m6 63 rfl) rfl
theorem q1316 : (Jvm.Cond.privateMethod ({ cls := "ColumnarPress$Layout", name := "layCells", desc := "(Ljava/util/List;[III)I" } : Jvm.MethodName)) ∈ lw_tbl := lw_at lw_m6 64 rfl
theorem q1317 : (Jvm.Cond.instanceMethod ({ cls := "ColumnarPress$Layout", name := "layCells", desc := "(Ljava/util/List;[III)I" } : Jvm.MethodName)) ∈ lw_all := lw_g (lw_at lw_m6 65 rfl) rfl
theorem q1318 : (Jvm.Cond.code ({ cls := "ColumnarPress$Layout", name := "layCells", desc := "(Ljava/util/List;[III)I" } : Jvm.MethodName) prog_6_method_12_code (10 : Nat) (Option.some Jvm.ClassFile.FieldType.int)) ∈ lw_all := lw_g (lw_at lw_m6 66 rfl) rfl
theorem q1319 : (Jvm.Cond.methodLink "ColumnarPress$Layout" (187 : Nat) ({ cls := "ColumnarPress$Box", name := "told", desc := "()I" } : Jvm.MethodName)) ∈ lw_all := lw_g (lw_at lw_m6 67 rfl) rfl
theorem q1320 : (Jvm.Cond.classLink "ColumnarPress$Layout" (108 : Nat) "ColumnarPress$Context") ∈ lw_all := lw_g (lw_at lw_m6 68 rfl) rfl
theorem q1322 : (Jvm.Cond.methodLink "ColumnarPress$Layout" (110 : Nat) ({ cls := "ColumnarPress$Context", name := "<init>", desc := "(LColumnarPress;LColumnarPress$Layout;)V" } : Jvm.MethodName)) ∈ lw_all := lw_g (lw_at lw_m6 70 rfl) rfl
theorem q1338 : (Jvm.Cond.methodLink "ColumnarPress$Layout" (113 : Nat) ({ cls := "ColumnarPress$Context", name := "fill", desc := "(LColumnarPress$Box;)V" } : Jvm.MethodName)) ∈ lw_all := lw_g (lw_at lw_m6 86 rfl) rfl
theorem q1582 : (Jvm.Cond.methodLink "ColumnarPress$Layout" (49 : Nat) ({ cls := "ColumnarPress$Box", name := "isLifted", desc := "()Z" } : Jvm.MethodName)) ∈ lw_all := lw_g (lw_at lw_m7 90 rfl) rfl
theorem q1583 : (Jvm.Cond.methodLink "ColumnarPress$Layout" (65 : Nat) ({ cls := "ColumnarPress$Box", name := "holder", desc := "()LColumnarPress$Box;" } : Jvm.MethodName)) ∈ lw_all := lw_g (lw_at lw_m7 91 rfl) rfl
theorem q1587 : (Jvm.Cond.methodLinkNest "ColumnarPress$Layout" (81 : Nat) ({ cls := "ColumnarPress", name := "fitting", desc := "(LColumnarPress$Box;I)I" } : Jvm.MethodName) "ColumnarPress") ∈ lw_tbl := lw_at lw_m7 95 rfl
theorem q2701 : (Jvm.Cond.selects "ColumnarPress$Layout" ({ cls := "java/lang/Object", name := "equals", desc := "(Ljava/lang/Object;)Z" } : Jvm.MethodName) ({ cls := "java/lang/Object", name := "equals", desc := "(Ljava/lang/Object;)Z" } : Jvm.MethodName)) ∈ lw_all := lw_g (lw_at lw_m12 9 rfl) rfl
theorem q2857 : (Jvm.Cond.castable "ColumnarPress$Layout" "java/lang/Object") ∈ lw_tbl := lw_at lw_m12 165 rfl
theorem in_X6 : ∀ w ∈ wsX60, w ∈ lw_all := lw_in wsX60 [1091, 1093, 1095] (by decide +kernel) (by decide +kernel)
/-! ColumnarPress$Context -/
set_option maxRecDepth 100000
def RX7 : String := "ColumnarPress$Context"
def TX7 : u_T := fun k => match k with
  | 0 => ("ColumnarPress$Context", "layout", "LColumnarPress$Layout;", true)
  | 1 => ("ColumnarPress$Context", "floats", "Ljava/util/List;", true)
  | _ => ("ColumnarPress$Context", "this$0", "LColumnarPress;", true)
def tyX7 : Nat → FieldType := fun k => match k with
  | 0 => .object "ColumnarPress$Layout"
  | 1 => .object "java/util/List"
  | _ => .object "ColumnarPress"
abbrev wsX70 : List Cond := u_ws RX7 TX7 3
theorem nmX7 : ∀ a, a < 3 → ∀ b, b < 3 → a ≠ b → (TX7 a).2.1 ≠ (TX7 b).2.1 := by decide +kernel
theorem tyX7_ok : ∀ k, k < 3 → parseFieldDescriptor (TX7 k).2.2.1 = some (tyX7 k) := by decide +kernel
abbrev cX7_init : ByteArray := prog_3_method_1_code
def yX7_init : MethodName := ⟨RX7, "<init>", "(LColumnarPress;LColumnarPress$Layout;)V"⟩
def dkwX7_init_1 : List UInt8 := [181, 0, 22, 177]
abbrev dktX7_init_1 : List UInt8 := dkwX7_init_1 ++ []
def dkwX7_init_0 : List UInt8 := [42, 43, 181, 0, 3, 42, 183, 0, 9, 42, 187, 0, 15, 89, 183, 0, 17, 181, 0, 18, 42, 44]
abbrev dktX7_init_0 : List UInt8 := dkwX7_init_0 ++ dktX7_init_1
theorem dksX7_init_0 : cX7_init.data.toList.drop 0 = dktX7_init_0 := by decide +kernel
theorem dksX7_init_1 : cX7_init.data.toList.drop 22 = dktX7_init_1 := dk_seg dksX7_init_0 22 rfl rfl
theorem dX7_init_0 : decode cX7_init 0 = .ok (.aload_n 0, 1) := dk_42 (dk_at dksX7_init_0 0 rfl rfl)
theorem dX7_init_1 : decode cX7_init 1 = .ok (.aload_n 1, 1) := dk_43 (dk_at dksX7_init_0 1 rfl rfl)
theorem dX7_init_2 : decode cX7_init 2 = .ok (.putfield 3, 3) := dk_181 0 3 (dk_at dksX7_init_0 2 rfl rfl)
theorem dX7_init_5 : decode cX7_init 5 = .ok (.aload_n 0, 1) := dk_42 (dk_at dksX7_init_0 5 rfl rfl)
theorem dX7_init_6 : decode cX7_init 6 = .ok (.invokespecial 9, 3) := dk_183 0 9 (dk_at dksX7_init_0 6 rfl rfl)
theorem dX7_init_9 : decode cX7_init 9 = .ok (.aload_n 0, 1) := dk_42 (dk_at dksX7_init_0 9 rfl rfl)
theorem dX7_init_10 : decode cX7_init 10 = .ok (.new 15, 3) := dk_187 0 15 (dk_at dksX7_init_0 10 rfl rfl)
theorem dX7_init_13 : decode cX7_init 13 = .ok (.dup, 1) := dk_89 (dk_at dksX7_init_0 13 rfl rfl)
theorem dX7_init_14 : decode cX7_init 14 = .ok (.invokespecial 17, 3) := dk_183 0 17 (dk_at dksX7_init_0 14 rfl rfl)
theorem dX7_init_17 : decode cX7_init 17 = .ok (.putfield 18, 3) := dk_181 0 18 (dk_at dksX7_init_0 17 rfl rfl)
theorem dX7_init_20 : decode cX7_init 20 = .ok (.aload_n 0, 1) := dk_42 (dk_at dksX7_init_0 20 rfl rfl)
theorem dX7_init_21 : decode cX7_init 21 = .ok (.aload_n 2, 1) := dk_44 (dk_at dksX7_init_0 21 rfl rfl)
theorem dX7_init_22 : decode cX7_init 22 = .ok (.putfield 22, 3) := dk_181 0 22 (dk_at dksX7_init_1 0 rfl rfl)
theorem dX7_init_25 : decode cX7_init 25 = .ok (.return_, 1) := dk_177 (dk_at dksX7_init_1 3 rfl rfl)
abbrev cX7_fill : ByteArray := prog_3_method_2_code
def yX7_fill : MethodName := ⟨RX7, "fill", "(LColumnarPress$Box;)V"⟩
def dkwX7_fill_2 : List UInt8 := [180, 0, 48, 180, 0, 52, 42, 182, 0, 55, 43, 180, 0, 59, 96, 184, 0, 62, 181, 0, 52, 177]
abbrev dktX7_fill_2 : List UInt8 := dkwX7_fill_2 ++ []
def dkwX7_fill_1 : List UInt8 := [180, 0, 39, 2, 160, 0, 41, 42, 180, 0, 18, 185, 0, 43, 1, 0, 154, 0, 29, 43, 180, 0, 48, 43]
abbrev dktX7_fill_1 : List UInt8 := dkwX7_fill_1 ++ dktX7_fill_2
def dkwX7_fill_0 : List UInt8 := [43, 182, 0, 26, 153, 0, 11, 42, 43, 3, 3, 182, 0, 32, 177, 42, 43, 3, 3, 182, 0, 36, 43]
abbrev dktX7_fill_0 : List UInt8 := dkwX7_fill_0 ++ dktX7_fill_1
theorem dksX7_fill_0 : cX7_fill.data.toList.drop 0 = dktX7_fill_0 := by decide +kernel
theorem dksX7_fill_1 : cX7_fill.data.toList.drop 23 = dktX7_fill_1 := dk_seg dksX7_fill_0 23 rfl rfl
theorem dksX7_fill_2 : cX7_fill.data.toList.drop 47 = dktX7_fill_2 := dk_seg dksX7_fill_1 24 rfl rfl
theorem dX7_fill_0 : decode cX7_fill 0 = .ok (.aload_n 1, 1) := dk_43 (dk_at dksX7_fill_0 0 rfl rfl)
theorem dX7_fill_1 : decode cX7_fill 1 = .ok (.invokevirtual 26, 3) := dk_182 0 26 (dk_at dksX7_fill_0 1 rfl rfl)
theorem dX7_fill_4 : decode cX7_fill 4 = .ok (.ifCond .eq 11, 3) := dk_153 0 11 (dk_at dksX7_fill_0 4 rfl rfl)
theorem dX7_fill_7 : decode cX7_fill 7 = .ok (.aload_n 0, 1) := dk_42 (dk_at dksX7_fill_0 7 rfl rfl)
theorem dX7_fill_8 : decode cX7_fill 8 = .ok (.aload_n 1, 1) := dk_43 (dk_at dksX7_fill_0 8 rfl rfl)
theorem dX7_fill_9 : decode cX7_fill 9 = .ok (.iconst 0, 1) := dk_3 (dk_at dksX7_fill_0 9 rfl rfl)
theorem dX7_fill_10 : decode cX7_fill 10 = .ok (.iconst 0, 1) := dk_3 (dk_at dksX7_fill_0 10 rfl rfl)
theorem dX7_fill_11 : decode cX7_fill 11 = .ok (.invokevirtual 32, 3) := dk_182 0 32 (dk_at dksX7_fill_0 11 rfl rfl)
theorem dX7_fill_14 : decode cX7_fill 14 = .ok (.return_, 1) := dk_177 (dk_at dksX7_fill_0 14 rfl rfl)
theorem dX7_fill_15 : decode cX7_fill 15 = .ok (.aload_n 0, 1) := dk_42 (dk_at dksX7_fill_0 15 rfl rfl)
theorem dX7_fill_16 : decode cX7_fill 16 = .ok (.aload_n 1, 1) := dk_43 (dk_at dksX7_fill_0 16 rfl rfl)
theorem dX7_fill_17 : decode cX7_fill 17 = .ok (.iconst 0, 1) := dk_3 (dk_at dksX7_fill_0 17 rfl rfl)
theorem dX7_fill_18 : decode cX7_fill 18 = .ok (.iconst 0, 1) := dk_3 (dk_at dksX7_fill_0 18 rfl rfl)
theorem dX7_fill_19 : decode cX7_fill 19 = .ok (.invokevirtual 36, 3) := dk_182 0 36 (dk_at dksX7_fill_0 19 rfl rfl)
theorem dX7_fill_22 : decode cX7_fill 22 = .ok (.aload_n 1, 1) := dk_43 (dk_at dksX7_fill_0 22 rfl rfl)
theorem dX7_fill_23 : decode cX7_fill 23 = .ok (.getfield 39, 3) := dk_180 0 39 (dk_at dksX7_fill_1 0 rfl rfl)
theorem dX7_fill_26 : decode cX7_fill 26 = .ok (.iconst (-1), 1) := dk_2 (dk_at dksX7_fill_1 3 rfl rfl)
theorem dX7_fill_27 : decode cX7_fill 27 = .ok (.if_icmp .ne 41, 3) := dk_160 0 41 (dk_at dksX7_fill_1 4 rfl rfl)
theorem dX7_fill_30 : decode cX7_fill 30 = .ok (.aload_n 0, 1) := dk_42 (dk_at dksX7_fill_1 7 rfl rfl)
theorem dX7_fill_31 : decode cX7_fill 31 = .ok (.getfield 18, 3) := dk_180 0 18 (dk_at dksX7_fill_1 8 rfl rfl)
theorem dX7_fill_34 : decode cX7_fill 34 = .ok (.invokeinterface 43 1, 5) := by decide +kernel
theorem dX7_fill_39 : decode cX7_fill 39 = .ok (.ifCond .ne 29, 3) := dk_154 0 29 (dk_at dksX7_fill_1 16 rfl rfl)
theorem dX7_fill_42 : decode cX7_fill 42 = .ok (.aload_n 1, 1) := dk_43 (dk_at dksX7_fill_1 19 rfl rfl)
theorem dX7_fill_43 : decode cX7_fill 43 = .ok (.getfield 48, 3) := dk_180 0 48 (dk_at dksX7_fill_1 20 rfl rfl)
theorem dX7_fill_46 : decode cX7_fill 46 = .ok (.aload_n 1, 1) := dk_43 (dk_at dksX7_fill_1 23 rfl rfl)
theorem dX7_fill_47 : decode cX7_fill 47 = .ok (.getfield 48, 3) := dk_180 0 48 (dk_at dksX7_fill_2 0 rfl rfl)
theorem dX7_fill_50 : decode cX7_fill 50 = .ok (.getfield 52, 3) := dk_180 0 52 (dk_at dksX7_fill_2 3 rfl rfl)
theorem dX7_fill_53 : decode cX7_fill 53 = .ok (.aload_n 0, 1) := dk_42 (dk_at dksX7_fill_2 6 rfl rfl)
theorem dX7_fill_54 : decode cX7_fill 54 = .ok (.invokevirtual 55, 3) := dk_182 0 55 (dk_at dksX7_fill_2 7 rfl rfl)
theorem dX7_fill_57 : decode cX7_fill 57 = .ok (.aload_n 1, 1) := dk_43 (dk_at dksX7_fill_2 10 rfl rfl)
theorem dX7_fill_58 : decode cX7_fill 58 = .ok (.getfield 59, 3) := dk_180 0 59 (dk_at dksX7_fill_2 11 rfl rfl)
theorem dX7_fill_61 : decode cX7_fill 61 = .ok (.iadd, 1) := dk_96 (dk_at dksX7_fill_2 14 rfl rfl)
theorem dX7_fill_62 : decode cX7_fill 62 = .ok (.invokestatic 62, 3) := dk_184 0 62 (dk_at dksX7_fill_2 15 rfl rfl)
theorem dX7_fill_65 : decode cX7_fill 65 = .ok (.putfield 52, 3) := dk_181 0 52 (dk_at dksX7_fill_2 18 rfl rfl)
theorem dX7_fill_68 : decode cX7_fill 68 = .ok (.return_, 1) := dk_177 (dk_at dksX7_fill_2 21 rfl rfl)
abbrev cX7_layLines : ByteArray := prog_3_method_9_code
def yX7_layLines : MethodName := ⟨RX7, "layLines", "(LColumnarPress$Box;II)V"⟩
def dkwX7_layLines_5 : List UInt8 := [25, 4, 181, 0, 248, 42, 180, 0, 22, 43, 21, 5, 29, 100, 43, 180, 0, 59, 100, 182, 0, 123, 177]
abbrev dktX7_layLines_5 : List UInt8 := dkwX7_layLines_5 ++ []
def dkwX7_layLines_4 : List UInt8 := [54, 6, 132, 5, 10, 167, 255, 178, 58, 7, 25, 7, 182, 0, 246, 54, 5, 167, 255, 166, 43, 180, 0, 48]
abbrev dktX7_layLines_4 : List UInt8 := dkwX7_layLines_4 ++ dktX7_layLines_5
def dkwX7_layLines_3 : List UInt8 := [100, 25, 7, 182, 0, 244, 183, 0, 235, 185, 0, 209, 2, 0, 87, 21, 6, 25, 7, 182, 0, 244, 96]
abbrev dktX7_layLines_3 : List UInt8 := dkwX7_layLines_3 ++ dktX7_layLines_4
def dkwX7_layLines_2 : List UInt8 := [182, 0, 238, 58, 7, 25, 4, 187, 0, 233, 89, 25, 7, 182, 0, 242, 28, 100, 25, 7, 182, 0, 243, 29]
abbrev dktX7_layLines_2 : List UInt8 := dkwX7_layLines_2 ++ dktX7_layLines_3
def dkwX7_layLines_1 : List UInt8 := [180, 0, 216, 185, 0, 185, 1, 0, 162, 0, 82, 42, 43, 21, 6, 28, 43, 180, 0, 59, 96, 21, 5]
abbrev dktX7_layLines_1 : List UInt8 := dkwX7_layLines_1 ++ dktX7_layLines_2
def dkwX7_layLines_0 : List UInt8 := [187, 0, 15, 89, 183, 0, 17, 58, 4, 29, 43, 180, 0, 59, 96, 54, 5, 3, 54, 6, 21, 6, 43]
abbrev dktX7_layLines_0 : List UInt8 := dkwX7_layLines_0 ++ dktX7_layLines_1
theorem dksX7_layLines_0 : cX7_layLines.data.toList.drop 0 = dktX7_layLines_0 := by decide +kernel
theorem dksX7_layLines_1 : cX7_layLines.data.toList.drop 23 = dktX7_layLines_1 := dk_seg dksX7_layLines_0 23 rfl rfl
theorem dksX7_layLines_2 : cX7_layLines.data.toList.drop 46 = dktX7_layLines_2 := dk_seg dksX7_layLines_1 23 rfl rfl
theorem dksX7_layLines_3 : cX7_layLines.data.toList.drop 70 = dktX7_layLines_3 := dk_seg dksX7_layLines_2 24 rfl rfl
theorem dksX7_layLines_4 : cX7_layLines.data.toList.drop 93 = dktX7_layLines_4 := dk_seg dksX7_layLines_3 23 rfl rfl
theorem dksX7_layLines_5 : cX7_layLines.data.toList.drop 117 = dktX7_layLines_5 := dk_seg dksX7_layLines_4 24 rfl rfl
theorem dX7_layLines_0 : decode cX7_layLines 0 = .ok (.new 15, 3) := dk_187 0 15 (dk_at dksX7_layLines_0 0 rfl rfl)
theorem dX7_layLines_3 : decode cX7_layLines 3 = .ok (.dup, 1) := dk_89 (dk_at dksX7_layLines_0 3 rfl rfl)
theorem dX7_layLines_4 : decode cX7_layLines 4 = .ok (.invokespecial 17, 3) := dk_183 0 17 (dk_at dksX7_layLines_0 4 rfl rfl)
theorem dX7_layLines_7 : decode cX7_layLines 7 = .ok (.astore 4, 2) := dk_58 4 (dk_at dksX7_layLines_0 7 rfl rfl)
theorem dX7_layLines_9 : decode cX7_layLines 9 = .ok (.iload_n 3, 1) := dk_29 (dk_at dksX7_layLines_0 9 rfl rfl)
theorem dX7_layLines_10 : decode cX7_layLines 10 = .ok (.aload_n 1, 1) := dk_43 (dk_at dksX7_layLines_0 10 rfl rfl)
theorem dX7_layLines_11 : decode cX7_layLines 11 = .ok (.getfield 59, 3) := dk_180 0 59 (dk_at dksX7_layLines_0 11 rfl rfl)
theorem dX7_layLines_14 : decode cX7_layLines 14 = .ok (.iadd, 1) := dk_96 (dk_at dksX7_layLines_0 14 rfl rfl)
theorem dX7_layLines_15 : decode cX7_layLines 15 = .ok (.istore 5, 2) := dk_54 5 (dk_at dksX7_layLines_0 15 rfl rfl)
theorem dX7_layLines_17 : decode cX7_layLines 17 = .ok (.iconst 0, 1) := dk_3 (dk_at dksX7_layLines_0 17 rfl rfl)
theorem dX7_layLines_18 : decode cX7_layLines 18 = .ok (.istore 6, 2) := dk_54 6 (dk_at dksX7_layLines_0 18 rfl rfl)
theorem dX7_layLines_20 : decode cX7_layLines 20 = .ok (.iload 6, 2) := dk_21 6 (dk_at dksX7_layLines_0 20 rfl rfl)
theorem dX7_layLines_22 : decode cX7_layLines 22 = .ok (.aload_n 1, 1) := dk_43 (dk_at dksX7_layLines_0 22 rfl rfl)
theorem dX7_layLines_23 : decode cX7_layLines 23 = .ok (.getfield 216, 3) := dk_180 0 216 (dk_at dksX7_layLines_1 0 rfl rfl)
theorem dX7_layLines_26 : decode cX7_layLines 26 = .ok (.invokeinterface 185 1, 5) := by decide +kernel
theorem dX7_layLines_31 : decode cX7_layLines 31 = .ok (.if_icmp .ge 82, 3) := dk_162 0 82 (dk_at dksX7_layLines_1 8 rfl rfl)
theorem dX7_layLines_34 : decode cX7_layLines 34 = .ok (.aload_n 0, 1) := dk_42 (dk_at dksX7_layLines_1 11 rfl rfl)
theorem dX7_layLines_35 : decode cX7_layLines 35 = .ok (.aload_n 1, 1) := dk_43 (dk_at dksX7_layLines_1 12 rfl rfl)
theorem dX7_layLines_36 : decode cX7_layLines 36 = .ok (.iload 6, 2) := dk_21 6 (dk_at dksX7_layLines_1 13 rfl rfl)
theorem dX7_layLines_38 : decode cX7_layLines 38 = .ok (.iload_n 2, 1) := dk_28 (dk_at dksX7_layLines_1 15 rfl rfl)
theorem dX7_layLines_39 : decode cX7_layLines 39 = .ok (.aload_n 1, 1) := dk_43 (dk_at dksX7_layLines_1 16 rfl rfl)
theorem dX7_layLines_40 : decode cX7_layLines 40 = .ok (.getfield 59, 3) := dk_180 0 59 (dk_at dksX7_layLines_1 17 rfl rfl)
theorem dX7_layLines_43 : decode cX7_layLines 43 = .ok (.iadd, 1) := dk_96 (dk_at dksX7_layLines_1 20 rfl rfl)
theorem dX7_layLines_44 : decode cX7_layLines 44 = .ok (.iload 5, 2) := dk_21 5 (dk_at dksX7_layLines_1 21 rfl rfl)
theorem dX7_layLines_46 : decode cX7_layLines 46 = .ok (.invokevirtual 238, 3) := dk_182 0 238 (dk_at dksX7_layLines_2 0 rfl rfl)
theorem dX7_layLines_49 : decode cX7_layLines 49 = .ok (.astore 7, 2) := dk_58 7 (dk_at dksX7_layLines_2 3 rfl rfl)
theorem dX7_layLines_51 : decode cX7_layLines 51 = .ok (.aload 4, 2) := dk_25 4 (dk_at dksX7_layLines_2 5 rfl rfl)
theorem dX7_layLines_53 : decode cX7_layLines 53 = .ok (.new 233, 3) := dk_187 0 233 (dk_at dksX7_layLines_2 7 rfl rfl)
theorem dX7_layLines_56 : decode cX7_layLines 56 = .ok (.dup, 1) := dk_89 (dk_at dksX7_layLines_2 10 rfl rfl)
theorem dX7_layLines_57 : decode cX7_layLines 57 = .ok (.aload 7, 2) := dk_25 7 (dk_at dksX7_layLines_2 11 rfl rfl)
theorem dX7_layLines_59 : decode cX7_layLines 59 = .ok (.invokevirtual 242, 3) := dk_182 0 242 (dk_at dksX7_layLines_2 13 rfl rfl)
theorem dX7_layLines_62 : decode cX7_layLines 62 = .ok (.iload_n 2, 1) := dk_28 (dk_at dksX7_layLines_2 16 rfl rfl)
theorem dX7_layLines_63 : decode cX7_layLines 63 = .ok (.isub, 1) := dk_100 (dk_at dksX7_layLines_2 17 rfl rfl)
theorem dX7_layLines_64 : decode cX7_layLines 64 = .ok (.aload 7, 2) := dk_25 7 (dk_at dksX7_layLines_2 18 rfl rfl)
theorem dX7_layLines_66 : decode cX7_layLines 66 = .ok (.invokevirtual 243, 3) := dk_182 0 243 (dk_at dksX7_layLines_2 20 rfl rfl)
theorem dX7_layLines_69 : decode cX7_layLines 69 = .ok (.iload_n 3, 1) := dk_29 (dk_at dksX7_layLines_2 23 rfl rfl)
theorem dX7_layLines_70 : decode cX7_layLines 70 = .ok (.isub, 1) := dk_100 (dk_at dksX7_layLines_3 0 rfl rfl)
theorem dX7_layLines_71 : decode cX7_layLines 71 = .ok (.aload 7, 2) := dk_25 7 (dk_at dksX7_layLines_3 1 rfl rfl)
theorem dX7_layLines_73 : decode cX7_layLines 73 = .ok (.invokevirtual 244, 3) := dk_182 0 244 (dk_at dksX7_layLines_3 3 rfl rfl)
theorem dX7_layLines_76 : decode cX7_layLines 76 = .ok (.invokespecial 235, 3) := dk_183 0 235 (dk_at dksX7_layLines_3 6 rfl rfl)
theorem dX7_layLines_79 : decode cX7_layLines 79 = .ok (.invokeinterface 209 2, 5) := by decide +kernel
theorem dX7_layLines_84 : decode cX7_layLines 84 = .ok (.pop, 1) := dk_87 (dk_at dksX7_layLines_3 14 rfl rfl)
theorem dX7_layLines_85 : decode cX7_layLines 85 = .ok (.iload 6, 2) := dk_21 6 (dk_at dksX7_layLines_3 15 rfl rfl)
theorem dX7_layLines_87 : decode cX7_layLines 87 = .ok (.aload 7, 2) := dk_25 7 (dk_at dksX7_layLines_3 17 rfl rfl)
theorem dX7_layLines_89 : decode cX7_layLines 89 = .ok (.invokevirtual 244, 3) := dk_182 0 244 (dk_at dksX7_layLines_3 19 rfl rfl)
theorem dX7_layLines_92 : decode cX7_layLines 92 = .ok (.iadd, 1) := dk_96 (dk_at dksX7_layLines_3 22 rfl rfl)
theorem dX7_layLines_93 : decode cX7_layLines 93 = .ok (.istore 6, 2) := dk_54 6 (dk_at dksX7_layLines_4 0 rfl rfl)
theorem dX7_layLines_95 : decode cX7_layLines 95 = .ok (.iinc 5 10, 3) := dk_132 5 10 (dk_at dksX7_layLines_4 2 rfl rfl)
theorem dX7_layLines_98 : decode cX7_layLines 98 = .ok (.goto (-78), 3) := dk_167 255 178 (dk_at dksX7_layLines_4 5 rfl rfl)
theorem dX7_layLines_101 : decode cX7_layLines 101 = .ok (.astore 7, 2) := dk_58 7 (dk_at dksX7_layLines_4 8 rfl rfl)
theorem dX7_layLines_103 : decode cX7_layLines 103 = .ok (.aload 7, 2) := dk_25 7 (dk_at dksX7_layLines_4 10 rfl rfl)
theorem dX7_layLines_105 : decode cX7_layLines 105 = .ok (.invokevirtual 246, 3) := dk_182 0 246 (dk_at dksX7_layLines_4 12 rfl rfl)
theorem dX7_layLines_108 : decode cX7_layLines 108 = .ok (.istore 5, 2) := dk_54 5 (dk_at dksX7_layLines_4 15 rfl rfl)
theorem dX7_layLines_110 : decode cX7_layLines 110 = .ok (.goto (-90), 3) := dk_167 255 166 (dk_at dksX7_layLines_4 17 rfl rfl)
theorem dX7_layLines_113 : decode cX7_layLines 113 = .ok (.aload_n 1, 1) := dk_43 (dk_at dksX7_layLines_4 20 rfl rfl)
theorem dX7_layLines_114 : decode cX7_layLines 114 = .ok (.getfield 48, 3) := dk_180 0 48 (dk_at dksX7_layLines_4 21 rfl rfl)
theorem dX7_layLines_117 : decode cX7_layLines 117 = .ok (.aload 4, 2) := dk_25 4 (dk_at dksX7_layLines_5 0 rfl rfl)
theorem dX7_layLines_119 : decode cX7_layLines 119 = .ok (.putfield 248, 3) := dk_181 0 248 (dk_at dksX7_layLines_5 2 rfl rfl)
theorem dX7_layLines_122 : decode cX7_layLines 122 = .ok (.aload_n 0, 1) := dk_42 (dk_at dksX7_layLines_5 5 rfl rfl)
theorem dX7_layLines_123 : decode cX7_layLines 123 = .ok (.getfield 22, 3) := dk_180 0 22 (dk_at dksX7_layLines_5 6 rfl rfl)
theorem dX7_layLines_126 : decode cX7_layLines 126 = .ok (.aload_n 1, 1) := dk_43 (dk_at dksX7_layLines_5 9 rfl rfl)
theorem dX7_layLines_127 : decode cX7_layLines 127 = .ok (.iload 5, 2) := dk_21 5 (dk_at dksX7_layLines_5 10 rfl rfl)
theorem dX7_layLines_129 : decode cX7_layLines 129 = .ok (.iload_n 3, 1) := dk_29 (dk_at dksX7_layLines_5 12 rfl rfl)
theorem dX7_layLines_130 : decode cX7_layLines 130 = .ok (.isub, 1) := dk_100 (dk_at dksX7_layLines_5 13 rfl rfl)
theorem dX7_layLines_131 : decode cX7_layLines 131 = .ok (.aload_n 1, 1) := dk_43 (dk_at dksX7_layLines_5 14 rfl rfl)
theorem dX7_layLines_132 : decode cX7_layLines 132 = .ok (.getfield 59, 3) := dk_180 0 59 (dk_at dksX7_layLines_5 15 rfl rfl)
theorem dX7_layLines_135 : decode cX7_layLines 135 = .ok (.isub, 1) := dk_100 (dk_at dksX7_layLines_5 18 rfl rfl)
theorem dX7_layLines_136 : decode cX7_layLines 136 = .ok (.invokevirtual 123, 3) := dk_182 0 123 (dk_at dksX7_layLines_5 19 rfl rfl)
theorem dX7_layLines_139 : decode cX7_layLines 139 = .ok (.return_, 1) := dk_177 (dk_at dksX7_layLines_5 22 rfl rfl)
abbrev cX7_line : ByteArray := prog_3_method_8_code
def yX7_line : MethodName := ⟨RX7, "line", "(LColumnarPress$Box;III)LColumnarPress$Line;"⟩
def dkwX7_line_9 : List UInt8 := [21, 9, 96, 21, 4, 21, 7, 183, 0, 235, 176]
abbrev dktX7_line_9 : List UInt8 := dkwX7_line_9 ++ []
def dkwX7_line_8 : List UInt8 := [160, 0, 10, 21, 8, 5, 108, 167, 0, 5, 21, 8, 54, 9, 187, 0, 233, 89, 25, 5, 182, 0, 201]
abbrev dktX7_line_8 : List UInt8 := dkwX7_line_8 ++ dktX7_line_9
def dkwX7_line_7 : List UInt8 := [184, 0, 62, 54, 8, 43, 180, 0, 230, 16, 108, 160, 0, 7, 3, 167, 0, 21, 43, 180, 0, 230, 16, 99]
abbrev dktX7_line_7 : List UInt8 := dkwX7_line_7 ++ dktX7_line_8
def dkwX7_line_6 : List UInt8 := [182, 0, 219, 96, 96, 54, 6, 132, 7, 1, 167, 255, 179, 3, 25, 5, 182, 0, 227, 21, 6, 100]
abbrev dktX7_line_6 : List UInt8 := dkwX7_line_6 ++ dktX7_line_7
def dkwX7_line_5 : List UInt8 := [163, 0, 35, 21, 6, 5, 43, 180, 0, 216, 28, 21, 7, 96, 185, 0, 188, 2, 0, 192, 0, 68]
abbrev dktX7_line_5 : List UInt8 := dkwX7_line_5 ++ dktX7_line_6
def dkwX7_line_4 : List UInt8 := [180, 0, 216, 28, 21, 7, 96, 185, 0, 188, 2, 0, 192, 0, 68, 182, 0, 219, 96, 25, 5, 182, 0, 227]
abbrev dktX7_line_4 : List UInt8 := dkwX7_line_4 ++ dktX7_line_5
def dkwX7_line_3 : List UInt8 := [54, 7, 28, 21, 7, 96, 43, 180, 0, 216, 185, 0, 185, 1, 0, 162, 0, 67, 21, 6, 5, 96, 43]
abbrev dktX7_line_3 : List UInt8 := dkwX7_line_3 ++ dktX7_line_4
def dkwX7_line_2 : List UInt8 := [183, 0, 224, 191, 43, 180, 0, 216, 28, 185, 0, 188, 2, 0, 192, 0, 68, 182, 0, 219, 54, 6, 4]
abbrev dktX7_line_2 : List UInt8 := dkwX7_line_2 ++ dktX7_line_3
def dkwX7_line_1 : List UInt8 := [192, 0, 68, 182, 0, 219, 182, 0, 192, 58, 5, 167, 0, 15, 58, 6, 187, 0, 222, 89, 25, 6]
abbrev dktX7_line_1 : List UInt8 := dkwX7_line_1 ++ dktX7_line_2
def dkwX7_line_0 : List UInt8 := [42, 21, 4, 16, 10, 29, 29, 43, 182, 0, 132, 96, 43, 180, 0, 216, 28, 185, 0, 188, 2, 0]
abbrev dktX7_line_0 : List UInt8 := dkwX7_line_0 ++ dktX7_line_1
theorem dksX7_line_0 : cX7_line.data.toList.drop 0 = dktX7_line_0 := by decide +kernel
theorem dksX7_line_1 : cX7_line.data.toList.drop 22 = dktX7_line_1 := dk_seg dksX7_line_0 22 rfl rfl
theorem dksX7_line_2 : cX7_line.data.toList.drop 44 = dktX7_line_2 := dk_seg dksX7_line_1 22 rfl rfl
theorem dksX7_line_3 : cX7_line.data.toList.drop 67 = dktX7_line_3 := dk_seg dksX7_line_2 23 rfl rfl
theorem dksX7_line_4 : cX7_line.data.toList.drop 90 = dktX7_line_4 := dk_seg dksX7_line_3 23 rfl rfl
theorem dksX7_line_5 : cX7_line.data.toList.drop 114 = dktX7_line_5 := dk_seg dksX7_line_4 24 rfl rfl
theorem dksX7_line_6 : cX7_line.data.toList.drop 136 = dktX7_line_6 := dk_seg dksX7_line_5 22 rfl rfl
theorem dksX7_line_7 : cX7_line.data.toList.drop 158 = dktX7_line_7 := dk_seg dksX7_line_6 22 rfl rfl
theorem dksX7_line_8 : cX7_line.data.toList.drop 182 = dktX7_line_8 := dk_seg dksX7_line_7 24 rfl rfl
theorem dksX7_line_9 : cX7_line.data.toList.drop 205 = dktX7_line_9 := dk_seg dksX7_line_8 23 rfl rfl
theorem dX7_line_0 : decode cX7_line 0 = .ok (.aload_n 0, 1) := dk_42 (dk_at dksX7_line_0 0 rfl rfl)
theorem dX7_line_1 : decode cX7_line 1 = .ok (.iload 4, 2) := dk_21 4 (dk_at dksX7_line_0 1 rfl rfl)
theorem dX7_line_3 : decode cX7_line 3 = .ok (.bipush 10, 2) := dk_16 10 (dk_at dksX7_line_0 3 rfl rfl)
theorem dX7_line_5 : decode cX7_line 5 = .ok (.iload_n 3, 1) := dk_29 (dk_at dksX7_line_0 5 rfl rfl)
theorem dX7_line_6 : decode cX7_line 6 = .ok (.iload_n 3, 1) := dk_29 (dk_at dksX7_line_0 6 rfl rfl)
theorem dX7_line_7 : decode cX7_line 7 = .ok (.aload_n 1, 1) := dk_43 (dk_at dksX7_line_0 7 rfl rfl)
theorem dX7_line_8 : decode cX7_line 8 = .ok (.invokevirtual 132, 3) := dk_182 0 132 (dk_at dksX7_line_0 8 rfl rfl)
theorem dX7_line_11 : decode cX7_line 11 = .ok (.iadd, 1) := dk_96 (dk_at dksX7_line_0 11 rfl rfl)
theorem dX7_line_12 : decode cX7_line 12 = .ok (.aload_n 1, 1) := dk_43 (dk_at dksX7_line_0 12 rfl rfl)
theorem dX7_line_13 : decode cX7_line 13 = .ok (.getfield 216, 3) := dk_180 0 216 (dk_at dksX7_line_0 13 rfl rfl)
theorem dX7_line_16 : decode cX7_line 16 = .ok (.iload_n 2, 1) := dk_28 (dk_at dksX7_line_0 16 rfl rfl)
theorem dX7_line_17 : decode cX7_line 17 = .ok (.invokeinterface 188 2, 5) := by decide +kernel
theorem dX7_line_22 : decode cX7_line 22 = .ok (.checkcast 68, 3) := dk_192 0 68 (dk_at dksX7_line_1 0 rfl rfl)
theorem dX7_line_25 : decode cX7_line 25 = .ok (.invokevirtual 219, 3) := dk_182 0 219 (dk_at dksX7_line_1 3 rfl rfl)
theorem dX7_line_28 : decode cX7_line 28 = .ok (.invokevirtual 192, 3) := dk_182 0 192 (dk_at dksX7_line_1 6 rfl rfl)
theorem dX7_line_31 : decode cX7_line 31 = .ok (.astore 5, 2) := dk_58 5 (dk_at dksX7_line_1 9 rfl rfl)
theorem dX7_line_33 : decode cX7_line 33 = .ok (.goto 15, 3) := dk_167 0 15 (dk_at dksX7_line_1 11 rfl rfl)
theorem dX7_line_36 : decode cX7_line 36 = .ok (.astore 6, 2) := dk_58 6 (dk_at dksX7_line_1 14 rfl rfl)
theorem dX7_line_38 : decode cX7_line 38 = .ok (.new 222, 3) := dk_187 0 222 (dk_at dksX7_line_1 16 rfl rfl)
theorem dX7_line_41 : decode cX7_line 41 = .ok (.dup, 1) := dk_89 (dk_at dksX7_line_1 19 rfl rfl)
theorem dX7_line_42 : decode cX7_line 42 = .ok (.aload 6, 2) := dk_25 6 (dk_at dksX7_line_1 20 rfl rfl)
theorem dX7_line_44 : decode cX7_line 44 = .ok (.invokespecial 224, 3) := dk_183 0 224 (dk_at dksX7_line_2 0 rfl rfl)
theorem dX7_line_47 : decode cX7_line 47 = .ok (.athrow, 1) := dk_191 (dk_at dksX7_line_2 3 rfl rfl)
theorem dX7_line_48 : decode cX7_line 48 = .ok (.aload_n 1, 1) := dk_43 (dk_at dksX7_line_2 4 rfl rfl)
theorem dX7_line_49 : decode cX7_line 49 = .ok (.getfield 216, 3) := dk_180 0 216 (dk_at dksX7_line_2 5 rfl rfl)
theorem dX7_line_52 : decode cX7_line 52 = .ok (.iload_n 2, 1) := dk_28 (dk_at dksX7_line_2 8 rfl rfl)
theorem dX7_line_53 : decode cX7_line 53 = .ok (.invokeinterface 188 2, 5) := by decide +kernel
theorem dX7_line_58 : decode cX7_line 58 = .ok (.checkcast 68, 3) := dk_192 0 68 (dk_at dksX7_line_2 14 rfl rfl)
theorem dX7_line_61 : decode cX7_line 61 = .ok (.invokevirtual 219, 3) := dk_182 0 219 (dk_at dksX7_line_2 17 rfl rfl)
theorem dX7_line_64 : decode cX7_line 64 = .ok (.istore 6, 2) := dk_54 6 (dk_at dksX7_line_2 20 rfl rfl)
theorem dX7_line_66 : decode cX7_line 66 = .ok (.iconst 1, 1) := dk_4 (dk_at dksX7_line_2 22 rfl rfl)
theorem dX7_line_67 : decode cX7_line 67 = .ok (.istore 7, 2) := dk_54 7 (dk_at dksX7_line_3 0 rfl rfl)
theorem dX7_line_69 : decode cX7_line 69 = .ok (.iload_n 2, 1) := dk_28 (dk_at dksX7_line_3 2 rfl rfl)
theorem dX7_line_70 : decode cX7_line 70 = .ok (.iload 7, 2) := dk_21 7 (dk_at dksX7_line_3 3 rfl rfl)
theorem dX7_line_72 : decode cX7_line 72 = .ok (.iadd, 1) := dk_96 (dk_at dksX7_line_3 5 rfl rfl)
theorem dX7_line_73 : decode cX7_line 73 = .ok (.aload_n 1, 1) := dk_43 (dk_at dksX7_line_3 6 rfl rfl)
theorem dX7_line_74 : decode cX7_line 74 = .ok (.getfield 216, 3) := dk_180 0 216 (dk_at dksX7_line_3 7 rfl rfl)
theorem dX7_line_77 : decode cX7_line 77 = .ok (.invokeinterface 185 1, 5) := by decide +kernel
theorem dX7_line_82 : decode cX7_line 82 = .ok (.if_icmp .ge 67, 3) := dk_162 0 67 (dk_at dksX7_line_3 15 rfl rfl)
theorem dX7_line_85 : decode cX7_line 85 = .ok (.iload 6, 2) := dk_21 6 (dk_at dksX7_line_3 18 rfl rfl)
theorem dX7_line_87 : decode cX7_line 87 = .ok (.iconst 2, 1) := dk_5 (dk_at dksX7_line_3 20 rfl rfl)
theorem dX7_line_88 : decode cX7_line 88 = .ok (.iadd, 1) := dk_96 (dk_at dksX7_line_3 21 rfl rfl)
theorem dX7_line_89 : decode cX7_line 89 = .ok (.aload_n 1, 1) := dk_43 (dk_at dksX7_line_3 22 rfl rfl)
theorem dX7_line_90 : decode cX7_line 90 = .ok (.getfield 216, 3) := dk_180 0 216 (dk_at dksX7_line_4 0 rfl rfl)
theorem dX7_line_93 : decode cX7_line 93 = .ok (.iload_n 2, 1) := dk_28 (dk_at dksX7_line_4 3 rfl rfl)
theorem dX7_line_94 : decode cX7_line 94 = .ok (.iload 7, 2) := dk_21 7 (dk_at dksX7_line_4 4 rfl rfl)
theorem dX7_line_96 : decode cX7_line 96 = .ok (.iadd, 1) := dk_96 (dk_at dksX7_line_4 6 rfl rfl)
theorem dX7_line_97 : decode cX7_line 97 = .ok (.invokeinterface 188 2, 5) := by decide +kernel
theorem dX7_line_102 : decode cX7_line 102 = .ok (.checkcast 68, 3) := dk_192 0 68 (dk_at dksX7_line_4 12 rfl rfl)
theorem dX7_line_105 : decode cX7_line 105 = .ok (.invokevirtual 219, 3) := dk_182 0 219 (dk_at dksX7_line_4 15 rfl rfl)
theorem dX7_line_108 : decode cX7_line 108 = .ok (.iadd, 1) := dk_96 (dk_at dksX7_line_4 18 rfl rfl)
theorem dX7_line_109 : decode cX7_line 109 = .ok (.aload 5, 2) := dk_25 5 (dk_at dksX7_line_4 19 rfl rfl)
theorem dX7_line_111 : decode cX7_line 111 = .ok (.invokevirtual 227, 3) := dk_182 0 227 (dk_at dksX7_line_4 21 rfl rfl)
theorem dX7_line_114 : decode cX7_line 114 = .ok (.if_icmp .gt 35, 3) := dk_163 0 35 (dk_at dksX7_line_5 0 rfl rfl)
theorem dX7_line_117 : decode cX7_line 117 = .ok (.iload 6, 2) := dk_21 6 (dk_at dksX7_line_5 3 rfl rfl)
theorem dX7_line_119 : decode cX7_line 119 = .ok (.iconst 2, 1) := dk_5 (dk_at dksX7_line_5 5 rfl rfl)
theorem dX7_line_120 : decode cX7_line 120 = .ok (.aload_n 1, 1) := dk_43 (dk_at dksX7_line_5 6 rfl rfl)
theorem dX7_line_121 : decode cX7_line 121 = .ok (.getfield 216, 3) := dk_180 0 216 (dk_at dksX7_line_5 7 rfl rfl)
theorem dX7_line_124 : decode cX7_line 124 = .ok (.iload_n 2, 1) := dk_28 (dk_at dksX7_line_5 10 rfl rfl)
theorem dX7_line_125 : decode cX7_line 125 = .ok (.iload 7, 2) := dk_21 7 (dk_at dksX7_line_5 11 rfl rfl)
theorem dX7_line_127 : decode cX7_line 127 = .ok (.iadd, 1) := dk_96 (dk_at dksX7_line_5 13 rfl rfl)
theorem dX7_line_128 : decode cX7_line 128 = .ok (.invokeinterface 188 2, 5) := by decide +kernel
theorem dX7_line_133 : decode cX7_line 133 = .ok (.checkcast 68, 3) := dk_192 0 68 (dk_at dksX7_line_5 19 rfl rfl)
theorem dX7_line_136 : decode cX7_line 136 = .ok (.invokevirtual 219, 3) := dk_182 0 219 (dk_at dksX7_line_6 0 rfl rfl)
theorem dX7_line_139 : decode cX7_line 139 = .ok (.iadd, 1) := dk_96 (dk_at dksX7_line_6 3 rfl rfl)
theorem dX7_line_140 : decode cX7_line 140 = .ok (.iadd, 1) := dk_96 (dk_at dksX7_line_6 4 rfl rfl)
theorem dX7_line_141 : decode cX7_line 141 = .ok (.istore 6, 2) := dk_54 6 (dk_at dksX7_line_6 5 rfl rfl)
theorem dX7_line_143 : decode cX7_line 143 = .ok (.iinc 7 1, 3) := dk_132 7 1 (dk_at dksX7_line_6 7 rfl rfl)
theorem dX7_line_146 : decode cX7_line 146 = .ok (.goto (-77), 3) := dk_167 255 179 (dk_at dksX7_line_6 10 rfl rfl)
theorem dX7_line_149 : decode cX7_line 149 = .ok (.iconst 0, 1) := dk_3 (dk_at dksX7_line_6 13 rfl rfl)
theorem dX7_line_150 : decode cX7_line 150 = .ok (.aload 5, 2) := dk_25 5 (dk_at dksX7_line_6 14 rfl rfl)
theorem dX7_line_152 : decode cX7_line 152 = .ok (.invokevirtual 227, 3) := dk_182 0 227 (dk_at dksX7_line_6 16 rfl rfl)
theorem dX7_line_155 : decode cX7_line 155 = .ok (.iload 6, 2) := dk_21 6 (dk_at dksX7_line_6 19 rfl rfl)
theorem dX7_line_157 : decode cX7_line 157 = .ok (.isub, 1) := dk_100 (dk_at dksX7_line_6 21 rfl rfl)
theorem dX7_line_158 : decode cX7_line 158 = .ok (.invokestatic 62, 3) := dk_184 0 62 (dk_at dksX7_line_7 0 rfl rfl)
theorem dX7_line_161 : decode cX7_line 161 = .ok (.istore 8, 2) := dk_54 8 (dk_at dksX7_line_7 3 rfl rfl)
theorem dX7_line_163 : decode cX7_line 163 = .ok (.aload_n 1, 1) := dk_43 (dk_at dksX7_line_7 5 rfl rfl)
theorem dX7_line_164 : decode cX7_line 164 = .ok (.getfield 230, 3) := dk_180 0 230 (dk_at dksX7_line_7 6 rfl rfl)
theorem dX7_line_167 : decode cX7_line 167 = .ok (.bipush 108, 2) := dk_16 108 (dk_at dksX7_line_7 9 rfl rfl)
theorem dX7_line_169 : decode cX7_line 169 = .ok (.if_icmp .ne 7, 3) := dk_160 0 7 (dk_at dksX7_line_7 11 rfl rfl)
theorem dX7_line_172 : decode cX7_line 172 = .ok (.iconst 0, 1) := dk_3 (dk_at dksX7_line_7 14 rfl rfl)
theorem dX7_line_173 : decode cX7_line 173 = .ok (.goto 21, 3) := dk_167 0 21 (dk_at dksX7_line_7 15 rfl rfl)
theorem dX7_line_176 : decode cX7_line 176 = .ok (.aload_n 1, 1) := dk_43 (dk_at dksX7_line_7 18 rfl rfl)
theorem dX7_line_177 : decode cX7_line 177 = .ok (.getfield 230, 3) := dk_180 0 230 (dk_at dksX7_line_7 19 rfl rfl)
theorem dX7_line_180 : decode cX7_line 180 = .ok (.bipush 99, 2) := dk_16 99 (dk_at dksX7_line_7 22 rfl rfl)
theorem dX7_line_182 : decode cX7_line 182 = .ok (.if_icmp .ne 10, 3) := dk_160 0 10 (dk_at dksX7_line_8 0 rfl rfl)
theorem dX7_line_185 : decode cX7_line 185 = .ok (.iload 8, 2) := dk_21 8 (dk_at dksX7_line_8 3 rfl rfl)
theorem dX7_line_187 : decode cX7_line 187 = .ok (.iconst 2, 1) := dk_5 (dk_at dksX7_line_8 5 rfl rfl)
theorem dX7_line_188 : decode cX7_line 188 = .ok (.idiv, 1) := dk_108 (dk_at dksX7_line_8 6 rfl rfl)
theorem dX7_line_189 : decode cX7_line 189 = .ok (.goto 5, 3) := dk_167 0 5 (dk_at dksX7_line_8 7 rfl rfl)
theorem dX7_line_192 : decode cX7_line 192 = .ok (.iload 8, 2) := dk_21 8 (dk_at dksX7_line_8 10 rfl rfl)
theorem dX7_line_194 : decode cX7_line 194 = .ok (.istore 9, 2) := dk_54 9 (dk_at dksX7_line_8 12 rfl rfl)
theorem dX7_line_196 : decode cX7_line 196 = .ok (.new 233, 3) := dk_187 0 233 (dk_at dksX7_line_8 14 rfl rfl)
theorem dX7_line_199 : decode cX7_line 199 = .ok (.dup, 1) := dk_89 (dk_at dksX7_line_8 17 rfl rfl)
theorem dX7_line_200 : decode cX7_line 200 = .ok (.aload 5, 2) := dk_25 5 (dk_at dksX7_line_8 18 rfl rfl)
theorem dX7_line_202 : decode cX7_line 202 = .ok (.invokevirtual 201, 3) := dk_182 0 201 (dk_at dksX7_line_8 20 rfl rfl)
theorem dX7_line_205 : decode cX7_line 205 = .ok (.iload 9, 2) := dk_21 9 (dk_at dksX7_line_9 0 rfl rfl)
theorem dX7_line_207 : decode cX7_line 207 = .ok (.iadd, 1) := dk_96 (dk_at dksX7_line_9 2 rfl rfl)
theorem dX7_line_208 : decode cX7_line 208 = .ok (.iload 4, 2) := dk_21 4 (dk_at dksX7_line_9 3 rfl rfl)
theorem dX7_line_210 : decode cX7_line 210 = .ok (.iload 7, 2) := dk_21 7 (dk_at dksX7_line_9 5 rfl rfl)
theorem dX7_line_212 : decode cX7_line 212 = .ok (.invokespecial 235, 3) := dk_183 0 235 (dk_at dksX7_line_9 7 rfl rfl)
theorem dX7_line_215 : decode cX7_line 215 = .ok (.areturn, 1) := dk_176 (dk_at dksX7_line_9 10 rfl rfl)
abbrev cX7_edges : ByteArray := prog_3_method_6_code
def yX7_edges : MethodName := ⟨RX7, "edges", "(IIIII)LColumnarPress$Edges;"⟩
def dkwX7_edges_7 : List UInt8 := [21, 7, 183, 0, 175, 176]
abbrev dktX7_edges_7 : List UInt8 := dkwX7_edges_7 ++ []
def dkwX7_edges_6 : List UInt8 := [21, 8, 18, 152, 162, 0, 13, 187, 0, 168, 89, 21, 8, 183, 0, 170, 191, 187, 0, 173, 89, 21, 6]
abbrev dktX7_edges_6 : List UInt8 := dkwX7_edges_6 ++ dktX7_edges_7
def dkwX7_edges_5 : List UInt8 := [25, 10, 182, 0, 165, 184, 0, 107, 54, 8, 167, 255, 150, 21, 5, 21, 7, 21, 6, 100, 164, 0, 20]
abbrev dktX7_edges_5 : List UInt8 := dkwX7_edges_5 ++ dktX7_edges_6
def dkwX7_edges_4 : List UInt8 := [16, 114, 160, 0, 16, 21, 7, 25, 10, 182, 0, 161, 184, 0, 107, 167, 0, 5, 21, 7, 54, 7, 21, 8]
abbrev dktX7_edges_4 : List UInt8 := dkwX7_edges_4 ++ dktX7_edges_5
def dkwX7_edges_3 : List UInt8 := [182, 0, 161, 25, 10, 182, 0, 163, 96, 184, 0, 62, 167, 0, 5, 21, 6, 54, 6, 25, 10, 182, 0, 157]
abbrev dktX7_edges_3 : List UInt8 := dkwX7_edges_3 ++ dktX7_edges_4
def dkwX7_edges_2 : List UInt8 := [28, 96, 182, 0, 153, 153, 0, 75, 25, 10, 182, 0, 157, 16, 108, 160, 0, 22, 21, 6, 25, 10]
abbrev dktX7_edges_2 : List UInt8 := dkwX7_edges_2 ++ dktX7_edges_3
def dkwX7_edges_1 : List UInt8 := [185, 0, 75, 1, 0, 153, 0, 102, 25, 9, 185, 0, 80, 1, 0, 192, 0, 84, 58, 10, 25, 10, 27, 27]
abbrev dktX7_edges_1 : List UInt8 := dkwX7_edges_1 ++ dktX7_edges_2
def dkwX7_edges_0 : List UInt8 := [29, 54, 6, 21, 4, 54, 7, 18, 152, 54, 8, 42, 180, 0, 18, 185, 0, 71, 1, 0, 58, 9, 25, 9]
abbrev dktX7_edges_0 : List UInt8 := dkwX7_edges_0 ++ dktX7_edges_1
theorem dksX7_edges_0 : cX7_edges.data.toList.drop 0 = dktX7_edges_0 := by decide +kernel
theorem dksX7_edges_1 : cX7_edges.data.toList.drop 24 = dktX7_edges_1 := dk_seg dksX7_edges_0 24 rfl rfl
theorem dksX7_edges_2 : cX7_edges.data.toList.drop 48 = dktX7_edges_2 := dk_seg dksX7_edges_1 24 rfl rfl
theorem dksX7_edges_3 : cX7_edges.data.toList.drop 70 = dktX7_edges_3 := dk_seg dksX7_edges_2 22 rfl rfl
theorem dksX7_edges_4 : cX7_edges.data.toList.drop 94 = dktX7_edges_4 := dk_seg dksX7_edges_3 24 rfl rfl
theorem dksX7_edges_5 : cX7_edges.data.toList.drop 118 = dktX7_edges_5 := dk_seg dksX7_edges_4 24 rfl rfl
theorem dksX7_edges_6 : cX7_edges.data.toList.drop 141 = dktX7_edges_6 := dk_seg dksX7_edges_5 23 rfl rfl
theorem dksX7_edges_7 : cX7_edges.data.toList.drop 164 = dktX7_edges_7 := dk_seg dksX7_edges_6 23 rfl rfl
theorem dX7_edges_0 : decode cX7_edges 0 = .ok (.iload_n 3, 1) := dk_29 (dk_at dksX7_edges_0 0 rfl rfl)
theorem dX7_edges_1 : decode cX7_edges 1 = .ok (.istore 6, 2) := dk_54 6 (dk_at dksX7_edges_0 1 rfl rfl)
theorem dX7_edges_3 : decode cX7_edges 3 = .ok (.iload 4, 2) := dk_21 4 (dk_at dksX7_edges_0 3 rfl rfl)
theorem dX7_edges_5 : decode cX7_edges 5 = .ok (.istore 7, 2) := dk_54 7 (dk_at dksX7_edges_0 5 rfl rfl)
theorem dX7_edges_7 : decode cX7_edges 7 = .ok (.ldc 152, 2) := dk_18 152 (dk_at dksX7_edges_0 7 rfl rfl)
theorem dX7_edges_9 : decode cX7_edges 9 = .ok (.istore 8, 2) := dk_54 8 (dk_at dksX7_edges_0 9 rfl rfl)
theorem dX7_edges_11 : decode cX7_edges 11 = .ok (.aload_n 0, 1) := dk_42 (dk_at dksX7_edges_0 11 rfl rfl)
theorem dX7_edges_12 : decode cX7_edges 12 = .ok (.getfield 18, 3) := dk_180 0 18 (dk_at dksX7_edges_0 12 rfl rfl)
theorem dX7_edges_15 : decode cX7_edges 15 = .ok (.invokeinterface 71 1, 5) := by decide +kernel
theorem dX7_edges_20 : decode cX7_edges 20 = .ok (.astore 9, 2) := dk_58 9 (dk_at dksX7_edges_0 20 rfl rfl)
theorem dX7_edges_22 : decode cX7_edges 22 = .ok (.aload 9, 2) := dk_25 9 (dk_at dksX7_edges_0 22 rfl rfl)
theorem dX7_edges_24 : decode cX7_edges 24 = .ok (.invokeinterface 75 1, 5) := by decide +kernel
theorem dX7_edges_29 : decode cX7_edges 29 = .ok (.ifCond .eq 102, 3) := dk_153 0 102 (dk_at dksX7_edges_1 5 rfl rfl)
theorem dX7_edges_32 : decode cX7_edges 32 = .ok (.aload 9, 2) := dk_25 9 (dk_at dksX7_edges_1 8 rfl rfl)
theorem dX7_edges_34 : decode cX7_edges 34 = .ok (.invokeinterface 80 1, 5) := by decide +kernel
theorem dX7_edges_39 : decode cX7_edges 39 = .ok (.checkcast 84, 3) := dk_192 0 84 (dk_at dksX7_edges_1 15 rfl rfl)
theorem dX7_edges_42 : decode cX7_edges 42 = .ok (.astore 10, 2) := dk_58 10 (dk_at dksX7_edges_1 18 rfl rfl)
theorem dX7_edges_44 : decode cX7_edges 44 = .ok (.aload 10, 2) := dk_25 10 (dk_at dksX7_edges_1 20 rfl rfl)
theorem dX7_edges_46 : decode cX7_edges 46 = .ok (.iload_n 1, 1) := dk_27 (dk_at dksX7_edges_1 22 rfl rfl)
theorem dX7_edges_47 : decode cX7_edges 47 = .ok (.iload_n 1, 1) := dk_27 (dk_at dksX7_edges_1 23 rfl rfl)
theorem dX7_edges_48 : decode cX7_edges 48 = .ok (.iload_n 2, 1) := dk_28 (dk_at dksX7_edges_2 0 rfl rfl)
theorem dX7_edges_49 : decode cX7_edges 49 = .ok (.iadd, 1) := dk_96 (dk_at dksX7_edges_2 1 rfl rfl)
theorem dX7_edges_50 : decode cX7_edges 50 = .ok (.invokevirtual 153, 3) := dk_182 0 153 (dk_at dksX7_edges_2 2 rfl rfl)
theorem dX7_edges_53 : decode cX7_edges 53 = .ok (.ifCond .eq 75, 3) := dk_153 0 75 (dk_at dksX7_edges_2 5 rfl rfl)
theorem dX7_edges_56 : decode cX7_edges 56 = .ok (.aload 10, 2) := dk_25 10 (dk_at dksX7_edges_2 8 rfl rfl)
theorem dX7_edges_58 : decode cX7_edges 58 = .ok (.invokevirtual 157, 3) := dk_182 0 157 (dk_at dksX7_edges_2 10 rfl rfl)
theorem dX7_edges_61 : decode cX7_edges 61 = .ok (.bipush 108, 2) := dk_16 108 (dk_at dksX7_edges_2 13 rfl rfl)
theorem dX7_edges_63 : decode cX7_edges 63 = .ok (.if_icmp .ne 22, 3) := dk_160 0 22 (dk_at dksX7_edges_2 15 rfl rfl)
theorem dX7_edges_66 : decode cX7_edges 66 = .ok (.iload 6, 2) := dk_21 6 (dk_at dksX7_edges_2 18 rfl rfl)
theorem dX7_edges_68 : decode cX7_edges 68 = .ok (.aload 10, 2) := dk_25 10 (dk_at dksX7_edges_2 20 rfl rfl)
theorem dX7_edges_70 : decode cX7_edges 70 = .ok (.invokevirtual 161, 3) := dk_182 0 161 (dk_at dksX7_edges_3 0 rfl rfl)
theorem dX7_edges_73 : decode cX7_edges 73 = .ok (.aload 10, 2) := dk_25 10 (dk_at dksX7_edges_3 3 rfl rfl)
theorem dX7_edges_75 : decode cX7_edges 75 = .ok (.invokevirtual 163, 3) := dk_182 0 163 (dk_at dksX7_edges_3 5 rfl rfl)
theorem dX7_edges_78 : decode cX7_edges 78 = .ok (.iadd, 1) := dk_96 (dk_at dksX7_edges_3 8 rfl rfl)
theorem dX7_edges_79 : decode cX7_edges 79 = .ok (.invokestatic 62, 3) := dk_184 0 62 (dk_at dksX7_edges_3 9 rfl rfl)
theorem dX7_edges_82 : decode cX7_edges 82 = .ok (.goto 5, 3) := dk_167 0 5 (dk_at dksX7_edges_3 12 rfl rfl)
theorem dX7_edges_85 : decode cX7_edges 85 = .ok (.iload 6, 2) := dk_21 6 (dk_at dksX7_edges_3 15 rfl rfl)
theorem dX7_edges_87 : decode cX7_edges 87 = .ok (.istore 6, 2) := dk_54 6 (dk_at dksX7_edges_3 17 rfl rfl)
theorem dX7_edges_89 : decode cX7_edges 89 = .ok (.aload 10, 2) := dk_25 10 (dk_at dksX7_edges_3 19 rfl rfl)
theorem dX7_edges_91 : decode cX7_edges 91 = .ok (.invokevirtual 157, 3) := dk_182 0 157 (dk_at dksX7_edges_3 21 rfl rfl)
theorem dX7_edges_94 : decode cX7_edges 94 = .ok (.bipush 114, 2) := dk_16 114 (dk_at dksX7_edges_4 0 rfl rfl)
theorem dX7_edges_96 : decode cX7_edges 96 = .ok (.if_icmp .ne 16, 3) := dk_160 0 16 (dk_at dksX7_edges_4 2 rfl rfl)
theorem dX7_edges_99 : decode cX7_edges 99 = .ok (.iload 7, 2) := dk_21 7 (dk_at dksX7_edges_4 5 rfl rfl)
theorem dX7_edges_101 : decode cX7_edges 101 = .ok (.aload 10, 2) := dk_25 10 (dk_at dksX7_edges_4 7 rfl rfl)
theorem dX7_edges_103 : decode cX7_edges 103 = .ok (.invokevirtual 161, 3) := dk_182 0 161 (dk_at dksX7_edges_4 9 rfl rfl)
theorem dX7_edges_106 : decode cX7_edges 106 = .ok (.invokestatic 107, 3) := dk_184 0 107 (dk_at dksX7_edges_4 12 rfl rfl)
theorem dX7_edges_109 : decode cX7_edges 109 = .ok (.goto 5, 3) := dk_167 0 5 (dk_at dksX7_edges_4 15 rfl rfl)
theorem dX7_edges_112 : decode cX7_edges 112 = .ok (.iload 7, 2) := dk_21 7 (dk_at dksX7_edges_4 18 rfl rfl)
theorem dX7_edges_114 : decode cX7_edges 114 = .ok (.istore 7, 2) := dk_54 7 (dk_at dksX7_edges_4 20 rfl rfl)
theorem dX7_edges_116 : decode cX7_edges 116 = .ok (.iload 8, 2) := dk_21 8 (dk_at dksX7_edges_4 22 rfl rfl)
theorem dX7_edges_118 : decode cX7_edges 118 = .ok (.aload 10, 2) := dk_25 10 (dk_at dksX7_edges_5 0 rfl rfl)
theorem dX7_edges_120 : decode cX7_edges 120 = .ok (.invokevirtual 165, 3) := dk_182 0 165 (dk_at dksX7_edges_5 2 rfl rfl)
theorem dX7_edges_123 : decode cX7_edges 123 = .ok (.invokestatic 107, 3) := dk_184 0 107 (dk_at dksX7_edges_5 5 rfl rfl)
theorem dX7_edges_126 : decode cX7_edges 126 = .ok (.istore 8, 2) := dk_54 8 (dk_at dksX7_edges_5 8 rfl rfl)
theorem dX7_edges_128 : decode cX7_edges 128 = .ok (.goto (-106), 3) := dk_167 255 150 (dk_at dksX7_edges_5 10 rfl rfl)
theorem dX7_edges_131 : decode cX7_edges 131 = .ok (.iload 5, 2) := dk_21 5 (dk_at dksX7_edges_5 13 rfl rfl)
theorem dX7_edges_133 : decode cX7_edges 133 = .ok (.iload 7, 2) := dk_21 7 (dk_at dksX7_edges_5 15 rfl rfl)
theorem dX7_edges_135 : decode cX7_edges 135 = .ok (.iload 6, 2) := dk_21 6 (dk_at dksX7_edges_5 17 rfl rfl)
theorem dX7_edges_137 : decode cX7_edges 137 = .ok (.isub, 1) := dk_100 (dk_at dksX7_edges_5 19 rfl rfl)
theorem dX7_edges_138 : decode cX7_edges 138 = .ok (.if_icmp .le 20, 3) := dk_164 0 20 (dk_at dksX7_edges_5 20 rfl rfl)
theorem dX7_edges_141 : decode cX7_edges 141 = .ok (.iload 8, 2) := dk_21 8 (dk_at dksX7_edges_6 0 rfl rfl)
theorem dX7_edges_143 : decode cX7_edges 143 = .ok (.ldc 152, 2) := dk_18 152 (dk_at dksX7_edges_6 2 rfl rfl)
theorem dX7_edges_145 : decode cX7_edges 145 = .ok (.if_icmp .ge 13, 3) := dk_162 0 13 (dk_at dksX7_edges_6 4 rfl rfl)
theorem dX7_edges_148 : decode cX7_edges 148 = .ok (.new 168, 3) := dk_187 0 168 (dk_at dksX7_edges_6 7 rfl rfl)
theorem dX7_edges_151 : decode cX7_edges 151 = .ok (.dup, 1) := dk_89 (dk_at dksX7_edges_6 10 rfl rfl)
theorem dX7_edges_152 : decode cX7_edges 152 = .ok (.iload 8, 2) := dk_21 8 (dk_at dksX7_edges_6 11 rfl rfl)
theorem dX7_edges_154 : decode cX7_edges 154 = .ok (.invokespecial 170, 3) := dk_183 0 170 (dk_at dksX7_edges_6 13 rfl rfl)
theorem dX7_edges_157 : decode cX7_edges 157 = .ok (.athrow, 1) := dk_191 (dk_at dksX7_edges_6 16 rfl rfl)
theorem dX7_edges_158 : decode cX7_edges 158 = .ok (.new 173, 3) := dk_187 0 173 (dk_at dksX7_edges_6 17 rfl rfl)
theorem dX7_edges_161 : decode cX7_edges 161 = .ok (.dup, 1) := dk_89 (dk_at dksX7_edges_6 20 rfl rfl)
theorem dX7_edges_162 : decode cX7_edges 162 = .ok (.iload 6, 2) := dk_21 6 (dk_at dksX7_edges_6 21 rfl rfl)
theorem dX7_edges_164 : decode cX7_edges 164 = .ok (.iload 7, 2) := dk_21 7 (dk_at dksX7_edges_7 0 rfl rfl)
theorem dX7_edges_166 : decode cX7_edges 166 = .ok (.invokespecial 175, 3) := dk_183 0 175 (dk_at dksX7_edges_7 2 rfl rfl)
theorem dX7_edges_169 : decode cX7_edges 169 = .ok (.areturn, 1) := dk_176 (dk_at dksX7_edges_7 5 rfl rfl)
abbrev cX7_flow : ByteArray := prog_3_method_4_code
def yX7_flow : MethodName := ⟨RX7, "flow", "(LColumnarPress$Box;II)V"⟩
def dkwX7_flow_11 : List UInt8 := [21, 5, 21, 6, 96, 21, 7, 96, 21, 4, 100, 184, 0, 62, 182, 0, 123, 177]
abbrev dktX7_flow_11 : List UInt8 := dkwX7_flow_11 ++ []
def dkwX7_flow_10 : List UInt8 := [167, 0, 4, 3, 25, 9, 182, 0, 120, 184, 0, 107, 54, 7, 167, 255, 38, 42, 180, 0, 22, 43, 3]
abbrev dktX7_flow_10 : List UInt8 := dkwX7_flow_10 ++ dktX7_flow_11
def dkwX7_flow_9 : List UInt8 := [21, 6, 167, 0, 4, 3, 25, 9, 182, 0, 120, 184, 0, 62, 54, 6, 21, 11, 153, 0, 8, 21, 7]
abbrev dktX7_flow_9 : List UInt8 := dkwX7_flow_9 ++ dktX7_flow_10
def dkwX7_flow_8 : List UInt8 := [21, 5, 167, 0, 14, 21, 10, 25, 9, 180, 0, 48, 180, 0, 52, 96, 54, 5, 21, 11, 153, 0, 8]
abbrev dktX7_flow_8 : List UInt8 := dkwX7_flow_8 ++ dktX7_flow_9
def dkwX7_flow_7 : List UInt8 := [25, 9, 180, 0, 48, 180, 0, 52, 154, 0, 7, 4, 167, 0, 4, 3, 54, 11, 21, 11, 153, 0, 8]
abbrev dktX7_flow_7 : List UInt8 := dkwX7_flow_7 ++ dktX7_flow_8
def dkwX7_flow_6 : List UInt8 := [182, 0, 55, 184, 0, 62, 167, 0, 5, 21, 10, 54, 10, 42, 25, 9, 43, 28, 29, 21, 10, 182, 0, 117]
abbrev dktX7_flow_6 : List UInt8 := dkwX7_flow_6 ++ dktX7_flow_7
def dkwX7_flow_5 : List UInt8 := [96, 54, 10, 25, 9, 180, 0, 110, 154, 0, 11, 25, 9, 182, 0, 114, 153, 0, 15, 21, 10, 42]
abbrev dktX7_flow_5 : List UInt8 := dkwX7_flow_5 ++ dktX7_flow_6
def dkwX7_flow_4 : List UInt8 := [184, 0, 62, 54, 6, 21, 7, 25, 9, 182, 0, 104, 184, 0, 107, 54, 7, 21, 5, 21, 6, 96, 21, 7]
abbrev dktX7_flow_4 : List UInt8 := dkwX7_flow_4 ++ dktX7_flow_5
def dkwX7_flow_3 : List UInt8 := [21, 7, 96, 182, 0, 97, 167, 0, 171, 25, 9, 182, 0, 101, 153, 0, 163, 21, 6, 25, 9, 182, 0, 104]
abbrev dktX7_flow_3 : List UInt8 := dkwX7_flow_3 ++ dktX7_flow_4
def dkwX7_flow_2 : List UInt8 := [192, 0, 27, 58, 9, 25, 9, 182, 0, 94, 153, 0, 23, 42, 25, 9, 43, 28, 29, 21, 5, 21, 6, 96]
abbrev dktX7_flow_2 : List UInt8 := dkwX7_flow_2 ++ dktX7_flow_3
def dkwX7_flow_1 : List UInt8 := [185, 0, 71, 1, 0, 58, 8, 25, 8, 185, 0, 75, 1, 0, 153, 0, 214, 25, 8, 185, 0, 80, 1, 0]
abbrev dktX7_flow_1 : List UInt8 := dkwX7_flow_1 ++ dktX7_flow_2
def dkwX7_flow_0 : List UInt8 := [29, 43, 180, 0, 59, 96, 54, 4, 21, 4, 54, 5, 3, 54, 6, 3, 54, 7, 43, 180, 0, 91]
abbrev dktX7_flow_0 : List UInt8 := dkwX7_flow_0 ++ dktX7_flow_1
theorem dksX7_flow_0 : cX7_flow.data.toList.drop 0 = dktX7_flow_0 := by decide +kernel
theorem dksX7_flow_1 : cX7_flow.data.toList.drop 22 = dktX7_flow_1 := dk_seg dksX7_flow_0 22 rfl rfl
theorem dksX7_flow_2 : cX7_flow.data.toList.drop 46 = dktX7_flow_2 := dk_seg dksX7_flow_1 24 rfl rfl
theorem dksX7_flow_3 : cX7_flow.data.toList.drop 70 = dktX7_flow_3 := dk_seg dksX7_flow_2 24 rfl rfl
theorem dksX7_flow_4 : cX7_flow.data.toList.drop 94 = dktX7_flow_4 := dk_seg dksX7_flow_3 24 rfl rfl
theorem dksX7_flow_5 : cX7_flow.data.toList.drop 118 = dktX7_flow_5 := dk_seg dksX7_flow_4 24 rfl rfl
theorem dksX7_flow_6 : cX7_flow.data.toList.drop 140 = dktX7_flow_6 := dk_seg dksX7_flow_5 22 rfl rfl
theorem dksX7_flow_7 : cX7_flow.data.toList.drop 164 = dktX7_flow_7 := dk_seg dksX7_flow_6 24 rfl rfl
theorem dksX7_flow_8 : cX7_flow.data.toList.drop 187 = dktX7_flow_8 := dk_seg dksX7_flow_7 23 rfl rfl
theorem dksX7_flow_9 : cX7_flow.data.toList.drop 210 = dktX7_flow_9 := dk_seg dksX7_flow_8 23 rfl rfl
theorem dksX7_flow_10 : cX7_flow.data.toList.drop 233 = dktX7_flow_10 := dk_seg dksX7_flow_9 23 rfl rfl
theorem dksX7_flow_11 : cX7_flow.data.toList.drop 256 = dktX7_flow_11 := dk_seg dksX7_flow_10 23 rfl rfl
theorem dX7_flow_0 : decode cX7_flow 0 = .ok (.iload_n 3, 1) := dk_29 (dk_at dksX7_flow_0 0 rfl rfl)
theorem dX7_flow_1 : decode cX7_flow 1 = .ok (.aload_n 1, 1) := dk_43 (dk_at dksX7_flow_0 1 rfl rfl)
theorem dX7_flow_2 : decode cX7_flow 2 = .ok (.getfield 59, 3) := dk_180 0 59 (dk_at dksX7_flow_0 2 rfl rfl)
theorem dX7_flow_5 : decode cX7_flow 5 = .ok (.iadd, 1) := dk_96 (dk_at dksX7_flow_0 5 rfl rfl)
theorem dX7_flow_6 : decode cX7_flow 6 = .ok (.istore 4, 2) := dk_54 4 (dk_at dksX7_flow_0 6 rfl rfl)
theorem dX7_flow_8 : decode cX7_flow 8 = .ok (.iload 4, 2) := dk_21 4 (dk_at dksX7_flow_0 8 rfl rfl)
theorem dX7_flow_10 : decode cX7_flow 10 = .ok (.istore 5, 2) := dk_54 5 (dk_at dksX7_flow_0 10 rfl rfl)
theorem dX7_flow_12 : decode cX7_flow 12 = .ok (.iconst 0, 1) := dk_3 (dk_at dksX7_flow_0 12 rfl rfl)
theorem dX7_flow_13 : decode cX7_flow 13 = .ok (.istore 6, 2) := dk_54 6 (dk_at dksX7_flow_0 13 rfl rfl)
theorem dX7_flow_15 : decode cX7_flow 15 = .ok (.iconst 0, 1) := dk_3 (dk_at dksX7_flow_0 15 rfl rfl)
theorem dX7_flow_16 : decode cX7_flow 16 = .ok (.istore 7, 2) := dk_54 7 (dk_at dksX7_flow_0 16 rfl rfl)
theorem dX7_flow_18 : decode cX7_flow 18 = .ok (.aload_n 1, 1) := dk_43 (dk_at dksX7_flow_0 18 rfl rfl)
theorem dX7_flow_19 : decode cX7_flow 19 = .ok (.getfield 91, 3) := dk_180 0 91 (dk_at dksX7_flow_0 19 rfl rfl)
theorem dX7_flow_22 : decode cX7_flow 22 = .ok (.invokeinterface 71 1, 5) := by decide +kernel
theorem dX7_flow_27 : decode cX7_flow 27 = .ok (.astore 8, 2) := dk_58 8 (dk_at dksX7_flow_1 5 rfl rfl)
theorem dX7_flow_29 : decode cX7_flow 29 = .ok (.aload 8, 2) := dk_25 8 (dk_at dksX7_flow_1 7 rfl rfl)
theorem dX7_flow_31 : decode cX7_flow 31 = .ok (.invokeinterface 75 1, 5) := by decide +kernel
theorem dX7_flow_36 : decode cX7_flow 36 = .ok (.ifCond .eq 214, 3) := dk_153 0 214 (dk_at dksX7_flow_1 14 rfl rfl)
theorem dX7_flow_39 : decode cX7_flow 39 = .ok (.aload 8, 2) := dk_25 8 (dk_at dksX7_flow_1 17 rfl rfl)
theorem dX7_flow_41 : decode cX7_flow 41 = .ok (.invokeinterface 80 1, 5) := by decide +kernel
theorem dX7_flow_46 : decode cX7_flow 46 = .ok (.checkcast 27, 3) := dk_192 0 27 (dk_at dksX7_flow_2 0 rfl rfl)
theorem dX7_flow_49 : decode cX7_flow 49 = .ok (.astore 9, 2) := dk_58 9 (dk_at dksX7_flow_2 3 rfl rfl)
theorem dX7_flow_51 : decode cX7_flow 51 = .ok (.aload 9, 2) := dk_25 9 (dk_at dksX7_flow_2 5 rfl rfl)
theorem dX7_flow_53 : decode cX7_flow 53 = .ok (.invokevirtual 94, 3) := dk_182 0 94 (dk_at dksX7_flow_2 7 rfl rfl)
theorem dX7_flow_56 : decode cX7_flow 56 = .ok (.ifCond .eq 23, 3) := dk_153 0 23 (dk_at dksX7_flow_2 10 rfl rfl)
theorem dX7_flow_59 : decode cX7_flow 59 = .ok (.aload_n 0, 1) := dk_42 (dk_at dksX7_flow_2 13 rfl rfl)
theorem dX7_flow_60 : decode cX7_flow 60 = .ok (.aload 9, 2) := dk_25 9 (dk_at dksX7_flow_2 14 rfl rfl)
theorem dX7_flow_62 : decode cX7_flow 62 = .ok (.aload_n 1, 1) := dk_43 (dk_at dksX7_flow_2 16 rfl rfl)
theorem dX7_flow_63 : decode cX7_flow 63 = .ok (.iload_n 2, 1) := dk_28 (dk_at dksX7_flow_2 17 rfl rfl)
theorem dX7_flow_64 : decode cX7_flow 64 = .ok (.iload_n 3, 1) := dk_29 (dk_at dksX7_flow_2 18 rfl rfl)
theorem dX7_flow_65 : decode cX7_flow 65 = .ok (.iload 5, 2) := dk_21 5 (dk_at dksX7_flow_2 19 rfl rfl)
theorem dX7_flow_67 : decode cX7_flow 67 = .ok (.iload 6, 2) := dk_21 6 (dk_at dksX7_flow_2 21 rfl rfl)
theorem dX7_flow_69 : decode cX7_flow 69 = .ok (.iadd, 1) := dk_96 (dk_at dksX7_flow_2 23 rfl rfl)
theorem dX7_flow_70 : decode cX7_flow 70 = .ok (.iload 7, 2) := dk_21 7 (dk_at dksX7_flow_3 0 rfl rfl)
theorem dX7_flow_72 : decode cX7_flow 72 = .ok (.iadd, 1) := dk_96 (dk_at dksX7_flow_3 2 rfl rfl)
theorem dX7_flow_73 : decode cX7_flow 73 = .ok (.invokevirtual 97, 3) := dk_182 0 97 (dk_at dksX7_flow_3 3 rfl rfl)
theorem dX7_flow_76 : decode cX7_flow 76 = .ok (.goto 171, 3) := dk_167 0 171 (dk_at dksX7_flow_3 6 rfl rfl)
theorem dX7_flow_79 : decode cX7_flow 79 = .ok (.aload 9, 2) := dk_25 9 (dk_at dksX7_flow_3 9 rfl rfl)
theorem dX7_flow_81 : decode cX7_flow 81 = .ok (.invokevirtual 101, 3) := dk_182 0 101 (dk_at dksX7_flow_3 11 rfl rfl)
theorem dX7_flow_84 : decode cX7_flow 84 = .ok (.ifCond .eq 163, 3) := dk_153 0 163 (dk_at dksX7_flow_3 14 rfl rfl)
theorem dX7_flow_87 : decode cX7_flow 87 = .ok (.iload 6, 2) := dk_21 6 (dk_at dksX7_flow_3 17 rfl rfl)
theorem dX7_flow_89 : decode cX7_flow 89 = .ok (.aload 9, 2) := dk_25 9 (dk_at dksX7_flow_3 19 rfl rfl)
theorem dX7_flow_91 : decode cX7_flow 91 = .ok (.invokevirtual 104, 3) := dk_182 0 104 (dk_at dksX7_flow_3 21 rfl rfl)
theorem dX7_flow_94 : decode cX7_flow 94 = .ok (.invokestatic 62, 3) := dk_184 0 62 (dk_at dksX7_flow_4 0 rfl rfl)
theorem dX7_flow_97 : decode cX7_flow 97 = .ok (.istore 6, 2) := dk_54 6 (dk_at dksX7_flow_4 3 rfl rfl)
theorem dX7_flow_99 : decode cX7_flow 99 = .ok (.iload 7, 2) := dk_21 7 (dk_at dksX7_flow_4 5 rfl rfl)
theorem dX7_flow_101 : decode cX7_flow 101 = .ok (.aload 9, 2) := dk_25 9 (dk_at dksX7_flow_4 7 rfl rfl)
theorem dX7_flow_103 : decode cX7_flow 103 = .ok (.invokevirtual 104, 3) := dk_182 0 104 (dk_at dksX7_flow_4 9 rfl rfl)
theorem dX7_flow_106 : decode cX7_flow 106 = .ok (.invokestatic 107, 3) := dk_184 0 107 (dk_at dksX7_flow_4 12 rfl rfl)
theorem dX7_flow_109 : decode cX7_flow 109 = .ok (.istore 7, 2) := dk_54 7 (dk_at dksX7_flow_4 15 rfl rfl)
theorem dX7_flow_111 : decode cX7_flow 111 = .ok (.iload 5, 2) := dk_21 5 (dk_at dksX7_flow_4 17 rfl rfl)
theorem dX7_flow_113 : decode cX7_flow 113 = .ok (.iload 6, 2) := dk_21 6 (dk_at dksX7_flow_4 19 rfl rfl)
theorem dX7_flow_115 : decode cX7_flow 115 = .ok (.iadd, 1) := dk_96 (dk_at dksX7_flow_4 21 rfl rfl)
theorem dX7_flow_116 : decode cX7_flow 116 = .ok (.iload 7, 2) := dk_21 7 (dk_at dksX7_flow_4 22 rfl rfl)
theorem dX7_flow_118 : decode cX7_flow 118 = .ok (.iadd, 1) := dk_96 (dk_at dksX7_flow_5 0 rfl rfl)
theorem dX7_flow_119 : decode cX7_flow 119 = .ok (.istore 10, 2) := dk_54 10 (dk_at dksX7_flow_5 1 rfl rfl)
theorem dX7_flow_121 : decode cX7_flow 121 = .ok (.aload 9, 2) := dk_25 9 (dk_at dksX7_flow_5 3 rfl rfl)
theorem dX7_flow_123 : decode cX7_flow 123 = .ok (.getfield 110, 3) := dk_180 0 110 (dk_at dksX7_flow_5 5 rfl rfl)
theorem dX7_flow_126 : decode cX7_flow 126 = .ok (.ifCond .ne 11, 3) := dk_154 0 11 (dk_at dksX7_flow_5 8 rfl rfl)
theorem dX7_flow_129 : decode cX7_flow 129 = .ok (.aload 9, 2) := dk_25 9 (dk_at dksX7_flow_5 11 rfl rfl)
theorem dX7_flow_131 : decode cX7_flow 131 = .ok (.invokevirtual 114, 3) := dk_182 0 114 (dk_at dksX7_flow_5 13 rfl rfl)
theorem dX7_flow_134 : decode cX7_flow 134 = .ok (.ifCond .eq 15, 3) := dk_153 0 15 (dk_at dksX7_flow_5 16 rfl rfl)
theorem dX7_flow_137 : decode cX7_flow 137 = .ok (.iload 10, 2) := dk_21 10 (dk_at dksX7_flow_5 19 rfl rfl)
theorem dX7_flow_139 : decode cX7_flow 139 = .ok (.aload_n 0, 1) := dk_42 (dk_at dksX7_flow_5 21 rfl rfl)
theorem dX7_flow_140 : decode cX7_flow 140 = .ok (.invokevirtual 55, 3) := dk_182 0 55 (dk_at dksX7_flow_6 0 rfl rfl)
theorem dX7_flow_143 : decode cX7_flow 143 = .ok (.invokestatic 62, 3) := dk_184 0 62 (dk_at dksX7_flow_6 3 rfl rfl)
theorem dX7_flow_146 : decode cX7_flow 146 = .ok (.goto 5, 3) := dk_167 0 5 (dk_at dksX7_flow_6 6 rfl rfl)
theorem dX7_flow_149 : decode cX7_flow 149 = .ok (.iload 10, 2) := dk_21 10 (dk_at dksX7_flow_6 9 rfl rfl)
theorem dX7_flow_151 : decode cX7_flow 151 = .ok (.istore 10, 2) := dk_54 10 (dk_at dksX7_flow_6 11 rfl rfl)
theorem dX7_flow_153 : decode cX7_flow 153 = .ok (.aload_n 0, 1) := dk_42 (dk_at dksX7_flow_6 13 rfl rfl)
theorem dX7_flow_154 : decode cX7_flow 154 = .ok (.aload 9, 2) := dk_25 9 (dk_at dksX7_flow_6 14 rfl rfl)
theorem dX7_flow_156 : decode cX7_flow 156 = .ok (.aload_n 1, 1) := dk_43 (dk_at dksX7_flow_6 16 rfl rfl)
theorem dX7_flow_157 : decode cX7_flow 157 = .ok (.iload_n 2, 1) := dk_28 (dk_at dksX7_flow_6 17 rfl rfl)
theorem dX7_flow_158 : decode cX7_flow 158 = .ok (.iload_n 3, 1) := dk_29 (dk_at dksX7_flow_6 18 rfl rfl)
theorem dX7_flow_159 : decode cX7_flow 159 = .ok (.iload 10, 2) := dk_21 10 (dk_at dksX7_flow_6 19 rfl rfl)
theorem dX7_flow_161 : decode cX7_flow 161 = .ok (.invokevirtual 117, 3) := dk_182 0 117 (dk_at dksX7_flow_6 21 rfl rfl)
theorem dX7_flow_164 : decode cX7_flow 164 = .ok (.aload 9, 2) := dk_25 9 (dk_at dksX7_flow_7 0 rfl rfl)
theorem dX7_flow_166 : decode cX7_flow 166 = .ok (.getfield 48, 3) := dk_180 0 48 (dk_at dksX7_flow_7 2 rfl rfl)
theorem dX7_flow_169 : decode cX7_flow 169 = .ok (.getfield 52, 3) := dk_180 0 52 (dk_at dksX7_flow_7 5 rfl rfl)
theorem dX7_flow_172 : decode cX7_flow 172 = .ok (.ifCond .ne 7, 3) := dk_154 0 7 (dk_at dksX7_flow_7 8 rfl rfl)
theorem dX7_flow_175 : decode cX7_flow 175 = .ok (.iconst 1, 1) := dk_4 (dk_at dksX7_flow_7 11 rfl rfl)
theorem dX7_flow_176 : decode cX7_flow 176 = .ok (.goto 4, 3) := dk_167 0 4 (dk_at dksX7_flow_7 12 rfl rfl)
theorem dX7_flow_179 : decode cX7_flow 179 = .ok (.iconst 0, 1) := dk_3 (dk_at dksX7_flow_7 15 rfl rfl)
theorem dX7_flow_180 : decode cX7_flow 180 = .ok (.istore 11, 2) := dk_54 11 (dk_at dksX7_flow_7 16 rfl rfl)
theorem dX7_flow_182 : decode cX7_flow 182 = .ok (.iload 11, 2) := dk_21 11 (dk_at dksX7_flow_7 18 rfl rfl)
theorem dX7_flow_184 : decode cX7_flow 184 = .ok (.ifCond .eq 8, 3) := dk_153 0 8 (dk_at dksX7_flow_7 20 rfl rfl)
theorem dX7_flow_187 : decode cX7_flow 187 = .ok (.iload 5, 2) := dk_21 5 (dk_at dksX7_flow_8 0 rfl rfl)
theorem dX7_flow_189 : decode cX7_flow 189 = .ok (.goto 14, 3) := dk_167 0 14 (dk_at dksX7_flow_8 2 rfl rfl)
theorem dX7_flow_192 : decode cX7_flow 192 = .ok (.iload 10, 2) := dk_21 10 (dk_at dksX7_flow_8 5 rfl rfl)
theorem dX7_flow_194 : decode cX7_flow 194 = .ok (.aload 9, 2) := dk_25 9 (dk_at dksX7_flow_8 7 rfl rfl)
theorem dX7_flow_196 : decode cX7_flow 196 = .ok (.getfield 48, 3) := dk_180 0 48 (dk_at dksX7_flow_8 9 rfl rfl)
theorem dX7_flow_199 : decode cX7_flow 199 = .ok (.getfield 52, 3) := dk_180 0 52 (dk_at dksX7_flow_8 12 rfl rfl)
theorem dX7_flow_202 : decode cX7_flow 202 = .ok (.iadd, 1) := dk_96 (dk_at dksX7_flow_8 15 rfl rfl)
theorem dX7_flow_203 : decode cX7_flow 203 = .ok (.istore 5, 2) := dk_54 5 (dk_at dksX7_flow_8 16 rfl rfl)
theorem dX7_flow_205 : decode cX7_flow 205 = .ok (.iload 11, 2) := dk_21 11 (dk_at dksX7_flow_8 18 rfl rfl)
theorem dX7_flow_207 : decode cX7_flow 207 = .ok (.ifCond .eq 8, 3) := dk_153 0 8 (dk_at dksX7_flow_8 20 rfl rfl)
theorem dX7_flow_210 : decode cX7_flow 210 = .ok (.iload 6, 2) := dk_21 6 (dk_at dksX7_flow_9 0 rfl rfl)
theorem dX7_flow_212 : decode cX7_flow 212 = .ok (.goto 4, 3) := dk_167 0 4 (dk_at dksX7_flow_9 2 rfl rfl)
theorem dX7_flow_215 : decode cX7_flow 215 = .ok (.iconst 0, 1) := dk_3 (dk_at dksX7_flow_9 5 rfl rfl)
theorem dX7_flow_216 : decode cX7_flow 216 = .ok (.aload 9, 2) := dk_25 9 (dk_at dksX7_flow_9 6 rfl rfl)
theorem dX7_flow_218 : decode cX7_flow 218 = .ok (.invokevirtual 120, 3) := dk_182 0 120 (dk_at dksX7_flow_9 8 rfl rfl)
theorem dX7_flow_221 : decode cX7_flow 221 = .ok (.invokestatic 62, 3) := dk_184 0 62 (dk_at dksX7_flow_9 11 rfl rfl)
theorem dX7_flow_224 : decode cX7_flow 224 = .ok (.istore 6, 2) := dk_54 6 (dk_at dksX7_flow_9 14 rfl rfl)
theorem dX7_flow_226 : decode cX7_flow 226 = .ok (.iload 11, 2) := dk_21 11 (dk_at dksX7_flow_9 16 rfl rfl)
theorem dX7_flow_228 : decode cX7_flow 228 = .ok (.ifCond .eq 8, 3) := dk_153 0 8 (dk_at dksX7_flow_9 18 rfl rfl)
theorem dX7_flow_231 : decode cX7_flow 231 = .ok (.iload 7, 2) := dk_21 7 (dk_at dksX7_flow_9 21 rfl rfl)
theorem dX7_flow_233 : decode cX7_flow 233 = .ok (.goto 4, 3) := dk_167 0 4 (dk_at dksX7_flow_10 0 rfl rfl)
theorem dX7_flow_236 : decode cX7_flow 236 = .ok (.iconst 0, 1) := dk_3 (dk_at dksX7_flow_10 3 rfl rfl)
theorem dX7_flow_237 : decode cX7_flow 237 = .ok (.aload 9, 2) := dk_25 9 (dk_at dksX7_flow_10 4 rfl rfl)
theorem dX7_flow_239 : decode cX7_flow 239 = .ok (.invokevirtual 120, 3) := dk_182 0 120 (dk_at dksX7_flow_10 6 rfl rfl)
theorem dX7_flow_242 : decode cX7_flow 242 = .ok (.invokestatic 107, 3) := dk_184 0 107 (dk_at dksX7_flow_10 9 rfl rfl)
theorem dX7_flow_245 : decode cX7_flow 245 = .ok (.istore 7, 2) := dk_54 7 (dk_at dksX7_flow_10 12 rfl rfl)
theorem dX7_flow_247 : decode cX7_flow 247 = .ok (.goto (-218), 3) := dk_167 255 38 (dk_at dksX7_flow_10 14 rfl rfl)
theorem dX7_flow_250 : decode cX7_flow 250 = .ok (.aload_n 0, 1) := dk_42 (dk_at dksX7_flow_10 17 rfl rfl)
theorem dX7_flow_251 : decode cX7_flow 251 = .ok (.getfield 22, 3) := dk_180 0 22 (dk_at dksX7_flow_10 18 rfl rfl)
theorem dX7_flow_254 : decode cX7_flow 254 = .ok (.aload_n 1, 1) := dk_43 (dk_at dksX7_flow_10 21 rfl rfl)
theorem dX7_flow_255 : decode cX7_flow 255 = .ok (.iconst 0, 1) := dk_3 (dk_at dksX7_flow_10 22 rfl rfl)
theorem dX7_flow_256 : decode cX7_flow 256 = .ok (.iload 5, 2) := dk_21 5 (dk_at dksX7_flow_11 0 rfl rfl)
theorem dX7_flow_258 : decode cX7_flow 258 = .ok (.iload 6, 2) := dk_21 6 (dk_at dksX7_flow_11 2 rfl rfl)
theorem dX7_flow_260 : decode cX7_flow 260 = .ok (.iadd, 1) := dk_96 (dk_at dksX7_flow_11 4 rfl rfl)
theorem dX7_flow_261 : decode cX7_flow 261 = .ok (.iload 7, 2) := dk_21 7 (dk_at dksX7_flow_11 5 rfl rfl)
theorem dX7_flow_263 : decode cX7_flow 263 = .ok (.iadd, 1) := dk_96 (dk_at dksX7_flow_11 7 rfl rfl)
theorem dX7_flow_264 : decode cX7_flow 264 = .ok (.iload 4, 2) := dk_21 4 (dk_at dksX7_flow_11 8 rfl rfl)
theorem dX7_flow_266 : decode cX7_flow 266 = .ok (.isub, 1) := dk_100 (dk_at dksX7_flow_11 10 rfl rfl)
theorem dX7_flow_267 : decode cX7_flow 267 = .ok (.invokestatic 62, 3) := dk_184 0 62 (dk_at dksX7_flow_11 11 rfl rfl)
theorem dX7_flow_270 : decode cX7_flow 270 = .ok (.invokevirtual 123, 3) := dk_182 0 123 (dk_at dksX7_flow_11 14 rfl rfl)
theorem dX7_flow_273 : decode cX7_flow 273 = .ok (.return_, 1) := dk_177 (dk_at dksX7_flow_11 17 rfl rfl)
abbrev cX7_layFloat : ByteArray := prog_3_method_7_code
def yX7_layFloat : MethodName := ⟨RX7, "layFloat", "(LColumnarPress$Box;LColumnarPress$Box;III)V"⟩
def dkwX7_layFloat_9 : List UInt8 := [185, 0, 209, 2, 0, 87, 42, 180, 0, 22, 43, 21, 11, 29, 100, 21, 9, 21, 4, 100, 182, 0, 213, 177]
abbrev dktX7_layFloat_9 : List UInt8 := dkwX7_layFloat_9 ++ []
def dkwX7_layFloat_8 : List UInt8 := [180, 0, 18, 187, 0, 84, 89, 21, 11, 21, 9, 21, 6, 21, 7, 43, 180, 0, 198, 183, 0, 206]
abbrev dktX7_layFloat_8 : List UInt8 := dkwX7_layFloat_8 ++ dktX7_layFloat_9
def dkwX7_layFloat_7 : List UInt8 := [160, 0, 11, 25, 10, 182, 0, 201, 167, 0, 11, 25, 10, 182, 0, 203, 21, 6, 100, 54, 11, 42]
abbrev dktX7_layFloat_7 : List UInt8 := dkwX7_layFloat_7 ++ dktX7_layFloat_8
def dkwX7_layFloat_6 : List UInt8 := [58, 10, 167, 255, 226, 58, 11, 25, 11, 180, 0, 196, 54, 9, 167, 255, 214, 43, 180, 0, 198, 16, 108]
abbrev dktX7_layFloat_6 : List UInt8 := dkwX7_layFloat_6 ++ dktX7_layFloat_7
def dkwX7_layFloat_5 : List UInt8 := [42, 21, 9, 4, 21, 7, 184, 0, 62, 21, 8, 21, 8, 44, 182, 0, 132, 96, 21, 6, 182, 0, 192]
abbrev dktX7_layFloat_5 : List UInt8 := dkwX7_layFloat_5 ++ dktX7_layFloat_6
def dkwX7_layFloat_4 : List UInt8 := [185, 0, 188, 2, 0, 192, 0, 84, 182, 0, 86, 184, 0, 62, 54, 9, 1, 58, 10, 25, 10, 199, 0, 43]
abbrev dktX7_layFloat_4 : List UInt8 := dkwX7_layFloat_4 ++ dktX7_layFloat_5
def dkwX7_layFloat_3 : List UInt8 := [21, 5, 167, 0, 34, 21, 5, 42, 180, 0, 18, 42, 180, 0, 18, 185, 0, 185, 1, 0, 4, 100]
abbrev dktX7_layFloat_3 : List UInt8 := dkwX7_layFloat_3 ++ dktX7_layFloat_4
def dkwX7_layFloat_2 : List UInt8 := [96, 54, 7, 29, 44, 180, 0, 59, 96, 54, 8, 42, 180, 0, 18, 185, 0, 43, 1, 0, 153, 0, 8]
abbrev dktX7_layFloat_2 : List UInt8 := dkwX7_layFloat_2 ++ dktX7_layFloat_3
def dkwX7_layFloat_1 : List UInt8 := [180, 0, 48, 180, 0, 149, 43, 182, 0, 135, 96, 54, 6, 43, 180, 0, 48, 180, 0, 52, 43, 182, 0, 182]
abbrev dktX7_layFloat_1 : List UInt8 := dkwX7_layFloat_1 ++ dktX7_layFloat_2
def dkwX7_layFloat_0 : List UInt8 := [42, 180, 0, 22, 43, 43, 44, 182, 0, 132, 43, 182, 0, 135, 100, 184, 0, 178, 182, 0, 146, 43]
abbrev dktX7_layFloat_0 : List UInt8 := dkwX7_layFloat_0 ++ dktX7_layFloat_1
theorem dksX7_layFloat_0 : cX7_layFloat.data.toList.drop 0 = dktX7_layFloat_0 := by decide +kernel
theorem dksX7_layFloat_1 : cX7_layFloat.data.toList.drop 22 = dktX7_layFloat_1 := dk_seg dksX7_layFloat_0 22 rfl rfl
theorem dksX7_layFloat_2 : cX7_layFloat.data.toList.drop 46 = dktX7_layFloat_2 := dk_seg dksX7_layFloat_1 24 rfl rfl
theorem dksX7_layFloat_3 : cX7_layFloat.data.toList.drop 69 = dktX7_layFloat_3 := dk_seg dksX7_layFloat_2 23 rfl rfl
theorem dksX7_layFloat_4 : cX7_layFloat.data.toList.drop 91 = dktX7_layFloat_4 := dk_seg dksX7_layFloat_3 22 rfl rfl
theorem dksX7_layFloat_5 : cX7_layFloat.data.toList.drop 115 = dktX7_layFloat_5 := dk_seg dksX7_layFloat_4 24 rfl rfl
theorem dksX7_layFloat_6 : cX7_layFloat.data.toList.drop 138 = dktX7_layFloat_6 := dk_seg dksX7_layFloat_5 23 rfl rfl
theorem dksX7_layFloat_7 : cX7_layFloat.data.toList.drop 161 = dktX7_layFloat_7 := dk_seg dksX7_layFloat_6 23 rfl rfl
theorem dksX7_layFloat_8 : cX7_layFloat.data.toList.drop 183 = dktX7_layFloat_8 := dk_seg dksX7_layFloat_7 22 rfl rfl
theorem dksX7_layFloat_9 : cX7_layFloat.data.toList.drop 205 = dktX7_layFloat_9 := dk_seg dksX7_layFloat_8 22 rfl rfl
theorem dX7_layFloat_0 : decode cX7_layFloat 0 = .ok (.aload_n 0, 1) := dk_42 (dk_at dksX7_layFloat_0 0 rfl rfl)
theorem dX7_layFloat_1 : decode cX7_layFloat 1 = .ok (.getfield 22, 3) := dk_180 0 22 (dk_at dksX7_layFloat_0 1 rfl rfl)
theorem dX7_layFloat_4 : decode cX7_layFloat 4 = .ok (.aload_n 1, 1) := dk_43 (dk_at dksX7_layFloat_0 4 rfl rfl)
theorem dX7_layFloat_5 : decode cX7_layFloat 5 = .ok (.aload_n 1, 1) := dk_43 (dk_at dksX7_layFloat_0 5 rfl rfl)
theorem dX7_layFloat_6 : decode cX7_layFloat 6 = .ok (.aload_n 2, 1) := dk_44 (dk_at dksX7_layFloat_0 6 rfl rfl)
theorem dX7_layFloat_7 : decode cX7_layFloat 7 = .ok (.invokevirtual 132, 3) := dk_182 0 132 (dk_at dksX7_layFloat_0 7 rfl rfl)
theorem dX7_layFloat_10 : decode cX7_layFloat 10 = .ok (.aload_n 1, 1) := dk_43 (dk_at dksX7_layFloat_0 10 rfl rfl)
theorem dX7_layFloat_11 : decode cX7_layFloat 11 = .ok (.invokevirtual 135, 3) := dk_182 0 135 (dk_at dksX7_layFloat_0 11 rfl rfl)
theorem dX7_layFloat_14 : decode cX7_layFloat 14 = .ok (.isub, 1) := dk_100 (dk_at dksX7_layFloat_0 14 rfl rfl)
theorem dX7_layFloat_15 : decode cX7_layFloat 15 = .ok (.invokestatic 178, 3) := dk_184 0 178 (dk_at dksX7_layFloat_0 15 rfl rfl)
theorem dX7_layFloat_18 : decode cX7_layFloat 18 = .ok (.invokevirtual 146, 3) := dk_182 0 146 (dk_at dksX7_layFloat_0 18 rfl rfl)
theorem dX7_layFloat_21 : decode cX7_layFloat 21 = .ok (.aload_n 1, 1) := dk_43 (dk_at dksX7_layFloat_0 21 rfl rfl)
theorem dX7_layFloat_22 : decode cX7_layFloat 22 = .ok (.getfield 48, 3) := dk_180 0 48 (dk_at dksX7_layFloat_1 0 rfl rfl)
theorem dX7_layFloat_25 : decode cX7_layFloat 25 = .ok (.getfield 149, 3) := dk_180 0 149 (dk_at dksX7_layFloat_1 3 rfl rfl)
theorem dX7_layFloat_28 : decode cX7_layFloat 28 = .ok (.aload_n 1, 1) := dk_43 (dk_at dksX7_layFloat_1 6 rfl rfl)
theorem dX7_layFloat_29 : decode cX7_layFloat 29 = .ok (.invokevirtual 135, 3) := dk_182 0 135 (dk_at dksX7_layFloat_1 7 rfl rfl)
theorem dX7_layFloat_32 : decode cX7_layFloat 32 = .ok (.iadd, 1) := dk_96 (dk_at dksX7_layFloat_1 10 rfl rfl)
theorem dX7_layFloat_33 : decode cX7_layFloat 33 = .ok (.istore 6, 2) := dk_54 6 (dk_at dksX7_layFloat_1 11 rfl rfl)
theorem dX7_layFloat_35 : decode cX7_layFloat 35 = .ok (.aload_n 1, 1) := dk_43 (dk_at dksX7_layFloat_1 13 rfl rfl)
theorem dX7_layFloat_36 : decode cX7_layFloat 36 = .ok (.getfield 48, 3) := dk_180 0 48 (dk_at dksX7_layFloat_1 14 rfl rfl)
theorem dX7_layFloat_39 : decode cX7_layFloat 39 = .ok (.getfield 52, 3) := dk_180 0 52 (dk_at dksX7_layFloat_1 17 rfl rfl)
theorem dX7_layFloat_42 : decode cX7_layFloat 42 = .ok (.aload_n 1, 1) := dk_43 (dk_at dksX7_layFloat_1 20 rfl rfl)
theorem dX7_layFloat_43 : decode cX7_layFloat 43 = .ok (.invokevirtual 182, 3) := dk_182 0 182 (dk_at dksX7_layFloat_1 21 rfl rfl)
theorem dX7_layFloat_46 : decode cX7_layFloat 46 = .ok (.iadd, 1) := dk_96 (dk_at dksX7_layFloat_2 0 rfl rfl)
theorem dX7_layFloat_47 : decode cX7_layFloat 47 = .ok (.istore 7, 2) := dk_54 7 (dk_at dksX7_layFloat_2 1 rfl rfl)
theorem dX7_layFloat_49 : decode cX7_layFloat 49 = .ok (.iload_n 3, 1) := dk_29 (dk_at dksX7_layFloat_2 3 rfl rfl)
theorem dX7_layFloat_50 : decode cX7_layFloat 50 = .ok (.aload_n 2, 1) := dk_44 (dk_at dksX7_layFloat_2 4 rfl rfl)
theorem dX7_layFloat_51 : decode cX7_layFloat 51 = .ok (.getfield 59, 3) := dk_180 0 59 (dk_at dksX7_layFloat_2 5 rfl rfl)
theorem dX7_layFloat_54 : decode cX7_layFloat 54 = .ok (.iadd, 1) := dk_96 (dk_at dksX7_layFloat_2 8 rfl rfl)
theorem dX7_layFloat_55 : decode cX7_layFloat 55 = .ok (.istore 8, 2) := dk_54 8 (dk_at dksX7_layFloat_2 9 rfl rfl)
theorem dX7_layFloat_57 : decode cX7_layFloat 57 = .ok (.aload_n 0, 1) := dk_42 (dk_at dksX7_layFloat_2 11 rfl rfl)
theorem dX7_layFloat_58 : decode cX7_layFloat 58 = .ok (.getfield 18, 3) := dk_180 0 18 (dk_at dksX7_layFloat_2 12 rfl rfl)
theorem dX7_layFloat_61 : decode cX7_layFloat 61 = .ok (.invokeinterface 43 1, 5) := by decide +kernel
theorem dX7_layFloat_66 : decode cX7_layFloat 66 = .ok (.ifCond .eq 8, 3) := dk_153 0 8 (dk_at dksX7_layFloat_2 20 rfl rfl)
theorem dX7_layFloat_69 : decode cX7_layFloat 69 = .ok (.iload 5, 2) := dk_21 5 (dk_at dksX7_layFloat_3 0 rfl rfl)
theorem dX7_layFloat_71 : decode cX7_layFloat 71 = .ok (.goto 34, 3) := dk_167 0 34 (dk_at dksX7_layFloat_3 2 rfl rfl)
theorem dX7_layFloat_74 : decode cX7_layFloat 74 = .ok (.iload 5, 2) := dk_21 5 (dk_at dksX7_layFloat_3 5 rfl rfl)
theorem dX7_layFloat_76 : decode cX7_layFloat 76 = .ok (.aload_n 0, 1) := dk_42 (dk_at dksX7_layFloat_3 7 rfl rfl)
theorem dX7_layFloat_77 : decode cX7_layFloat 77 = .ok (.getfield 18, 3) := dk_180 0 18 (dk_at dksX7_layFloat_3 8 rfl rfl)
theorem dX7_layFloat_80 : decode cX7_layFloat 80 = .ok (.aload_n 0, 1) := dk_42 (dk_at dksX7_layFloat_3 11 rfl rfl)
theorem dX7_layFloat_81 : decode cX7_layFloat 81 = .ok (.getfield 18, 3) := dk_180 0 18 (dk_at dksX7_layFloat_3 12 rfl rfl)
theorem dX7_layFloat_84 : decode cX7_layFloat 84 = .ok (.invokeinterface 185 1, 5) := by decide +kernel
theorem dX7_layFloat_89 : decode cX7_layFloat 89 = .ok (.iconst 1, 1) := dk_4 (dk_at dksX7_layFloat_3 20 rfl rfl)
theorem dX7_layFloat_90 : decode cX7_layFloat 90 = .ok (.isub, 1) := dk_100 (dk_at dksX7_layFloat_3 21 rfl rfl)
theorem dX7_layFloat_91 : decode cX7_layFloat 91 = .ok (.invokeinterface 188 2, 5) := by decide +kernel
theorem dX7_layFloat_96 : decode cX7_layFloat 96 = .ok (.checkcast 84, 3) := dk_192 0 84 (dk_at dksX7_layFloat_4 5 rfl rfl)
theorem dX7_layFloat_99 : decode cX7_layFloat 99 = .ok (.invokevirtual 86, 3) := dk_182 0 86 (dk_at dksX7_layFloat_4 8 rfl rfl)
theorem dX7_layFloat_102 : decode cX7_layFloat 102 = .ok (.invokestatic 62, 3) := dk_184 0 62 (dk_at dksX7_layFloat_4 11 rfl rfl)
theorem dX7_layFloat_105 : decode cX7_layFloat 105 = .ok (.istore 9, 2) := dk_54 9 (dk_at dksX7_layFloat_4 14 rfl rfl)
theorem dX7_layFloat_107 : decode cX7_layFloat 107 = .ok (.aconst_null, 1) := dk_1 (dk_at dksX7_layFloat_4 16 rfl rfl)
theorem dX7_layFloat_108 : decode cX7_layFloat 108 = .ok (.astore 10, 2) := dk_58 10 (dk_at dksX7_layFloat_4 17 rfl rfl)
theorem dX7_layFloat_110 : decode cX7_layFloat 110 = .ok (.aload 10, 2) := dk_25 10 (dk_at dksX7_layFloat_4 19 rfl rfl)
theorem dX7_layFloat_112 : decode cX7_layFloat 112 = .ok (.ifnonnull 43, 3) := dk_199 0 43 (dk_at dksX7_layFloat_4 21 rfl rfl)
theorem dX7_layFloat_115 : decode cX7_layFloat 115 = .ok (.aload_n 0, 1) := dk_42 (dk_at dksX7_layFloat_5 0 rfl rfl)
theorem dX7_layFloat_116 : decode cX7_layFloat 116 = .ok (.iload 9, 2) := dk_21 9 (dk_at dksX7_layFloat_5 1 rfl rfl)
theorem dX7_layFloat_118 : decode cX7_layFloat 118 = .ok (.iconst 1, 1) := dk_4 (dk_at dksX7_layFloat_5 3 rfl rfl)
theorem dX7_layFloat_119 : decode cX7_layFloat 119 = .ok (.iload 7, 2) := dk_21 7 (dk_at dksX7_layFloat_5 4 rfl rfl)
theorem dX7_layFloat_121 : decode cX7_layFloat 121 = .ok (.invokestatic 62, 3) := dk_184 0 62 (dk_at dksX7_layFloat_5 6 rfl rfl)
theorem dX7_layFloat_124 : decode cX7_layFloat 124 = .ok (.iload 8, 2) := dk_21 8 (dk_at dksX7_layFloat_5 9 rfl rfl)
theorem dX7_layFloat_126 : decode cX7_layFloat 126 = .ok (.iload 8, 2) := dk_21 8 (dk_at dksX7_layFloat_5 11 rfl rfl)
theorem dX7_layFloat_128 : decode cX7_layFloat 128 = .ok (.aload_n 2, 1) := dk_44 (dk_at dksX7_layFloat_5 13 rfl rfl)
theorem dX7_layFloat_129 : decode cX7_layFloat 129 = .ok (.invokevirtual 132, 3) := dk_182 0 132 (dk_at dksX7_layFloat_5 14 rfl rfl)
theorem dX7_layFloat_132 : decode cX7_layFloat 132 = .ok (.iadd, 1) := dk_96 (dk_at dksX7_layFloat_5 17 rfl rfl)
theorem dX7_layFloat_133 : decode cX7_layFloat 133 = .ok (.iload 6, 2) := dk_21 6 (dk_at dksX7_layFloat_5 18 rfl rfl)
theorem dX7_layFloat_135 : decode cX7_layFloat 135 = .ok (.invokevirtual 192, 3) := dk_182 0 192 (dk_at dksX7_layFloat_5 20 rfl rfl)
theorem dX7_layFloat_138 : decode cX7_layFloat 138 = .ok (.astore 10, 2) := dk_58 10 (dk_at dksX7_layFloat_6 0 rfl rfl)
theorem dX7_layFloat_140 : decode cX7_layFloat 140 = .ok (.goto (-30), 3) := dk_167 255 226 (dk_at dksX7_layFloat_6 2 rfl rfl)
theorem dX7_layFloat_143 : decode cX7_layFloat 143 = .ok (.astore 11, 2) := dk_58 11 (dk_at dksX7_layFloat_6 5 rfl rfl)
theorem dX7_layFloat_145 : decode cX7_layFloat 145 = .ok (.aload 11, 2) := dk_25 11 (dk_at dksX7_layFloat_6 7 rfl rfl)
theorem dX7_layFloat_147 : decode cX7_layFloat 147 = .ok (.getfield 196, 3) := dk_180 0 196 (dk_at dksX7_layFloat_6 9 rfl rfl)
theorem dX7_layFloat_150 : decode cX7_layFloat 150 = .ok (.istore 9, 2) := dk_54 9 (dk_at dksX7_layFloat_6 12 rfl rfl)
theorem dX7_layFloat_152 : decode cX7_layFloat 152 = .ok (.goto (-42), 3) := dk_167 255 214 (dk_at dksX7_layFloat_6 14 rfl rfl)
theorem dX7_layFloat_155 : decode cX7_layFloat 155 = .ok (.aload_n 1, 1) := dk_43 (dk_at dksX7_layFloat_6 17 rfl rfl)
theorem dX7_layFloat_156 : decode cX7_layFloat 156 = .ok (.getfield 198, 3) := dk_180 0 198 (dk_at dksX7_layFloat_6 18 rfl rfl)
theorem dX7_layFloat_159 : decode cX7_layFloat 159 = .ok (.bipush 108, 2) := dk_16 108 (dk_at dksX7_layFloat_6 21 rfl rfl)
theorem dX7_layFloat_161 : decode cX7_layFloat 161 = .ok (.if_icmp .ne 11, 3) := dk_160 0 11 (dk_at dksX7_layFloat_7 0 rfl rfl)
theorem dX7_layFloat_164 : decode cX7_layFloat 164 = .ok (.aload 10, 2) := dk_25 10 (dk_at dksX7_layFloat_7 3 rfl rfl)
theorem dX7_layFloat_166 : decode cX7_layFloat 166 = .ok (.invokevirtual 201, 3) := dk_182 0 201 (dk_at dksX7_layFloat_7 5 rfl rfl)
theorem dX7_layFloat_169 : decode cX7_layFloat 169 = .ok (.goto 11, 3) := dk_167 0 11 (dk_at dksX7_layFloat_7 8 rfl rfl)
theorem dX7_layFloat_172 : decode cX7_layFloat 172 = .ok (.aload 10, 2) := dk_25 10 (dk_at dksX7_layFloat_7 11 rfl rfl)
theorem dX7_layFloat_174 : decode cX7_layFloat 174 = .ok (.invokevirtual 203, 3) := dk_182 0 203 (dk_at dksX7_layFloat_7 13 rfl rfl)
theorem dX7_layFloat_177 : decode cX7_layFloat 177 = .ok (.iload 6, 2) := dk_21 6 (dk_at dksX7_layFloat_7 16 rfl rfl)
theorem dX7_layFloat_179 : decode cX7_layFloat 179 = .ok (.isub, 1) := dk_100 (dk_at dksX7_layFloat_7 18 rfl rfl)
theorem dX7_layFloat_180 : decode cX7_layFloat 180 = .ok (.istore 11, 2) := dk_54 11 (dk_at dksX7_layFloat_7 19 rfl rfl)
theorem dX7_layFloat_182 : decode cX7_layFloat 182 = .ok (.aload_n 0, 1) := dk_42 (dk_at dksX7_layFloat_7 21 rfl rfl)
theorem dX7_layFloat_183 : decode cX7_layFloat 183 = .ok (.getfield 18, 3) := dk_180 0 18 (dk_at dksX7_layFloat_8 0 rfl rfl)
theorem dX7_layFloat_186 : decode cX7_layFloat 186 = .ok (.new 84, 3) := dk_187 0 84 (dk_at dksX7_layFloat_8 3 rfl rfl)
theorem dX7_layFloat_189 : decode cX7_layFloat 189 = .ok (.dup, 1) := dk_89 (dk_at dksX7_layFloat_8 6 rfl rfl)
theorem dX7_layFloat_190 : decode cX7_layFloat 190 = .ok (.iload 11, 2) := dk_21 11 (dk_at dksX7_layFloat_8 7 rfl rfl)
theorem dX7_layFloat_192 : decode cX7_layFloat 192 = .ok (.iload 9, 2) := dk_21 9 (dk_at dksX7_layFloat_8 9 rfl rfl)
theorem dX7_layFloat_194 : decode cX7_layFloat 194 = .ok (.iload 6, 2) := dk_21 6 (dk_at dksX7_layFloat_8 11 rfl rfl)
theorem dX7_layFloat_196 : decode cX7_layFloat 196 = .ok (.iload 7, 2) := dk_21 7 (dk_at dksX7_layFloat_8 13 rfl rfl)
theorem dX7_layFloat_198 : decode cX7_layFloat 198 = .ok (.aload_n 1, 1) := dk_43 (dk_at dksX7_layFloat_8 15 rfl rfl)
theorem dX7_layFloat_199 : decode cX7_layFloat 199 = .ok (.getfield 198, 3) := dk_180 0 198 (dk_at dksX7_layFloat_8 16 rfl rfl)
theorem dX7_layFloat_202 : decode cX7_layFloat 202 = .ok (.invokespecial 206, 3) := dk_183 0 206 (dk_at dksX7_layFloat_8 19 rfl rfl)
theorem dX7_layFloat_205 : decode cX7_layFloat 205 = .ok (.invokeinterface 209 2, 5) := by decide +kernel
theorem dX7_layFloat_210 : decode cX7_layFloat 210 = .ok (.pop, 1) := dk_87 (dk_at dksX7_layFloat_9 5 rfl rfl)
theorem dX7_layFloat_211 : decode cX7_layFloat 211 = .ok (.aload_n 0, 1) := dk_42 (dk_at dksX7_layFloat_9 6 rfl rfl)
theorem dX7_layFloat_212 : decode cX7_layFloat 212 = .ok (.getfield 22, 3) := dk_180 0 22 (dk_at dksX7_layFloat_9 7 rfl rfl)
theorem dX7_layFloat_215 : decode cX7_layFloat 215 = .ok (.aload_n 1, 1) := dk_43 (dk_at dksX7_layFloat_9 10 rfl rfl)
theorem dX7_layFloat_216 : decode cX7_layFloat 216 = .ok (.iload 11, 2) := dk_21 11 (dk_at dksX7_layFloat_9 11 rfl rfl)
theorem dX7_layFloat_218 : decode cX7_layFloat 218 = .ok (.iload_n 3, 1) := dk_29 (dk_at dksX7_layFloat_9 13 rfl rfl)
theorem dX7_layFloat_219 : decode cX7_layFloat 219 = .ok (.isub, 1) := dk_100 (dk_at dksX7_layFloat_9 14 rfl rfl)
theorem dX7_layFloat_220 : decode cX7_layFloat 220 = .ok (.iload 9, 2) := dk_21 9 (dk_at dksX7_layFloat_9 15 rfl rfl)
theorem dX7_layFloat_222 : decode cX7_layFloat 222 = .ok (.iload 4, 2) := dk_21 4 (dk_at dksX7_layFloat_9 17 rfl rfl)
theorem dX7_layFloat_224 : decode cX7_layFloat 224 = .ok (.isub, 1) := dk_100 (dk_at dksX7_layFloat_9 19 rfl rfl)
theorem dX7_layFloat_225 : decode cX7_layFloat 225 = .ok (.invokevirtual 213, 3) := dk_182 0 213 (dk_at dksX7_layFloat_9 20 rfl rfl)
theorem dX7_layFloat_228 : decode cX7_layFloat 228 = .ok (.return_, 1) := dk_177 (dk_at dksX7_layFloat_9 23 rfl rfl)
abbrev cX7_lowest : ByteArray := prog_3_method_3_code
def yX7_lowest : MethodName := ⟨RX7, "lowest", "()I"⟩
def dkwX7_lowest_2 : List UInt8 := [167, 255, 223, 27, 172]
abbrev dktX7_lowest_2 : List UInt8 := dkwX7_lowest_2 ++ []
def dkwX7_lowest_1 : List UInt8 := [185, 0, 80, 1, 0, 192, 0, 84, 78, 27, 45, 182, 0, 86, 45, 182, 0, 89, 96, 184, 0, 62, 60]
abbrev dktX7_lowest_1 : List UInt8 := dkwX7_lowest_1 ++ dktX7_lowest_2
def dkwX7_lowest_0 : List UInt8 := [18, 70, 60, 42, 180, 0, 18, 185, 0, 71, 1, 0, 77, 44, 185, 0, 75, 1, 0, 153, 0, 30, 44]
abbrev dktX7_lowest_0 : List UInt8 := dkwX7_lowest_0 ++ dktX7_lowest_1
theorem dksX7_lowest_0 : cX7_lowest.data.toList.drop 0 = dktX7_lowest_0 := by decide +kernel
theorem dksX7_lowest_1 : cX7_lowest.data.toList.drop 23 = dktX7_lowest_1 := dk_seg dksX7_lowest_0 23 rfl rfl
theorem dksX7_lowest_2 : cX7_lowest.data.toList.drop 46 = dktX7_lowest_2 := dk_seg dksX7_lowest_1 23 rfl rfl
theorem dX7_lowest_0 : decode cX7_lowest 0 = .ok (.ldc 70, 2) := dk_18 70 (dk_at dksX7_lowest_0 0 rfl rfl)
theorem dX7_lowest_2 : decode cX7_lowest 2 = .ok (.istore_n 1, 1) := dk_60 (dk_at dksX7_lowest_0 2 rfl rfl)
theorem dX7_lowest_3 : decode cX7_lowest 3 = .ok (.aload_n 0, 1) := dk_42 (dk_at dksX7_lowest_0 3 rfl rfl)
theorem dX7_lowest_4 : decode cX7_lowest 4 = .ok (.getfield 18, 3) := dk_180 0 18 (dk_at dksX7_lowest_0 4 rfl rfl)
theorem dX7_lowest_7 : decode cX7_lowest 7 = .ok (.invokeinterface 71 1, 5) := by decide +kernel
theorem dX7_lowest_12 : decode cX7_lowest 12 = .ok (.astore_n 2, 1) := dk_77 (dk_at dksX7_lowest_0 12 rfl rfl)
theorem dX7_lowest_13 : decode cX7_lowest 13 = .ok (.aload_n 2, 1) := dk_44 (dk_at dksX7_lowest_0 13 rfl rfl)
theorem dX7_lowest_14 : decode cX7_lowest 14 = .ok (.invokeinterface 75 1, 5) := by decide +kernel
theorem dX7_lowest_19 : decode cX7_lowest 19 = .ok (.ifCond .eq 30, 3) := dk_153 0 30 (dk_at dksX7_lowest_0 19 rfl rfl)
theorem dX7_lowest_22 : decode cX7_lowest 22 = .ok (.aload_n 2, 1) := dk_44 (dk_at dksX7_lowest_0 22 rfl rfl)
theorem dX7_lowest_23 : decode cX7_lowest 23 = .ok (.invokeinterface 80 1, 5) := by decide +kernel
theorem dX7_lowest_28 : decode cX7_lowest 28 = .ok (.checkcast 84, 3) := dk_192 0 84 (dk_at dksX7_lowest_1 5 rfl rfl)
theorem dX7_lowest_31 : decode cX7_lowest 31 = .ok (.astore_n 3, 1) := dk_78 (dk_at dksX7_lowest_1 8 rfl rfl)
theorem dX7_lowest_32 : decode cX7_lowest 32 = .ok (.iload_n 1, 1) := dk_27 (dk_at dksX7_lowest_1 9 rfl rfl)
theorem dX7_lowest_33 : decode cX7_lowest 33 = .ok (.aload_n 3, 1) := dk_45 (dk_at dksX7_lowest_1 10 rfl rfl)
theorem dX7_lowest_34 : decode cX7_lowest 34 = .ok (.invokevirtual 86, 3) := dk_182 0 86 (dk_at dksX7_lowest_1 11 rfl rfl)
theorem dX7_lowest_37 : decode cX7_lowest 37 = .ok (.aload_n 3, 1) := dk_45 (dk_at dksX7_lowest_1 14 rfl rfl)
theorem dX7_lowest_38 : decode cX7_lowest 38 = .ok (.invokevirtual 89, 3) := dk_182 0 89 (dk_at dksX7_lowest_1 15 rfl rfl)
theorem dX7_lowest_41 : decode cX7_lowest 41 = .ok (.iadd, 1) := dk_96 (dk_at dksX7_lowest_1 18 rfl rfl)
theorem dX7_lowest_42 : decode cX7_lowest 42 = .ok (.invokestatic 62, 3) := dk_184 0 62 (dk_at dksX7_lowest_1 19 rfl rfl)
theorem dX7_lowest_45 : decode cX7_lowest 45 = .ok (.istore_n 1, 1) := dk_60 (dk_at dksX7_lowest_1 22 rfl rfl)
theorem dX7_lowest_46 : decode cX7_lowest 46 = .ok (.goto (-33), 3) := dk_167 255 223 (dk_at dksX7_lowest_2 0 rfl rfl)
theorem dX7_lowest_49 : decode cX7_lowest 49 = .ok (.iload_n 1, 1) := dk_27 (dk_at dksX7_lowest_2 3 rfl rfl)
theorem dX7_lowest_50 : decode cX7_lowest 50 = .ok (.ireturn, 1) := dk_172 (dk_at dksX7_lowest_2 4 rfl rfl)
abbrev cX7_layChild : ByteArray := prog_3_method_5_code
def yX7_layChild : MethodName := ⟨RX7, "layChild", "(LColumnarPress$Box;LColumnarPress$Box;III)V"⟩
def dkwX7_layChild_5 : List UInt8 := [42, 43, 29, 21, 7, 96, 21, 5, 182, 0, 36, 177]
abbrev dktX7_layChild_5 : List UInt8 := dkwX7_layChild_5 ++ []
def dkwX7_layChild_4 : List UInt8 := [181, 0, 149, 43, 182, 0, 26, 153, 0, 17, 42, 43, 29, 21, 7, 96, 21, 5, 182, 0, 32, 167, 0, 14]
abbrev dktX7_layChild_4 : List UInt8 := dkwX7_layChild_4 ++ dktX7_layChild_5
def dkwX7_layChild_3 : List UInt8 := [182, 0, 114, 153, 0, 14, 42, 180, 0, 22, 43, 21, 6, 182, 0, 146, 177, 43, 180, 0, 48, 21, 6]
abbrev dktX7_layChild_3 : List UInt8 := dkwX7_layChild_3 ++ dktX7_layChild_4
def dkwX7_layChild_2 : List UInt8 := [43, 180, 0, 48, 21, 7, 181, 0, 141, 43, 180, 0, 48, 21, 5, 21, 4, 100, 181, 0, 144, 43]
abbrev dktX7_layChild_2 : List UInt8 := dkwX7_layChild_2 ++ dktX7_layChild_3
def dkwX7_layChild_1 : List UInt8 := [182, 0, 132, 43, 182, 0, 135, 100, 184, 0, 62, 54, 6, 44, 180, 0, 59, 43, 180, 0, 138, 96, 54, 7]
abbrev dktX7_layChild_1 : List UInt8 := dkwX7_layChild_1 ++ dktX7_layChild_2
def dkwX7_layChild_0 : List UInt8 := [43, 182, 0, 129, 2, 159, 0, 10, 43, 182, 0, 129, 167, 0, 21, 5, 43, 180, 0, 59, 104, 44]
abbrev dktX7_layChild_0 : List UInt8 := dkwX7_layChild_0 ++ dktX7_layChild_1
theorem dksX7_layChild_0 : cX7_layChild.data.toList.drop 0 = dktX7_layChild_0 := by decide +kernel
theorem dksX7_layChild_1 : cX7_layChild.data.toList.drop 22 = dktX7_layChild_1 := dk_seg dksX7_layChild_0 22 rfl rfl
theorem dksX7_layChild_2 : cX7_layChild.data.toList.drop 46 = dktX7_layChild_2 := dk_seg dksX7_layChild_1 24 rfl rfl
theorem dksX7_layChild_3 : cX7_layChild.data.toList.drop 68 = dktX7_layChild_3 := dk_seg dksX7_layChild_2 22 rfl rfl
theorem dksX7_layChild_4 : cX7_layChild.data.toList.drop 91 = dktX7_layChild_4 := dk_seg dksX7_layChild_3 23 rfl rfl
theorem dksX7_layChild_5 : cX7_layChild.data.toList.drop 115 = dktX7_layChild_5 := dk_seg dksX7_layChild_4 24 rfl rfl
theorem dX7_layChild_0 : decode cX7_layChild 0 = .ok (.aload_n 1, 1) := dk_43 (dk_at dksX7_layChild_0 0 rfl rfl)
theorem dX7_layChild_1 : decode cX7_layChild 1 = .ok (.invokevirtual 129, 3) := dk_182 0 129 (dk_at dksX7_layChild_0 1 rfl rfl)
theorem dX7_layChild_4 : decode cX7_layChild 4 = .ok (.iconst (-1), 1) := dk_2 (dk_at dksX7_layChild_0 4 rfl rfl)
theorem dX7_layChild_5 : decode cX7_layChild 5 = .ok (.if_icmp .eq 10, 3) := dk_159 0 10 (dk_at dksX7_layChild_0 5 rfl rfl)
theorem dX7_layChild_8 : decode cX7_layChild 8 = .ok (.aload_n 1, 1) := dk_43 (dk_at dksX7_layChild_0 8 rfl rfl)
theorem dX7_layChild_9 : decode cX7_layChild 9 = .ok (.invokevirtual 129, 3) := dk_182 0 129 (dk_at dksX7_layChild_0 9 rfl rfl)
theorem dX7_layChild_12 : decode cX7_layChild 12 = .ok (.goto 21, 3) := dk_167 0 21 (dk_at dksX7_layChild_0 12 rfl rfl)
theorem dX7_layChild_15 : decode cX7_layChild 15 = .ok (.iconst 2, 1) := dk_5 (dk_at dksX7_layChild_0 15 rfl rfl)
theorem dX7_layChild_16 : decode cX7_layChild 16 = .ok (.aload_n 1, 1) := dk_43 (dk_at dksX7_layChild_0 16 rfl rfl)
theorem dX7_layChild_17 : decode cX7_layChild 17 = .ok (.getfield 59, 3) := dk_180 0 59 (dk_at dksX7_layChild_0 17 rfl rfl)
theorem dX7_layChild_20 : decode cX7_layChild 20 = .ok (.imul, 1) := dk_104 (dk_at dksX7_layChild_0 20 rfl rfl)
theorem dX7_layChild_21 : decode cX7_layChild 21 = .ok (.aload_n 2, 1) := dk_44 (dk_at dksX7_layChild_0 21 rfl rfl)
theorem dX7_layChild_22 : decode cX7_layChild 22 = .ok (.invokevirtual 132, 3) := dk_182 0 132 (dk_at dksX7_layChild_1 0 rfl rfl)
theorem dX7_layChild_25 : decode cX7_layChild 25 = .ok (.aload_n 1, 1) := dk_43 (dk_at dksX7_layChild_1 3 rfl rfl)
theorem dX7_layChild_26 : decode cX7_layChild 26 = .ok (.invokevirtual 135, 3) := dk_182 0 135 (dk_at dksX7_layChild_1 4 rfl rfl)
theorem dX7_layChild_29 : decode cX7_layChild 29 = .ok (.isub, 1) := dk_100 (dk_at dksX7_layChild_1 7 rfl rfl)
theorem dX7_layChild_30 : decode cX7_layChild 30 = .ok (.invokestatic 62, 3) := dk_184 0 62 (dk_at dksX7_layChild_1 8 rfl rfl)
theorem dX7_layChild_33 : decode cX7_layChild 33 = .ok (.istore 6, 2) := dk_54 6 (dk_at dksX7_layChild_1 11 rfl rfl)
theorem dX7_layChild_35 : decode cX7_layChild 35 = .ok (.aload_n 2, 1) := dk_44 (dk_at dksX7_layChild_1 13 rfl rfl)
theorem dX7_layChild_36 : decode cX7_layChild 36 = .ok (.getfield 59, 3) := dk_180 0 59 (dk_at dksX7_layChild_1 14 rfl rfl)
theorem dX7_layChild_39 : decode cX7_layChild 39 = .ok (.aload_n 1, 1) := dk_43 (dk_at dksX7_layChild_1 17 rfl rfl)
theorem dX7_layChild_40 : decode cX7_layChild 40 = .ok (.getfield 138, 3) := dk_180 0 138 (dk_at dksX7_layChild_1 18 rfl rfl)
theorem dX7_layChild_43 : decode cX7_layChild 43 = .ok (.iadd, 1) := dk_96 (dk_at dksX7_layChild_1 21 rfl rfl)
theorem dX7_layChild_44 : decode cX7_layChild 44 = .ok (.istore 7, 2) := dk_54 7 (dk_at dksX7_layChild_1 22 rfl rfl)
theorem dX7_layChild_46 : decode cX7_layChild 46 = .ok (.aload_n 1, 1) := dk_43 (dk_at dksX7_layChild_2 0 rfl rfl)
theorem dX7_layChild_47 : decode cX7_layChild 47 = .ok (.getfield 48, 3) := dk_180 0 48 (dk_at dksX7_layChild_2 1 rfl rfl)
theorem dX7_layChild_50 : decode cX7_layChild 50 = .ok (.iload 7, 2) := dk_21 7 (dk_at dksX7_layChild_2 4 rfl rfl)
theorem dX7_layChild_52 : decode cX7_layChild 52 = .ok (.putfield 141, 3) := dk_181 0 141 (dk_at dksX7_layChild_2 6 rfl rfl)
theorem dX7_layChild_55 : decode cX7_layChild 55 = .ok (.aload_n 1, 1) := dk_43 (dk_at dksX7_layChild_2 9 rfl rfl)
theorem dX7_layChild_56 : decode cX7_layChild 56 = .ok (.getfield 48, 3) := dk_180 0 48 (dk_at dksX7_layChild_2 10 rfl rfl)
theorem dX7_layChild_59 : decode cX7_layChild 59 = .ok (.iload 5, 2) := dk_21 5 (dk_at dksX7_layChild_2 13 rfl rfl)
theorem dX7_layChild_61 : decode cX7_layChild 61 = .ok (.iload 4, 2) := dk_21 4 (dk_at dksX7_layChild_2 15 rfl rfl)
theorem dX7_layChild_63 : decode cX7_layChild 63 = .ok (.isub, 1) := dk_100 (dk_at dksX7_layChild_2 17 rfl rfl)
theorem dX7_layChild_64 : decode cX7_layChild 64 = .ok (.putfield 144, 3) := dk_181 0 144 (dk_at dksX7_layChild_2 18 rfl rfl)
theorem dX7_layChild_67 : decode cX7_layChild 67 = .ok (.aload_n 1, 1) := dk_43 (dk_at dksX7_layChild_2 21 rfl rfl)
theorem dX7_layChild_68 : decode cX7_layChild 68 = .ok (.invokevirtual 114, 3) := dk_182 0 114 (dk_at dksX7_layChild_3 0 rfl rfl)
theorem dX7_layChild_71 : decode cX7_layChild 71 = .ok (.ifCond .eq 14, 3) := dk_153 0 14 (dk_at dksX7_layChild_3 3 rfl rfl)
theorem dX7_layChild_74 : decode cX7_layChild 74 = .ok (.aload_n 0, 1) := dk_42 (dk_at dksX7_layChild_3 6 rfl rfl)
theorem dX7_layChild_75 : decode cX7_layChild 75 = .ok (.getfield 22, 3) := dk_180 0 22 (dk_at dksX7_layChild_3 7 rfl rfl)
theorem dX7_layChild_78 : decode cX7_layChild 78 = .ok (.aload_n 1, 1) := dk_43 (dk_at dksX7_layChild_3 10 rfl rfl)
theorem dX7_layChild_79 : decode cX7_layChild 79 = .ok (.iload 6, 2) := dk_21 6 (dk_at dksX7_layChild_3 11 rfl rfl)
theorem dX7_layChild_81 : decode cX7_layChild 81 = .ok (.invokevirtual 146, 3) := dk_182 0 146 (dk_at dksX7_layChild_3 13 rfl rfl)
theorem dX7_layChild_84 : decode cX7_layChild 84 = .ok (.return_, 1) := dk_177 (dk_at dksX7_layChild_3 16 rfl rfl)
theorem dX7_layChild_85 : decode cX7_layChild 85 = .ok (.aload_n 1, 1) := dk_43 (dk_at dksX7_layChild_3 17 rfl rfl)
theorem dX7_layChild_86 : decode cX7_layChild 86 = .ok (.getfield 48, 3) := dk_180 0 48 (dk_at dksX7_layChild_3 18 rfl rfl)
theorem dX7_layChild_89 : decode cX7_layChild 89 = .ok (.iload 6, 2) := dk_21 6 (dk_at dksX7_layChild_3 21 rfl rfl)
theorem dX7_layChild_91 : decode cX7_layChild 91 = .ok (.putfield 149, 3) := dk_181 0 149 (dk_at dksX7_layChild_4 0 rfl rfl)
theorem dX7_layChild_94 : decode cX7_layChild 94 = .ok (.aload_n 1, 1) := dk_43 (dk_at dksX7_layChild_4 3 rfl rfl)
theorem dX7_layChild_95 : decode cX7_layChild 95 = .ok (.invokevirtual 26, 3) := dk_182 0 26 (dk_at dksX7_layChild_4 4 rfl rfl)
theorem dX7_layChild_98 : decode cX7_layChild 98 = .ok (.ifCond .eq 17, 3) := dk_153 0 17 (dk_at dksX7_layChild_4 7 rfl rfl)
theorem dX7_layChild_101 : decode cX7_layChild 101 = .ok (.aload_n 0, 1) := dk_42 (dk_at dksX7_layChild_4 10 rfl rfl)
theorem dX7_layChild_102 : decode cX7_layChild 102 = .ok (.aload_n 1, 1) := dk_43 (dk_at dksX7_layChild_4 11 rfl rfl)
theorem dX7_layChild_103 : decode cX7_layChild 103 = .ok (.iload_n 3, 1) := dk_29 (dk_at dksX7_layChild_4 12 rfl rfl)
theorem dX7_layChild_104 : decode cX7_layChild 104 = .ok (.iload 7, 2) := dk_21 7 (dk_at dksX7_layChild_4 13 rfl rfl)
theorem dX7_layChild_106 : decode cX7_layChild 106 = .ok (.iadd, 1) := dk_96 (dk_at dksX7_layChild_4 15 rfl rfl)
theorem dX7_layChild_107 : decode cX7_layChild 107 = .ok (.iload 5, 2) := dk_21 5 (dk_at dksX7_layChild_4 16 rfl rfl)
theorem dX7_layChild_109 : decode cX7_layChild 109 = .ok (.invokevirtual 32, 3) := dk_182 0 32 (dk_at dksX7_layChild_4 18 rfl rfl)
theorem dX7_layChild_112 : decode cX7_layChild 112 = .ok (.goto 14, 3) := dk_167 0 14 (dk_at dksX7_layChild_4 21 rfl rfl)
theorem dX7_layChild_115 : decode cX7_layChild 115 = .ok (.aload_n 0, 1) := dk_42 (dk_at dksX7_layChild_5 0 rfl rfl)
theorem dX7_layChild_116 : decode cX7_layChild 116 = .ok (.aload_n 1, 1) := dk_43 (dk_at dksX7_layChild_5 1 rfl rfl)
theorem dX7_layChild_117 : decode cX7_layChild 117 = .ok (.iload_n 3, 1) := dk_29 (dk_at dksX7_layChild_5 2 rfl rfl)
theorem dX7_layChild_118 : decode cX7_layChild 118 = .ok (.iload 7, 2) := dk_21 7 (dk_at dksX7_layChild_5 3 rfl rfl)
theorem dX7_layChild_120 : decode cX7_layChild 120 = .ok (.iadd, 1) := dk_96 (dk_at dksX7_layChild_5 5 rfl rfl)
theorem dX7_layChild_121 : decode cX7_layChild 121 = .ok (.iload 5, 2) := dk_21 5 (dk_at dksX7_layChild_5 6 rfl rfl)
theorem dX7_layChild_123 : decode cX7_layChild 123 = .ok (.invokevirtual 36, 3) := dk_182 0 36 (dk_at dksX7_layChild_5 8 rfl rfl)
theorem dX7_layChild_126 : decode cX7_layChild 126 = .ok (.return_, 1) := dk_177 (dk_at dksX7_layChild_5 11 rfl rfl)
theorem q91 : (Jvm.Cond.initialized "ColumnarPress$Context") ∈ lw_all := lw_g (lw_at lw_m1 39 rfl) rfl
theorem q190 : (Jvm.Cond.fieldLinkNest "ColumnarPress$Context" (141 : Nat) "ColumnarPress$Placed" "x" "I" "ColumnarPress") ∈ lw_tbl := lw_at lw_m1 138 rfl
theorem q195 : (Jvm.Cond.fieldLinkNest "ColumnarPress$Context" (144 : Nat) "ColumnarPress$Placed" "y" "I" "ColumnarPress") ∈ lw_tbl := lw_at lw_m1 143 rfl
theorem q199 : (Jvm.Cond.fieldLinkNest "ColumnarPress$Context" (149 : Nat) "ColumnarPress$Placed" "width" "I" "ColumnarPress") ∈ lw_tbl := lw_at lw_m1 147 rfl
theorem q203 : (Jvm.Cond.fieldLinkNest "ColumnarPress$Context" (52 : Nat) "ColumnarPress$Placed" "height" "I" "ColumnarPress") ∈ lw_tbl := lw_at lw_m1 151 rfl
theorem q210 : (Jvm.Cond.fieldLinkNest "ColumnarPress$Context" (248 : Nat) "ColumnarPress$Placed" "lines" "Ljava/util/List;" "ColumnarPress") ∈ lw_tbl := lw_at lw_m1 158 rfl
theorem q237 : (Jvm.Cond.fieldLinkNest "ColumnarPress$Context" (91 : Nat) "ColumnarPress$Box" "children" "Ljava/util/List;" "ColumnarPress") ∈ lw_tbl := lw_at lw_m1 185 rfl
theorem q240 : (Jvm.Cond.fieldLinkNest "ColumnarPress$Context" (216 : Nat) "ColumnarPress$Box" "words" "Ljava/util/List;" "ColumnarPress") ∈ lw_tbl := lw_at lw_m1 188 rfl
theorem q245 : (Jvm.Cond.fieldLinkNest "ColumnarPress$Context" (39 : Nat) "ColumnarPress$Box" "height" "I" "ColumnarPress") ∈ lw_tbl := lw_at lw_m1 193 rfl
theorem q252 : (Jvm.Cond.fieldLinkNest "ColumnarPress$Context" (138 : Nat) "ColumnarPress$Box" "left" "I" "ColumnarPress") ∈ lw_tbl := lw_at lw_m1 200 rfl
theorem q258 : (Jvm.Cond.fieldLinkNest "ColumnarPress$Context" (59 : Nat) "ColumnarPress$Box" "padding" "I" "ColumnarPress") ∈ lw_tbl := lw_at lw_m1 206 rfl
theorem q270 : (Jvm.Cond.fieldLinkNest "ColumnarPress$Context" (198 : Nat) "ColumnarPress$Box" "side" "C" "ColumnarPress") ∈ lw_tbl := lw_at lw_m1 218 rfl
theorem q280 : (Jvm.Cond.fieldLinkNest "ColumnarPress$Context" (110 : Nat) "ColumnarPress$Box" "clears" "Z" "ColumnarPress") ∈ lw_tbl := lw_at lw_m1 228 rfl
theorem q286 : (Jvm.Cond.fieldLinkNest "ColumnarPress$Context" (230 : Nat) "ColumnarPress$Box" "alignment" "C" "ColumnarPress") ∈ lw_tbl := lw_at lw_m1 234 rfl
theorem q289 : (Jvm.Cond.fieldLinkNest "ColumnarPress$Context" (48 : Nat) "ColumnarPress$Box" "placed" "LColumnarPress$Placed;" "ColumnarPress") ∈ lw_tbl := lw_at lw_m1 237 rfl
theorem q390 : (Jvm.Cond.selects "ColumnarPress$Context" ({ cls := "java/lang/Object", name := "getClass", desc := "()Ljava/lang/Class;" } : Jvm.MethodName) ({ cls := "java/lang/Object", name := "getClass", desc := "()Ljava/lang/Class;" } : Jvm.MethodName)) ∈ lw_all := lw_g (lw_at lw_m2 98 rfl) rfl
theorem q1321 : (Jvm.Cond.instantiable "ColumnarPress$Context" (3 : Nat)) ∈ lw_all := lw_g (lw_at lw_m6 69 rfl) rfl
theorem q1323 : (Jvm.Cond.instanceMethod ({ cls := "ColumnarPress$Context", name := "<init>", desc := "(LColumnarPress;LColumnarPress$Layout;)V" } : Jvm.MethodName)) ∈ lw_all := lw_g (lw_at lw_m6 71 rfl) rfl
theorem q1324 : (Jvm.Cond.code ({ cls := "ColumnarPress$Context", name := "<init>", desc := "(LColumnarPress;LColumnarPress$Layout;)V" } : Jvm.MethodName) prog_3_method_1_code (3 : Nat) (Option.none : Option Jvm.ClassFile.FieldType)) ∈ lw_all := lw_g (lw_at lw_m6 72 rfl) rfl
theorem q1325 : (Jvm.Cond.methodLink "ColumnarPress$Context" (9 : Nat) ({ cls := "java/lang/Object", name := "<init>", desc := "()V" } : Jvm.MethodName)) ∈ lw_all := lw_g (lw_at lw_m6 73 rfl) rfl
theorem q1326 : (Jvm.Cond.classLink "ColumnarPress$Context" (15 : Nat) "java/util/ArrayList") ∈ lw_all := lw_g (lw_at lw_m6 74 rfl) rfl
theorem q1327 : (Jvm.Cond.methodLink "ColumnarPress$Context" (17 : Nat) ({ cls := "java/util/ArrayList", name := "<init>", desc := "()V" } : Jvm.MethodName)) ∈ lw_all := lw_g (lw_at lw_m6 75 rfl) rfl
theorem q1328 : (Jvm.Cond.fieldLink "ColumnarPress$Context" (22 : Nat) "ColumnarPress$Context" "layout" "LColumnarPress$Layout;") ∈ lw_all := lw_g (lw_at lw_m6 76 rfl) rfl
theorem q1329 : (Jvm.Cond.fieldLink "ColumnarPress$Context" (18 : Nat) "ColumnarPress$Context" "floats" "Ljava/util/List;") ∈ lw_all := lw_g (lw_at lw_m6 77 rfl) rfl
theorem q1330 : (Jvm.Cond.fieldLink "ColumnarPress$Context" (3 : Nat) "ColumnarPress$Context" "this$0" "LColumnarPress;") ∈ lw_all := lw_g (lw_at lw_m6 78 rfl) rfl
theorem q1331 : (Jvm.Cond.laysFinal "ColumnarPress$Context" "ColumnarPress$Context" "layout" "LColumnarPress$Layout;") ∈ lw_all := lw_g (lw_at lw_m6 79 rfl) rfl
theorem q1332 : (Jvm.Cond.soleField "ColumnarPress$Context" "layout") ∈ lw_all := lw_g (lw_at lw_m6 80 rfl) rfl
theorem q1333 : (Jvm.Cond.laysFinal "ColumnarPress$Context" "ColumnarPress$Context" "floats" "Ljava/util/List;") ∈ lw_all := lw_g (lw_at lw_m6 81 rfl) rfl
theorem q1334 : (Jvm.Cond.soleField "ColumnarPress$Context" "floats") ∈ lw_all := lw_g (lw_at lw_m6 82 rfl) rfl
theorem q1335 : (Jvm.Cond.laysFinal "ColumnarPress$Context" "ColumnarPress$Context" "this$0" "LColumnarPress;") ∈ lw_all := lw_g (lw_at lw_m6 83 rfl) rfl
theorem q1336 : (Jvm.Cond.soleField "ColumnarPress$Context" "this$0") ∈ lw_all := lw_g (lw_at lw_m6 84 rfl) rfl
theorem q1337 : (Jvm.Cond.superclass "ColumnarPress$Context" "java/lang/Object") ∈ lw_all := lw_g (lw_at lw_m6 85 rfl) rfl
theorem q1339 : (Jvm.Cond.instanceMethod ({ cls := "ColumnarPress$Context", name := "fill", desc := "(LColumnarPress$Box;)V" } : Jvm.MethodName)) ∈ lw_all := lw_g (lw_at lw_m6 87 rfl) rfl
theorem q1340 : (Jvm.Cond.selects "ColumnarPress$Context" ({ cls := "ColumnarPress$Context", name := "fill", desc := "(LColumnarPress$Box;)V" } : Jvm.MethodName) ({ cls := "ColumnarPress$Context", name := "fill", desc := "(LColumnarPress$Box;)V" } : Jvm.MethodName)) ∈ lw_all := lw_g (lw_at lw_m6 88 rfl) rfl
theorem q1341 : (Jvm.Cond.code ({ cls := "ColumnarPress$Context", name := "fill", desc := "(LColumnarPress$Box;)V" } : Jvm.MethodName) prog_3_method_2_code (2 : Nat) (Option.none : Option Jvm.ClassFile.FieldType)) ∈ lw_all := lw_g (lw_at lw_m6 89 rfl) rfl
theorem q1342 : (Jvm.Cond.methodLink "ColumnarPress$Context" (26 : Nat) ({ cls := "ColumnarPress$Box", name := "isText", desc := "()Z" } : Jvm.MethodName)) ∈ lw_all := lw_g (lw_at lw_m6 90 rfl) rfl
theorem q1343 : (Jvm.Cond.methodLink "ColumnarPress$Context" (32 : Nat) ({ cls := "ColumnarPress$Context", name := "layLines", desc := "(LColumnarPress$Box;II)V" } : Jvm.MethodName)) ∈ lw_all := lw_g (lw_at lw_m6 91 rfl) rfl
theorem q1344 : (Jvm.Cond.privateMethod ({ cls := "ColumnarPress$Context", name := "layLines", desc := "(LColumnarPress$Box;II)V" } : Jvm.MethodName)) ∈ lw_tbl := lw_at lw_m6 92 rfl
theorem q1345 : (Jvm.Cond.instanceMethod ({ cls := "ColumnarPress$Context", name := "layLines", desc := "(LColumnarPress$Box;II)V" } : Jvm.MethodName)) ∈ lw_all := lw_g (lw_at lw_m6 93 rfl) rfl
theorem q1346 : (Jvm.Cond.codeWith ({ cls := "ColumnarPress$Context", name := "layLines", desc := "(LColumnarPress$Box;II)V" } : Jvm.MethodName) prog_3_method_9_code (8 : Nat) (Option.none : Option Jvm.ClassFile.FieldType) [((34 : Nat), (98 : Nat), (101 : Nat), (222 : Nat))]) ∈ lw_all := lw_g (lw_at lw_m6 94 rfl) rfl
theorem q1347 : (Jvm.Cond.classLink "ColumnarPress$Context" (222 : Nat) "ColumnarPress$Lower") ∈ lw_all := lw_g (lw_at lw_m6 95 rfl) rfl
theorem q1348 : (Jvm.Cond.interfaceEntry "ColumnarPress$Context" (185 : Nat)) ∈ lw_tbl := lw_at lw_m6 96 rfl
theorem q1349 : (Jvm.Cond.methodLink "ColumnarPress$Context" (185 : Nat) ({ cls := "java/util/List", name := "size", desc := "()I" } : Jvm.MethodName)) ∈ lw_all := lw_g (lw_at lw_m6 97 rfl) rfl
theorem q1350 : (Jvm.Cond.methodLink "ColumnarPress$Context" (238 : Nat) ({ cls := "ColumnarPress$Context", name := "line", desc := "(LColumnarPress$Box;III)LColumnarPress$Line;" } : Jvm.MethodName)) ∈ lw_all := lw_g (lw_at lw_m6 98 rfl) rfl
theorem q1351 : (Jvm.Cond.privateMethod ({ cls := "ColumnarPress$Context", name := "line", desc := "(LColumnarPress$Box;III)LColumnarPress$Line;" } : Jvm.MethodName)) ∈ lw_tbl := lw_at lw_m6 99 rfl
theorem q1352 : (Jvm.Cond.instanceMethod ({ cls := "ColumnarPress$Context", name := "line", desc := "(LColumnarPress$Box;III)LColumnarPress$Line;" } : Jvm.MethodName)) ∈ lw_all := lw_g (lw_at lw_m6 100 rfl) rfl
theorem q1353 : (Jvm.Cond.codeWith ({ cls := "ColumnarPress$Context", name := "line", desc := "(LColumnarPress$Box;III)LColumnarPress$Line;" } : Jvm.MethodName) prog_3_method_8_code (10 : Nat) (Option.some (Jvm.ClassFile.FieldType.object "ColumnarPress$Line")) [((0 : Nat), (33 : Nat), (36 : Nat), (168 : Nat))]) ∈ lw_all := lw_g (lw_at lw_m6 101 rfl) rfl
theorem q1354 : (Jvm.Cond.classLink "ColumnarPress$Context" (168 : Nat) "ColumnarPress$Narrow") ∈ lw_all := lw_g (lw_at lw_m6 102 rfl) rfl
theorem q1355 : (Jvm.Cond.methodLink "ColumnarPress$Context" (132 : Nat) ({ cls := "ColumnarPress$Box", name := "inner", desc := "()I" } : Jvm.MethodName)) ∈ lw_all := lw_g (lw_at lw_m6 103 rfl) rfl
theorem q1356 : (Jvm.Cond.interfaceEntry "ColumnarPress$Context" (188 : Nat)) ∈ lw_tbl := lw_at lw_m6 104 rfl
theorem q1357 : (Jvm.Cond.methodLink "ColumnarPress$Context" (188 : Nat) ({ cls := "java/util/List", name := "get", desc := "(I)Ljava/lang/Object;" } : Jvm.MethodName)) ∈ lw_all := lw_g (lw_at lw_m6 105 rfl) rfl
theorem q1358 : (Jvm.Cond.classLink "ColumnarPress$Context" (68 : Nat) "java/lang/Integer") ∈ lw_all := lw_g (lw_at lw_m6 106 rfl) rfl
theorem q1359 : (Jvm.Cond.methodLink "ColumnarPress$Context" (219 : Nat) ({ cls := "java/lang/Integer", name := "intValue", desc := "()I" } : Jvm.MethodName)) ∈ lw_all := lw_g (lw_at lw_m6 107 rfl) rfl
theorem q1360 : (Jvm.Cond.methodLink "ColumnarPress$Context" (192 : Nat) ({ cls := "ColumnarPress$Context", name := "edges", desc := "(IIIII)LColumnarPress$Edges;" } : Jvm.MethodName)) ∈ lw_all := lw_g (lw_at lw_m6 108 rfl) rfl
theorem q1361 : (Jvm.Cond.privateMethod ({ cls := "ColumnarPress$Context", name := "edges", desc := "(IIIII)LColumnarPress$Edges;" } : Jvm.MethodName)) ∈ lw_tbl := lw_at lw_m6 109 rfl
theorem q1362 : (Jvm.Cond.instanceMethod ({ cls := "ColumnarPress$Context", name := "edges", desc := "(IIIII)LColumnarPress$Edges;" } : Jvm.MethodName)) ∈ lw_all := lw_g (lw_at lw_m6 110 rfl) rfl
theorem q1363 : (Jvm.Cond.code ({ cls := "ColumnarPress$Context", name := "edges", desc := "(IIIII)LColumnarPress$Edges;" } : Jvm.MethodName) prog_3_method_6_code (11 : Nat) (Option.some (Jvm.ClassFile.FieldType.object "ColumnarPress$Edges"))) ∈ lw_all := lw_g (lw_at lw_m6 111 rfl) rfl
theorem q1364 : (Jvm.Cond.constant "ColumnarPress$Context" (152 : Nat) (2147483647 : Int32)) ∈ lw_all := lw_g (lw_at lw_m6 112 rfl) rfl
theorem q1365 : (Jvm.Cond.interfaceEntry "ColumnarPress$Context" (71 : Nat)) ∈ lw_tbl := lw_at lw_m6 113 rfl
theorem q1366 : (Jvm.Cond.methodLink "ColumnarPress$Context" (71 : Nat) ({ cls := "java/util/List", name := "iterator", desc := "()Ljava/util/Iterator;" } : Jvm.MethodName)) ∈ lw_all := lw_g (lw_at lw_m6 114 rfl) rfl
theorem q1367 : (Jvm.Cond.interfaceEntry "ColumnarPress$Context" (75 : Nat)) ∈ lw_tbl := lw_at lw_m6 115 rfl
theorem q1368 : (Jvm.Cond.methodLink "ColumnarPress$Context" (75 : Nat) ({ cls := "java/util/Iterator", name := "hasNext", desc := "()Z" } : Jvm.MethodName)) ∈ lw_all := lw_g (lw_at lw_m6 116 rfl) rfl
theorem q1369 : (Jvm.Cond.interfaceEntry "ColumnarPress$Context" (80 : Nat)) ∈ lw_tbl := lw_at lw_m6 117 rfl
theorem q1370 : (Jvm.Cond.methodLink "ColumnarPress$Context" (80 : Nat) ({ cls := "java/util/Iterator", name := "next", desc := "()Ljava/lang/Object;" } : Jvm.MethodName)) ∈ lw_all := lw_g (lw_at lw_m6 118 rfl) rfl
theorem q1371 : (Jvm.Cond.classLink "ColumnarPress$Context" (84 : Nat) "ColumnarPress$Floated") ∈ lw_all := lw_g (lw_at lw_m6 119 rfl) rfl
theorem q1372 : (Jvm.Cond.methodLink "ColumnarPress$Context" (153 : Nat) ({ cls := "ColumnarPress$Floated", name := "liesIn", desc := "(II)Z" } : Jvm.MethodName)) ∈ lw_all := lw_g (lw_at lw_m6 120 rfl) rfl
theorem q1381 : (Jvm.Cond.methodLink "ColumnarPress$Context" (157 : Nat) ({ cls := "ColumnarPress$Floated", name := "side", desc := "()C" } : Jvm.MethodName)) ∈ lw_all := lw_g (lw_at lw_m6 129 rfl) rfl
theorem q1385 : (Jvm.Cond.methodLink "ColumnarPress$Context" (161 : Nat) ({ cls := "ColumnarPress$Floated", name := "x", desc := "()I" } : Jvm.MethodName)) ∈ lw_all := lw_g (lw_at lw_m6 133 rfl) rfl
theorem q1389 : (Jvm.Cond.methodLink "ColumnarPress$Context" (163 : Nat) ({ cls := "ColumnarPress$Floated", name := "width", desc := "()I" } : Jvm.MethodName)) ∈ lw_all := lw_g (lw_at lw_m6 137 rfl) rfl
theorem q1393 : (Jvm.Cond.methodLink "ColumnarPress$Context" (62 : Nat) ({ cls := "java/lang/Math", name := "max", desc := "(II)I" } : Jvm.MethodName)) ∈ lw_all := lw_g (lw_at lw_m6 141 rfl) rfl
theorem q1394 : (Jvm.Cond.methodLink "ColumnarPress$Context" (107 : Nat) ({ cls := "java/lang/Math", name := "min", desc := "(II)I" } : Jvm.MethodName)) ∈ lw_all := lw_g (lw_at lw_m6 142 rfl) rfl
theorem q1395 : (Jvm.Cond.methodLink "ColumnarPress$Context" (165 : Nat) ({ cls := "ColumnarPress$Floated", name := "end", desc := "()I" } : Jvm.MethodName)) ∈ lw_all := lw_g (lw_at lw_m6 143 rfl) rfl
theorem q1404 : (Jvm.Cond.methodLink "ColumnarPress$Context" (170 : Nat) ({ cls := "ColumnarPress$Narrow", name := "<init>", desc := "(I)V" } : Jvm.MethodName)) ∈ lw_all := lw_g (lw_at lw_m6 152 rfl) rfl
theorem q1416 : (Jvm.Cond.fieldLinkNest "ColumnarPress$Context" (196 : Nat) "ColumnarPress$Narrow" "next" "I" "ColumnarPress") ∈ lw_tbl := lw_at lw_m6 164 rfl
theorem q1421 : (Jvm.Cond.classLink "ColumnarPress$Context" (173 : Nat) "ColumnarPress$Edges") ∈ lw_all := lw_g (lw_at lw_m6 169 rfl) rfl
theorem q1423 : (Jvm.Cond.methodLinkNest "ColumnarPress$Context" (175 : Nat) ({ cls := "ColumnarPress$Edges", name := "<init>", desc := "(II)V" } : Jvm.MethodName) "ColumnarPress") ∈ lw_tbl := lw_at lw_m6 171 rfl
theorem q1445 : (Jvm.Cond.methodLink "ColumnarPress$Context" (224 : Nat) ({ cls := "ColumnarPress$Lower", name := "<init>", desc := "(LColumnarPress$Narrow;)V" } : Jvm.MethodName)) ∈ lw_all := lw_g (lw_at lw_m6 193 rfl) rfl
theorem q1452 : (Jvm.Cond.methodLink "ColumnarPress$Context" (227 : Nat) ({ cls := "ColumnarPress$Edges", name := "between", desc := "()I" } : Jvm.MethodName)) ∈ lw_all := lw_g (lw_at lw_m6 200 rfl) rfl
theorem q1456 : (Jvm.Cond.classLink "ColumnarPress$Context" (233 : Nat) "ColumnarPress$Line") ∈ lw_all := lw_g (lw_at lw_m6 204 rfl) rfl
theorem q1458 : (Jvm.Cond.methodLink "ColumnarPress$Context" (201 : Nat) ({ cls := "ColumnarPress$Edges", name := "left", desc := "()I" } : Jvm.MethodName)) ∈ lw_all := lw_g (lw_at lw_m6 206 rfl) rfl
theorem q1462 : (Jvm.Cond.methodLinkNest "ColumnarPress$Context" (235 : Nat) ({ cls := "ColumnarPress$Line", name := "<init>", desc := "(III)V" } : Jvm.MethodName) "ColumnarPress") ∈ lw_tbl := lw_at lw_m6 210 rfl
theorem q1476 : (Jvm.Cond.methodLink "ColumnarPress$Context" (242 : Nat) ({ cls := "ColumnarPress$Line", name := "x", desc := "()I" } : Jvm.MethodName)) ∈ lw_all := lw_g (lw_at lw_m6 224 rfl) rfl
theorem q1480 : (Jvm.Cond.methodLink "ColumnarPress$Context" (243 : Nat) ({ cls := "ColumnarPress$Line", name := "y", desc := "()I" } : Jvm.MethodName)) ∈ lw_all := lw_g (lw_at lw_m6 228 rfl) rfl
theorem q1484 : (Jvm.Cond.methodLink "ColumnarPress$Context" (244 : Nat) ({ cls := "ColumnarPress$Line", name := "words", desc := "()I" } : Jvm.MethodName)) ∈ lw_all := lw_g (lw_at lw_m6 232 rfl) rfl
theorem q1488 : (Jvm.Cond.interfaceEntry "ColumnarPress$Context" (209 : Nat)) ∈ lw_tbl := lw_at lw_m6 236 rfl
theorem q1489 : (Jvm.Cond.methodLink "ColumnarPress$Context" (209 : Nat) ({ cls := "java/util/List", name := "add", desc := "(Ljava/lang/Object;)Z" } : Jvm.MethodName)) ∈ lw_all := lw_g (lw_at lw_m6 237 rfl) rfl
theorem q1490 : (Jvm.Cond.methodLink "ColumnarPress$Context" (246 : Nat) ({ cls := "ColumnarPress$Lower", name := "next", desc := "()I" } : Jvm.MethodName)) ∈ lw_all := lw_g (lw_at lw_m6 238 rfl) rfl
theorem q1501 : (Jvm.Cond.methodLinkNest "ColumnarPress$Context" (123 : Nat) ({ cls := "ColumnarPress$Layout", name := "setHeight", desc := "(LColumnarPress$Box;I)V" } : Jvm.MethodName) "ColumnarPress") ∈ lw_tbl := lw_at lw_m7 9 rfl
theorem q1502 : (Jvm.Cond.methodLink "ColumnarPress$Context" (36 : Nat) ({ cls := "ColumnarPress$Context", name := "flow", desc := "(LColumnarPress$Box;II)V" } : Jvm.MethodName)) ∈ lw_all := lw_g (lw_at lw_m7 10 rfl) rfl
theorem q1503 : (Jvm.Cond.privateMethod ({ cls := "ColumnarPress$Context", name := "flow", desc := "(LColumnarPress$Box;II)V" } : Jvm.MethodName)) ∈ lw_tbl := lw_at lw_m7 11 rfl
theorem q1504 : (Jvm.Cond.instanceMethod ({ cls := "ColumnarPress$Context", name := "flow", desc := "(LColumnarPress$Box;II)V" } : Jvm.MethodName)) ∈ lw_all := lw_g (lw_at lw_m7 12 rfl) rfl
theorem q1505 : (Jvm.Cond.code ({ cls := "ColumnarPress$Context", name := "flow", desc := "(LColumnarPress$Box;II)V" } : Jvm.MethodName) prog_3_method_4_code (12 : Nat) (Option.none : Option Jvm.ClassFile.FieldType)) ∈ lw_all := lw_g (lw_at lw_m7 13 rfl) rfl
theorem q1506 : (Jvm.Cond.classLink "ColumnarPress$Context" (27 : Nat) "ColumnarPress$Box") ∈ lw_all := lw_g (lw_at lw_m7 14 rfl) rfl
theorem q1507 : (Jvm.Cond.methodLink "ColumnarPress$Context" (94 : Nat) ({ cls := "ColumnarPress$Box", name := "isFloat", desc := "()Z" } : Jvm.MethodName)) ∈ lw_all := lw_g (lw_at lw_m7 15 rfl) rfl
theorem q1508 : (Jvm.Cond.methodLink "ColumnarPress$Context" (97 : Nat) ({ cls := "ColumnarPress$Context", name := "layFloat", desc := "(LColumnarPress$Box;LColumnarPress$Box;III)V" } : Jvm.MethodName)) ∈ lw_all := lw_g (lw_at lw_m7 16 rfl) rfl
theorem q1509 : (Jvm.Cond.privateMethod ({ cls := "ColumnarPress$Context", name := "layFloat", desc := "(LColumnarPress$Box;LColumnarPress$Box;III)V" } : Jvm.MethodName)) ∈ lw_tbl := lw_at lw_m7 17 rfl
theorem q1510 : (Jvm.Cond.instanceMethod ({ cls := "ColumnarPress$Context", name := "layFloat", desc := "(LColumnarPress$Box;LColumnarPress$Box;III)V" } : Jvm.MethodName)) ∈ lw_all := lw_g (lw_at lw_m7 18 rfl) rfl
theorem q1511 : (Jvm.Cond.codeWith ({ cls := "ColumnarPress$Context", name := "layFloat", desc := "(LColumnarPress$Box;LColumnarPress$Box;III)V" } : Jvm.MethodName) prog_3_method_7_code (12 : Nat) (Option.none : Option Jvm.ClassFile.FieldType) [((115 : Nat), (140 : Nat), (143 : Nat), (168 : Nat))]) ∈ lw_all := lw_g (lw_at lw_m7 19 rfl) rfl
theorem q1512 : (Jvm.Cond.methodLink "ColumnarPress$Context" (135 : Nat) ({ cls := "ColumnarPress$Box", name := "sides", desc := "()I" } : Jvm.MethodName)) ∈ lw_all := lw_g (lw_at lw_m7 20 rfl) rfl
theorem q1513 : (Jvm.Cond.methodLinkNest "ColumnarPress$Context" (178 : Nat) ({ cls := "ColumnarPress", name := "fitting", desc := "(LColumnarPress$Box;I)I" } : Jvm.MethodName) "ColumnarPress") ∈ lw_tbl := lw_at lw_m7 21 rfl
theorem q1517 : (Jvm.Cond.methodLinkNest "ColumnarPress$Context" (146 : Nat) ({ cls := "ColumnarPress$Layout", name := "lay", desc := "(LColumnarPress$Box;I)V" } : Jvm.MethodName) "ColumnarPress") ∈ lw_tbl := lw_at lw_m7 25 rfl
theorem q1518 : (Jvm.Cond.methodLink "ColumnarPress$Context" (182 : Nat) ({ cls := "ColumnarPress$Box", name := "ends", desc := "()I" } : Jvm.MethodName)) ∈ lw_all := lw_g (lw_at lw_m7 26 rfl) rfl
theorem q1519 : (Jvm.Cond.interfaceEntry "ColumnarPress$Context" (43 : Nat)) ∈ lw_tbl := lw_at lw_m7 27 rfl
theorem q1520 : (Jvm.Cond.methodLink "ColumnarPress$Context" (43 : Nat) ({ cls := "java/util/List", name := "isEmpty", desc := "()Z" } : Jvm.MethodName)) ∈ lw_all := lw_g (lw_at lw_m7 28 rfl) rfl
theorem q1534 : (Jvm.Cond.methodLink "ColumnarPress$Context" (86 : Nat) ({ cls := "ColumnarPress$Floated", name := "y", desc := "()I" } : Jvm.MethodName)) ∈ lw_all := lw_g (lw_at lw_m7 42 rfl) rfl
theorem q1538 : (Jvm.Cond.methodLink "ColumnarPress$Context" (203 : Nat) ({ cls := "ColumnarPress$Edges", name := "right", desc := "()I" } : Jvm.MethodName)) ∈ lw_all := lw_g (lw_at lw_m7 46 rfl) rfl
theorem q1543 : (Jvm.Cond.methodLinkNest "ColumnarPress$Context" (206 : Nat) ({ cls := "ColumnarPress$Floated", name := "<init>", desc := "(IIIIC)V" } : Jvm.MethodName) "ColumnarPress") ∈ lw_tbl := lw_at lw_m7 51 rfl
theorem q1563 : (Jvm.Cond.methodLinkNest "ColumnarPress$Context" (213 : Nat) ({ cls := "ColumnarPress$Layout", name := "put", desc := "(LColumnarPress$Box;II)V" } : Jvm.MethodName) "ColumnarPress") ∈ lw_tbl := lw_at lw_m7 71 rfl
theorem q1564 : (Jvm.Cond.methodLink "ColumnarPress$Context" (101 : Nat) ({ cls := "ColumnarPress$Box", name := "isInFlow", desc := "()Z" } : Jvm.MethodName)) ∈ lw_all := lw_g (lw_at lw_m7 72 rfl) rfl
theorem q1565 : (Jvm.Cond.methodLink "ColumnarPress$Context" (104 : Nat) ({ cls := "ColumnarPress$Box", name := "upper", desc := "()I" } : Jvm.MethodName)) ∈ lw_all := lw_g (lw_at lw_m7 73 rfl) rfl
theorem q1566 : (Jvm.Cond.methodLink "ColumnarPress$Context" (114 : Nat) ({ cls := "ColumnarPress$Box", name := "isItems", desc := "()Z" } : Jvm.MethodName)) ∈ lw_all := lw_g (lw_at lw_m7 74 rfl) rfl
theorem q1567 : (Jvm.Cond.methodLink "ColumnarPress$Context" (55 : Nat) ({ cls := "ColumnarPress$Context", name := "lowest", desc := "()I" } : Jvm.MethodName)) ∈ lw_all := lw_g (lw_at lw_m7 75 rfl) rfl
theorem q1568 : (Jvm.Cond.privateMethod ({ cls := "ColumnarPress$Context", name := "lowest", desc := "()I" } : Jvm.MethodName)) ∈ lw_tbl := lw_at lw_m7 76 rfl
theorem q1569 : (Jvm.Cond.instanceMethod ({ cls := "ColumnarPress$Context", name := "lowest", desc := "()I" } : Jvm.MethodName)) ∈ lw_all := lw_g (lw_at lw_m7 77 rfl) rfl
theorem q1570 : (Jvm.Cond.code ({ cls := "ColumnarPress$Context", name := "lowest", desc := "()I" } : Jvm.MethodName) prog_3_method_3_code (4 : Nat) (Option.some Jvm.ClassFile.FieldType.int)) ∈ lw_all := lw_g (lw_at lw_m7 78 rfl) rfl
theorem q1571 : (Jvm.Cond.constant "ColumnarPress$Context" (70 : Nat) (-2147483648 : Int32)) ∈ lw_all := lw_g (lw_at lw_m7 79 rfl) rfl
theorem q1572 : (Jvm.Cond.methodLink "ColumnarPress$Context" (89 : Nat) ({ cls := "ColumnarPress$Floated", name := "height", desc := "()I" } : Jvm.MethodName)) ∈ lw_all := lw_g (lw_at lw_m7 80 rfl) rfl
theorem q1576 : (Jvm.Cond.methodLink "ColumnarPress$Context" (117 : Nat) ({ cls := "ColumnarPress$Context", name := "layChild", desc := "(LColumnarPress$Box;LColumnarPress$Box;III)V" } : Jvm.MethodName)) ∈ lw_all := lw_g (lw_at lw_m7 84 rfl) rfl
theorem q1577 : (Jvm.Cond.privateMethod ({ cls := "ColumnarPress$Context", name := "layChild", desc := "(LColumnarPress$Box;LColumnarPress$Box;III)V" } : Jvm.MethodName)) ∈ lw_tbl := lw_at lw_m7 85 rfl
theorem q1578 : (Jvm.Cond.instanceMethod ({ cls := "ColumnarPress$Context", name := "layChild", desc := "(LColumnarPress$Box;LColumnarPress$Box;III)V" } : Jvm.MethodName)) ∈ lw_all := lw_g (lw_at lw_m7 86 rfl) rfl
theorem q1579 : (Jvm.Cond.code ({ cls := "ColumnarPress$Context", name := "layChild", desc := "(LColumnarPress$Box;LColumnarPress$Box;III)V" } : Jvm.MethodName) prog_3_method_5_code (8 : Nat) (Option.none : Option Jvm.ClassFile.FieldType)) ∈ lw_all := lw_g (lw_at lw_m7 87 rfl) rfl
theorem q1580 : (Jvm.Cond.methodLink "ColumnarPress$Context" (129 : Nat) ({ cls := "ColumnarPress$Box", name := "told", desc := "()I" } : Jvm.MethodName)) ∈ lw_all := lw_g (lw_at lw_m7 88 rfl) rfl
theorem q1581 : (Jvm.Cond.methodLink "ColumnarPress$Context" (120 : Nat) ({ cls := "ColumnarPress$Box", name := "lower", desc := "()I" } : Jvm.MethodName)) ∈ lw_all := lw_g (lw_at lw_m7 89 rfl) rfl
theorem q2694 : (Jvm.Cond.selects "ColumnarPress$Context" ({ cls := "java/lang/Object", name := "equals", desc := "(Ljava/lang/Object;)Z" } : Jvm.MethodName) ({ cls := "java/lang/Object", name := "equals", desc := "(Ljava/lang/Object;)Z" } : Jvm.MethodName)) ∈ lw_all := lw_g (lw_at lw_m12 2 rfl) rfl
theorem q2866 : (Jvm.Cond.castable "ColumnarPress$Context" "java/lang/Object") ∈ lw_tbl := lw_at lw_m12 174 rfl
theorem in_X7 : ∀ w ∈ wsX70, w ∈ lw_all := lw_in wsX70 [1331, 1333, 1335] (by decide +kernel) (by decide +kernel)
