/-! ColumnarPressModel$Push -/
set_option maxRecDepth 100000
def RX13 : String := "ColumnarPressModel$Push"
def TX13 : u_T := fun k => match k with
  | 0 => ("ColumnarPressModel$Push", "side", "C", true)
  | 1 => ("ColumnarPressModel$Push", "left", "I", true)
  | 2 => ("ColumnarPressModel$Push", "right", "I", true)
  | 3 => ("ColumnarPressModel$Push", "top", "I", true)
  | _ => ("ColumnarPressModel$Push", "bottom", "I", true)
def tyX13 : Nat → FieldType := fun k => match k with
  | 0 => .char
  | 1 => .int
  | 2 => .int
  | 3 => .int
  | _ => .int
abbrev wsX130 : List Cond := u_ws RX13 TX13 5
theorem nmX13 : ∀ a, a < 5 → ∀ b, b < 5 → a ≠ b → (TX13 a).2.1 ≠ (TX13 b).2.1 := by decide +kernel
theorem tyX13_ok : ∀ k, k < 5 → parseFieldDescriptor (TX13 k).2.2.1 = some (tyX13 k) := by decide +kernel
abbrev cX13_top : ByteArray := prog_19_method_10_code
def yX13_top : MethodName := ⟨RX13, "top", "()I"⟩
theorem dX13_top_0 : decode cX13_top 0 = .ok (.aload_n 0, 1) := by decide +kernel
theorem dX13_top_1 : decode cX13_top 1 = .ok (.getfield 20, 3) := by decide +kernel
theorem dX13_top_4 : decode cX13_top 4 = .ok (.ireturn, 1) := by decide +kernel
abbrev cX13_side : ByteArray := prog_19_method_7_code
def yX13_side : MethodName := ⟨RX13, "side", "()C"⟩
theorem dX13_side_0 : decode cX13_side 0 = .ok (.aload_n 0, 1) := by decide +kernel
theorem dX13_side_1 : decode cX13_side 1 = .ok (.getfield 7, 3) := by decide +kernel
theorem dX13_side_4 : decode cX13_side 4 = .ok (.ireturn, 1) := by decide +kernel
abbrev cX13_lies : ByteArray := prog_19_method_2_code
def yX13_lies : MethodName := ⟨RX13, "lies", "(II)Z"⟩
def dkwX13_lies_0 : List UInt8 := [42, 180, 0, 20, 27, 28, 96, 162, 0, 15, 27, 42, 182, 0, 26, 162, 0, 7, 4, 167, 0, 4, 3, 172]
abbrev dktX13_lies_0 : List UInt8 := dkwX13_lies_0 ++ []
theorem dksX13_lies_0 : cX13_lies.data.toList.drop 0 = dktX13_lies_0 := by decide +kernel
theorem dX13_lies_0 : decode cX13_lies 0 = .ok (.aload_n 0, 1) := dk_42 (dk_at dksX13_lies_0 0 rfl rfl)
theorem dX13_lies_1 : decode cX13_lies 1 = .ok (.getfield 20, 3) := dk_180 0 20 (dk_at dksX13_lies_0 1 rfl rfl)
theorem dX13_lies_4 : decode cX13_lies 4 = .ok (.iload_n 1, 1) := dk_27 (dk_at dksX13_lies_0 4 rfl rfl)
theorem dX13_lies_5 : decode cX13_lies 5 = .ok (.iload_n 2, 1) := dk_28 (dk_at dksX13_lies_0 5 rfl rfl)
theorem dX13_lies_6 : decode cX13_lies 6 = .ok (.iadd, 1) := dk_96 (dk_at dksX13_lies_0 6 rfl rfl)
theorem dX13_lies_7 : decode cX13_lies 7 = .ok (.if_icmp .ge 15, 3) := dk_162 0 15 (dk_at dksX13_lies_0 7 rfl rfl)
theorem dX13_lies_10 : decode cX13_lies 10 = .ok (.iload_n 1, 1) := dk_27 (dk_at dksX13_lies_0 10 rfl rfl)
theorem dX13_lies_11 : decode cX13_lies 11 = .ok (.aload_n 0, 1) := dk_42 (dk_at dksX13_lies_0 11 rfl rfl)
theorem dX13_lies_12 : decode cX13_lies 12 = .ok (.invokevirtual 26, 3) := dk_182 0 26 (dk_at dksX13_lies_0 12 rfl rfl)
theorem dX13_lies_15 : decode cX13_lies 15 = .ok (.if_icmp .ge 7, 3) := dk_162 0 7 (dk_at dksX13_lies_0 15 rfl rfl)
theorem dX13_lies_18 : decode cX13_lies 18 = .ok (.iconst 1, 1) := dk_4 (dk_at dksX13_lies_0 18 rfl rfl)
theorem dX13_lies_19 : decode cX13_lies 19 = .ok (.goto 4, 3) := dk_167 0 4 (dk_at dksX13_lies_0 19 rfl rfl)
theorem dX13_lies_22 : decode cX13_lies 22 = .ok (.iconst 0, 1) := dk_3 (dk_at dksX13_lies_0 22 rfl rfl)
theorem dX13_lies_23 : decode cX13_lies 23 = .ok (.ireturn, 1) := dk_172 (dk_at dksX13_lies_0 23 rfl rfl)
abbrev cX13_low : ByteArray := prog_19_method_3_code
def yX13_low : MethodName := ⟨RX13, "low", "()I"⟩
def dkwX13_low_0 : List UInt8 := [42, 180, 0, 23, 42, 180, 0, 20, 4, 96, 184, 0, 30, 172]
abbrev dktX13_low_0 : List UInt8 := dkwX13_low_0 ++ []
theorem dksX13_low_0 : cX13_low.data.toList.drop 0 = dktX13_low_0 := by decide +kernel
theorem dX13_low_0 : decode cX13_low 0 = .ok (.aload_n 0, 1) := dk_42 (dk_at dksX13_low_0 0 rfl rfl)
theorem dX13_low_1 : decode cX13_low 1 = .ok (.getfield 23, 3) := dk_180 0 23 (dk_at dksX13_low_0 1 rfl rfl)
theorem dX13_low_4 : decode cX13_low 4 = .ok (.aload_n 0, 1) := dk_42 (dk_at dksX13_low_0 4 rfl rfl)
theorem dX13_low_5 : decode cX13_low 5 = .ok (.getfield 20, 3) := dk_180 0 20 (dk_at dksX13_low_0 5 rfl rfl)
theorem dX13_low_8 : decode cX13_low 8 = .ok (.iconst 1, 1) := dk_4 (dk_at dksX13_low_0 8 rfl rfl)
theorem dX13_low_9 : decode cX13_low 9 = .ok (.iadd, 1) := dk_96 (dk_at dksX13_low_0 9 rfl rfl)
theorem dX13_low_10 : decode cX13_low 10 = .ok (.invokestatic 30, 3) := dk_184 0 30 (dk_at dksX13_low_0 10 rfl rfl)
theorem dX13_low_13 : decode cX13_low 13 = .ok (.ireturn, 1) := dk_172 (dk_at dksX13_low_0 13 rfl rfl)
abbrev cX13_left : ByteArray := prog_19_method_8_code
def yX13_left : MethodName := ⟨RX13, "left", "()I"⟩
theorem dX13_left_0 : decode cX13_left 0 = .ok (.aload_n 0, 1) := by decide +kernel
theorem dX13_left_1 : decode cX13_left 1 = .ok (.getfield 13, 3) := by decide +kernel
theorem dX13_left_4 : decode cX13_left 4 = .ok (.ireturn, 1) := by decide +kernel
abbrev cX13_right : ByteArray := prog_19_method_9_code
def yX13_right : MethodName := ⟨RX13, "right", "()I"⟩
theorem dX13_right_0 : decode cX13_right 0 = .ok (.aload_n 0, 1) := by decide +kernel
theorem dX13_right_1 : decode cX13_right 1 = .ok (.getfield 17, 3) := by decide +kernel
theorem dX13_right_4 : decode cX13_right 4 = .ok (.ireturn, 1) := by decide +kernel
abbrev cX13_init : ByteArray := prog_19_method_1_code
def yX13_init : MethodName := ⟨RX13, "<init>", "(CIIII)V"⟩
def dkwX13_init_1 : List UInt8 := [181, 0, 20, 42, 21, 5, 181, 0, 23, 177]
abbrev dktX13_init_1 : List UInt8 := dkwX13_init_1 ++ []
def dkwX13_init_0 : List UInt8 := [42, 183, 0, 1, 42, 27, 181, 0, 7, 42, 28, 181, 0, 13, 42, 29, 181, 0, 17, 42, 21, 4]
abbrev dktX13_init_0 : List UInt8 := dkwX13_init_0 ++ dktX13_init_1
theorem dksX13_init_0 : cX13_init.data.toList.drop 0 = dktX13_init_0 := by decide +kernel
theorem dksX13_init_1 : cX13_init.data.toList.drop 22 = dktX13_init_1 := dk_seg dksX13_init_0 22 rfl rfl
theorem dX13_init_0 : decode cX13_init 0 = .ok (.aload_n 0, 1) := dk_42 (dk_at dksX13_init_0 0 rfl rfl)
theorem dX13_init_1 : decode cX13_init 1 = .ok (.invokespecial 1, 3) := dk_183 0 1 (dk_at dksX13_init_0 1 rfl rfl)
theorem dX13_init_4 : decode cX13_init 4 = .ok (.aload_n 0, 1) := dk_42 (dk_at dksX13_init_0 4 rfl rfl)
theorem dX13_init_5 : decode cX13_init 5 = .ok (.iload_n 1, 1) := dk_27 (dk_at dksX13_init_0 5 rfl rfl)
theorem dX13_init_6 : decode cX13_init 6 = .ok (.putfield 7, 3) := dk_181 0 7 (dk_at dksX13_init_0 6 rfl rfl)
theorem dX13_init_9 : decode cX13_init 9 = .ok (.aload_n 0, 1) := dk_42 (dk_at dksX13_init_0 9 rfl rfl)
theorem dX13_init_10 : decode cX13_init 10 = .ok (.iload_n 2, 1) := dk_28 (dk_at dksX13_init_0 10 rfl rfl)
theorem dX13_init_11 : decode cX13_init 11 = .ok (.putfield 13, 3) := dk_181 0 13 (dk_at dksX13_init_0 11 rfl rfl)
theorem dX13_init_14 : decode cX13_init 14 = .ok (.aload_n 0, 1) := dk_42 (dk_at dksX13_init_0 14 rfl rfl)
theorem dX13_init_15 : decode cX13_init 15 = .ok (.iload_n 3, 1) := dk_29 (dk_at dksX13_init_0 15 rfl rfl)
theorem dX13_init_16 : decode cX13_init 16 = .ok (.putfield 17, 3) := dk_181 0 17 (dk_at dksX13_init_0 16 rfl rfl)
theorem dX13_init_19 : decode cX13_init 19 = .ok (.aload_n 0, 1) := dk_42 (dk_at dksX13_init_0 19 rfl rfl)
theorem dX13_init_20 : decode cX13_init 20 = .ok (.iload 4, 2) := dk_21 4 (dk_at dksX13_init_0 20 rfl rfl)
theorem dX13_init_22 : decode cX13_init 22 = .ok (.putfield 20, 3) := dk_181 0 20 (dk_at dksX13_init_1 0 rfl rfl)
theorem dX13_init_25 : decode cX13_init 25 = .ok (.aload_n 0, 1) := dk_42 (dk_at dksX13_init_1 3 rfl rfl)
theorem dX13_init_26 : decode cX13_init 26 = .ok (.iload 5, 2) := dk_21 5 (dk_at dksX13_init_1 4 rfl rfl)
theorem dX13_init_28 : decode cX13_init 28 = .ok (.putfield 23, 3) := dk_181 0 23 (dk_at dksX13_init_1 6 rfl rfl)
theorem dX13_init_31 : decode cX13_init 31 = .ok (.return_, 1) := dk_177 (dk_at dksX13_init_1 9 rfl rfl)
abbrev cX13_bottom : ByteArray := prog_19_method_11_code
def yX13_bottom : MethodName := ⟨RX13, "bottom", "()I"⟩
theorem dX13_bottom_0 : decode cX13_bottom 0 = .ok (.aload_n 0, 1) := by decide +kernel
theorem dX13_bottom_1 : decode cX13_bottom 1 = .ok (.getfield 23, 3) := by decide +kernel
theorem dX13_bottom_4 : decode cX13_bottom 4 = .ok (.ireturn, 1) := by decide +kernel
abbrev cX13_equals : ByteArray := prog_19_method_6_code
def yX13_equals : MethodName := ⟨RX13, "equals", "(Ljava/lang/Object;)Z"⟩
def dkwX13_equals_0 : List UInt8 := [42, 43, 186, 0, 44, 0, 0, 172]
abbrev dktX13_equals_0 : List UInt8 := dkwX13_equals_0 ++ []
theorem dksX13_equals_0 : cX13_equals.data.toList.drop 0 = dktX13_equals_0 := by decide +kernel
theorem dX13_equals_0 : decode cX13_equals 0 = .ok (.aload_n 0, 1) := dk_42 (dk_at dksX13_equals_0 0 rfl rfl)
theorem dX13_equals_1 : decode cX13_equals 1 = .ok (.aload_n 1, 1) := dk_43 (dk_at dksX13_equals_0 1 rfl rfl)
theorem dX13_equals_2 : decode cX13_equals 2 = .ok (.invokedynamic 44, 5) := by decide +kernel
theorem dX13_equals_7 : decode cX13_equals 7 = .ok (.ireturn, 1) := dk_172 (dk_at dksX13_equals_0 7 rfl rfl)
theorem q98 : (Jvm.Cond.initialized "ColumnarPressModel$Push") ∈ lw_all := lw_g (lw_at lw_m1 46 rfl) rfl
theorem q405 : (Jvm.Cond.selects "ColumnarPressModel$Push" ({ cls := "java/lang/Object", name := "getClass", desc := "()Ljava/lang/Class;" } : Jvm.MethodName) ({ cls := "java/lang/Object", name := "getClass", desc := "()Ljava/lang/Class;" } : Jvm.MethodName)) ∈ lw_all := lw_g (lw_at lw_m2 113 rfl) rfl
theorem q2393 : (Jvm.Cond.instanceMethod ({ cls := "ColumnarPressModel$Push", name := "top", desc := "()I" } : Jvm.MethodName)) ∈ lw_all := lw_g (lw_at lw_m10 181 rfl) rfl
theorem q2394 : (Jvm.Cond.selects "ColumnarPressModel$Push" ({ cls := "ColumnarPressModel$Push", name := "top", desc := "()I" } : Jvm.MethodName) ({ cls := "ColumnarPressModel$Push", name := "top", desc := "()I" } : Jvm.MethodName)) ∈ lw_all := lw_g (lw_at lw_m10 182 rfl) rfl
theorem q2395 : (Jvm.Cond.code ({ cls := "ColumnarPressModel$Push", name := "top", desc := "()I" } : Jvm.MethodName) prog_19_method_10_code (1 : Nat) (Option.some Jvm.ClassFile.FieldType.int)) ∈ lw_all := lw_g (lw_at lw_m10 183 rfl) rfl
theorem q2402 : (Jvm.Cond.instanceMethod ({ cls := "ColumnarPressModel$Push", name := "side", desc := "()C" } : Jvm.MethodName)) ∈ lw_all := lw_g (lw_at lw_m10 190 rfl) rfl
theorem q2403 : (Jvm.Cond.selects "ColumnarPressModel$Push" ({ cls := "ColumnarPressModel$Push", name := "side", desc := "()C" } : Jvm.MethodName) ({ cls := "ColumnarPressModel$Push", name := "side", desc := "()C" } : Jvm.MethodName)) ∈ lw_all := lw_g (lw_at lw_m10 191 rfl) rfl
theorem q2404 : (Jvm.Cond.code ({ cls := "ColumnarPressModel$Push", name := "side", desc := "()C" } : Jvm.MethodName) prog_19_method_7_code (1 : Nat) (Option.some Jvm.ClassFile.FieldType.char)) ∈ lw_all := lw_g (lw_at lw_m10 192 rfl) rfl
theorem q2406 : (Jvm.Cond.instanceMethod ({ cls := "ColumnarPressModel$Push", name := "lies", desc := "(II)Z" } : Jvm.MethodName)) ∈ lw_all := lw_g (lw_at lw_m10 194 rfl) rfl
theorem q2407 : (Jvm.Cond.selects "ColumnarPressModel$Push" ({ cls := "ColumnarPressModel$Push", name := "lies", desc := "(II)Z" } : Jvm.MethodName) ({ cls := "ColumnarPressModel$Push", name := "lies", desc := "(II)Z" } : Jvm.MethodName)) ∈ lw_all := lw_g (lw_at lw_m10 195 rfl) rfl
theorem q2408 : (Jvm.Cond.code ({ cls := "ColumnarPressModel$Push", name := "lies", desc := "(II)Z" } : Jvm.MethodName) prog_19_method_2_code (3 : Nat) (Option.some Jvm.ClassFile.FieldType.boolean)) ∈ lw_all := lw_g (lw_at lw_m10 196 rfl) rfl
theorem q2409 : (Jvm.Cond.methodLink "ColumnarPressModel$Push" (26 : Nat) ({ cls := "ColumnarPressModel$Push", name := "low", desc := "()I" } : Jvm.MethodName)) ∈ lw_all := lw_g (lw_at lw_m10 197 rfl) rfl
theorem q2410 : (Jvm.Cond.instanceMethod ({ cls := "ColumnarPressModel$Push", name := "low", desc := "()I" } : Jvm.MethodName)) ∈ lw_all := lw_g (lw_at lw_m10 198 rfl) rfl
theorem q2411 : (Jvm.Cond.selects "ColumnarPressModel$Push" ({ cls := "ColumnarPressModel$Push", name := "low", desc := "()I" } : Jvm.MethodName) ({ cls := "ColumnarPressModel$Push", name := "low", desc := "()I" } : Jvm.MethodName)) ∈ lw_all := lw_g (lw_at lw_m10 199 rfl) rfl
theorem q2412 : (Jvm.Cond.code ({ cls := "ColumnarPressModel$Push", name := "low", desc := "()I" } : Jvm.MethodName) prog_19_method_3_code (1 : Nat) (Option.some Jvm.ClassFile.FieldType.int)) ∈ lw_all := lw_g (lw_at lw_m10 200 rfl) rfl
theorem q2413 : (Jvm.Cond.methodLink "ColumnarPressModel$Push" (30 : Nat) ({ cls := "java/lang/Math", name := "max", desc := "(II)I" } : Jvm.MethodName)) ∈ lw_all := lw_g (lw_at lw_m10 201 rfl) rfl
theorem q2415 : (Jvm.Cond.instanceMethod ({ cls := "ColumnarPressModel$Push", name := "left", desc := "()I" } : Jvm.MethodName)) ∈ lw_all := lw_g (lw_at lw_m10 203 rfl) rfl
theorem q2416 : (Jvm.Cond.selects "ColumnarPressModel$Push" ({ cls := "ColumnarPressModel$Push", name := "left", desc := "()I" } : Jvm.MethodName) ({ cls := "ColumnarPressModel$Push", name := "left", desc := "()I" } : Jvm.MethodName)) ∈ lw_all := lw_g (lw_at lw_m10 204 rfl) rfl
theorem q2417 : (Jvm.Cond.code ({ cls := "ColumnarPressModel$Push", name := "left", desc := "()I" } : Jvm.MethodName) prog_19_method_8_code (1 : Nat) (Option.some Jvm.ClassFile.FieldType.int)) ∈ lw_all := lw_g (lw_at lw_m10 205 rfl) rfl
theorem q2422 : (Jvm.Cond.instanceMethod ({ cls := "ColumnarPressModel$Push", name := "right", desc := "()I" } : Jvm.MethodName)) ∈ lw_all := lw_g (lw_at lw_m10 210 rfl) rfl
theorem q2423 : (Jvm.Cond.selects "ColumnarPressModel$Push" ({ cls := "ColumnarPressModel$Push", name := "right", desc := "()I" } : Jvm.MethodName) ({ cls := "ColumnarPressModel$Push", name := "right", desc := "()I" } : Jvm.MethodName)) ∈ lw_all := lw_g (lw_at lw_m10 211 rfl) rfl
theorem q2424 : (Jvm.Cond.code ({ cls := "ColumnarPressModel$Push", name := "right", desc := "()I" } : Jvm.MethodName) prog_19_method_9_code (1 : Nat) (Option.some Jvm.ClassFile.FieldType.int)) ∈ lw_all := lw_g (lw_at lw_m10 212 rfl) rfl
theorem q2430 : (Jvm.Cond.instantiable "ColumnarPressModel$Push" (5 : Nat)) ∈ lw_all := lw_g (lw_at lw_m10 218 rfl) rfl
theorem q2432 : (Jvm.Cond.instanceMethod ({ cls := "ColumnarPressModel$Push", name := "<init>", desc := "(CIIII)V" } : Jvm.MethodName)) ∈ lw_all := lw_g (lw_at lw_m10 220 rfl) rfl
theorem q2433 : (Jvm.Cond.code ({ cls := "ColumnarPressModel$Push", name := "<init>", desc := "(CIIII)V" } : Jvm.MethodName) prog_19_method_1_code (6 : Nat) (Option.none : Option Jvm.ClassFile.FieldType)) ∈ lw_all := lw_g (lw_at lw_m10 221 rfl) rfl
theorem q2434 : (Jvm.Cond.methodLink "ColumnarPressModel$Push" (1 : Nat) ({ cls := "java/lang/Record", name := "<init>", desc := "()V" } : Jvm.MethodName)) ∈ lw_all := lw_g (lw_at lw_m10 222 rfl) rfl
theorem q2435 : (Jvm.Cond.fieldLink "ColumnarPressModel$Push" (7 : Nat) "ColumnarPressModel$Push" "side" "C") ∈ lw_all := lw_g (lw_at lw_m10 223 rfl) rfl
theorem q2436 : (Jvm.Cond.fieldLink "ColumnarPressModel$Push" (13 : Nat) "ColumnarPressModel$Push" "left" "I") ∈ lw_all := lw_g (lw_at lw_m10 224 rfl) rfl
theorem q2437 : (Jvm.Cond.fieldLink "ColumnarPressModel$Push" (17 : Nat) "ColumnarPressModel$Push" "right" "I") ∈ lw_all := lw_g (lw_at lw_m10 225 rfl) rfl
theorem q2438 : (Jvm.Cond.fieldLink "ColumnarPressModel$Push" (20 : Nat) "ColumnarPressModel$Push" "top" "I") ∈ lw_all := lw_g (lw_at lw_m10 226 rfl) rfl
theorem q2439 : (Jvm.Cond.fieldLink "ColumnarPressModel$Push" (23 : Nat) "ColumnarPressModel$Push" "bottom" "I") ∈ lw_all := lw_g (lw_at lw_m10 227 rfl) rfl
theorem q2440 : (Jvm.Cond.laysFinal "ColumnarPressModel$Push" "ColumnarPressModel$Push" "side" "C") ∈ lw_all := lw_g (lw_at lw_m10 228 rfl) rfl
theorem q2441 : (Jvm.Cond.soleField "ColumnarPressModel$Push" "side") ∈ lw_all := lw_g (lw_at lw_m10 229 rfl) rfl
theorem q2442 : (Jvm.Cond.laysFinal "ColumnarPressModel$Push" "ColumnarPressModel$Push" "left" "I") ∈ lw_all := lw_g (lw_at lw_m10 230 rfl) rfl
theorem q2443 : (Jvm.Cond.soleField "ColumnarPressModel$Push" "left") ∈ lw_all := lw_g (lw_at lw_m10 231 rfl) rfl
theorem q2444 : (Jvm.Cond.laysFinal "ColumnarPressModel$Push" "ColumnarPressModel$Push" "right" "I") ∈ lw_all := lw_g (lw_at lw_m10 232 rfl) rfl
theorem q2445 : (Jvm.Cond.soleField "ColumnarPressModel$Push" "right") ∈ lw_all := lw_g (lw_at lw_m10 233 rfl) rfl
theorem q2446 : (Jvm.Cond.laysFinal "ColumnarPressModel$Push" "ColumnarPressModel$Push" "top" "I") ∈ lw_all := lw_g (lw_at lw_m10 234 rfl) rfl
theorem q2447 : (Jvm.Cond.soleField "ColumnarPressModel$Push" "top") ∈ lw_all := lw_g (lw_at lw_m10 235 rfl) rfl
theorem q2448 : (Jvm.Cond.laysFinal "ColumnarPressModel$Push" "ColumnarPressModel$Push" "bottom" "I") ∈ lw_all := lw_g (lw_at lw_m10 236 rfl) rfl
theorem q2449 : (Jvm.Cond.soleField "ColumnarPressModel$Push" "bottom") ∈ lw_all := lw_g (lw_at lw_m10 237 rfl) rfl
theorem q2450 : (Jvm.Cond.superclass "ColumnarPressModel$Push" "java/lang/Record") ∈ lw_all := lw_g (lw_at lw_m10 238 rfl) rfl
theorem q2458 : (Jvm.Cond.instanceMethod ({ cls := "ColumnarPressModel$Push", name := "bottom", desc := "()I" } : Jvm.MethodName)) ∈ lw_all := lw_g (lw_at lw_m11 6 rfl) rfl
theorem q2459 : (Jvm.Cond.selects "ColumnarPressModel$Push" ({ cls := "ColumnarPressModel$Push", name := "bottom", desc := "()I" } : Jvm.MethodName) ({ cls := "ColumnarPressModel$Push", name := "bottom", desc := "()I" } : Jvm.MethodName)) ∈ lw_all := lw_g (lw_at lw_m11 7 rfl) rfl
theorem q2460 : (Jvm.Cond.code ({ cls := "ColumnarPressModel$Push", name := "bottom", desc := "()I" } : Jvm.MethodName) prog_19_method_11_code (1 : Nat) (Option.some Jvm.ClassFile.FieldType.int)) ∈ lw_all := lw_g (lw_at lw_m11 8 rfl) rfl
theorem q2721 : (Jvm.Cond.instanceMethod ({ cls := "ColumnarPressModel$Push", name := "equals", desc := "(Ljava/lang/Object;)Z" } : Jvm.MethodName)) ∈ lw_all := lw_g (lw_at lw_m12 29 rfl) rfl
theorem q2722 : (Jvm.Cond.code ({ cls := "ColumnarPressModel$Push", name := "equals", desc := "(Ljava/lang/Object;)Z" } : Jvm.MethodName) prog_19_method_6_code (2 : Nat) (Option.some Jvm.ClassFile.FieldType.boolean)) ∈ lw_all := lw_g (lw_at lw_m12 30 rfl) rfl
theorem q2739 : (Jvm.Cond.selects "ColumnarPressModel$Push" ({ cls := "java/lang/Object", name := "equals", desc := "(Ljava/lang/Object;)Z" } : Jvm.MethodName) ({ cls := "ColumnarPressModel$Push", name := "equals", desc := "(Ljava/lang/Object;)Z" } : Jvm.MethodName)) ∈ lw_all := lw_g (lw_at lw_m12 47 rfl) rfl
theorem q2872 : (Jvm.Cond.castable "ColumnarPressModel$Push" "java/lang/Object") ∈ lw_tbl := lw_at lw_m12 180 rfl
theorem in_X13 : ∀ w ∈ wsX130, w ∈ lw_all := lw_in wsX130 [2440, 2442, 2444, 2446, 2448] (by decide +kernel) (by decide +kernel)
/-! ColumnarPressModel$Line -/
set_option maxRecDepth 100000
def RX14 : String := "ColumnarPressModel$Line"
def TX14 : u_T := fun k => match k with
  | 0 => ("ColumnarPressModel$Line", "words", "I", true)
  | 1 => ("ColumnarPressModel$Line", "x", "I", true)
  | _ => ("ColumnarPressModel$Line", "y", "I", true)
def tyX14 : Nat → FieldType := fun k => match k with
  | 0 => .int
  | 1 => .int
  | _ => .int
abbrev wsX140 : List Cond := u_ws RX14 TX14 3
theorem nmX14 : ∀ a, a < 3 → ∀ b, b < 3 → a ≠ b → (TX14 a).2.1 ≠ (TX14 b).2.1 := by decide +kernel
theorem tyX14_ok : ∀ k, k < 3 → parseFieldDescriptor (TX14 k).2.2.1 = some (tyX14 k) := by decide +kernel
abbrev cX14_init : ByteArray := prog_16_method_1_code
def yX14_init : MethodName := ⟨RX14, "<init>", "(III)V"⟩
def dkwX14_init_0 : List UInt8 := [42, 183, 0, 1, 42, 27, 181, 0, 7, 42, 28, 181, 0, 13, 42, 29, 181, 0, 16, 177]
abbrev dktX14_init_0 : List UInt8 := dkwX14_init_0 ++ []
theorem dksX14_init_0 : cX14_init.data.toList.drop 0 = dktX14_init_0 := by decide +kernel
theorem dX14_init_0 : decode cX14_init 0 = .ok (.aload_n 0, 1) := dk_42 (dk_at dksX14_init_0 0 rfl rfl)
theorem dX14_init_1 : decode cX14_init 1 = .ok (.invokespecial 1, 3) := dk_183 0 1 (dk_at dksX14_init_0 1 rfl rfl)
theorem dX14_init_4 : decode cX14_init 4 = .ok (.aload_n 0, 1) := dk_42 (dk_at dksX14_init_0 4 rfl rfl)
theorem dX14_init_5 : decode cX14_init 5 = .ok (.iload_n 1, 1) := dk_27 (dk_at dksX14_init_0 5 rfl rfl)
theorem dX14_init_6 : decode cX14_init 6 = .ok (.putfield 7, 3) := dk_181 0 7 (dk_at dksX14_init_0 6 rfl rfl)
theorem dX14_init_9 : decode cX14_init 9 = .ok (.aload_n 0, 1) := dk_42 (dk_at dksX14_init_0 9 rfl rfl)
theorem dX14_init_10 : decode cX14_init 10 = .ok (.iload_n 2, 1) := dk_28 (dk_at dksX14_init_0 10 rfl rfl)
theorem dX14_init_11 : decode cX14_init 11 = .ok (.putfield 13, 3) := dk_181 0 13 (dk_at dksX14_init_0 11 rfl rfl)
theorem dX14_init_14 : decode cX14_init 14 = .ok (.aload_n 0, 1) := dk_42 (dk_at dksX14_init_0 14 rfl rfl)
theorem dX14_init_15 : decode cX14_init 15 = .ok (.iload_n 3, 1) := dk_29 (dk_at dksX14_init_0 15 rfl rfl)
theorem dX14_init_16 : decode cX14_init 16 = .ok (.putfield 16, 3) := dk_181 0 16 (dk_at dksX14_init_0 16 rfl rfl)
theorem dX14_init_19 : decode cX14_init 19 = .ok (.return_, 1) := dk_177 (dk_at dksX14_init_0 19 rfl rfl)
abbrev cX14_words : ByteArray := prog_16_method_5_code
def yX14_words : MethodName := ⟨RX14, "words", "()I"⟩
theorem dX14_words_0 : decode cX14_words 0 = .ok (.aload_n 0, 1) := by decide +kernel
theorem dX14_words_1 : decode cX14_words 1 = .ok (.getfield 7, 3) := by decide +kernel
theorem dX14_words_4 : decode cX14_words 4 = .ok (.ireturn, 1) := by decide +kernel
abbrev cX14_x : ByteArray := prog_16_method_6_code
def yX14_x : MethodName := ⟨RX14, "x", "()I"⟩
theorem dX14_x_0 : decode cX14_x 0 = .ok (.aload_n 0, 1) := by decide +kernel
theorem dX14_x_1 : decode cX14_x 1 = .ok (.getfield 13, 3) := by decide +kernel
theorem dX14_x_4 : decode cX14_x 4 = .ok (.ireturn, 1) := by decide +kernel
abbrev cX14_y : ByteArray := prog_16_method_7_code
def yX14_y : MethodName := ⟨RX14, "y", "()I"⟩
theorem dX14_y_0 : decode cX14_y 0 = .ok (.aload_n 0, 1) := by decide +kernel
theorem dX14_y_1 : decode cX14_y 1 = .ok (.getfield 16, 3) := by decide +kernel
theorem dX14_y_4 : decode cX14_y 4 = .ok (.ireturn, 1) := by decide +kernel
abbrev cX14_equals : ByteArray := prog_16_method_4_code
def yX14_equals : MethodName := ⟨RX14, "equals", "(Ljava/lang/Object;)Z"⟩
def dkwX14_equals_0 : List UInt8 := [42, 43, 186, 0, 27, 0, 0, 172]
abbrev dktX14_equals_0 : List UInt8 := dkwX14_equals_0 ++ []
theorem dksX14_equals_0 : cX14_equals.data.toList.drop 0 = dktX14_equals_0 := by decide +kernel
theorem dX14_equals_0 : decode cX14_equals 0 = .ok (.aload_n 0, 1) := dk_42 (dk_at dksX14_equals_0 0 rfl rfl)
theorem dX14_equals_1 : decode cX14_equals 1 = .ok (.aload_n 1, 1) := dk_43 (dk_at dksX14_equals_0 1 rfl rfl)
theorem dX14_equals_2 : decode cX14_equals 2 = .ok (.invokedynamic 27, 5) := by decide +kernel
theorem dX14_equals_7 : decode cX14_equals 7 = .ok (.ireturn, 1) := dk_172 (dk_at dksX14_equals_0 7 rfl rfl)
theorem q99 : (Jvm.Cond.initialized "ColumnarPressModel$Line") ∈ lw_all := lw_g (lw_at lw_m1 47 rfl) rfl
theorem q402 : (Jvm.Cond.selects "ColumnarPressModel$Line" ({ cls := "java/lang/Object", name := "getClass", desc := "()Ljava/lang/Class;" } : Jvm.MethodName) ({ cls := "java/lang/Object", name := "getClass", desc := "()Ljava/lang/Class;" } : Jvm.MethodName)) ∈ lw_all := lw_g (lw_at lw_m2 110 rfl) rfl
theorem q2482 : (Jvm.Cond.instantiable "ColumnarPressModel$Line" (3 : Nat)) ∈ lw_all := lw_g (lw_at lw_m11 30 rfl) rfl
theorem q2484 : (Jvm.Cond.instanceMethod ({ cls := "ColumnarPressModel$Line", name := "<init>", desc := "(III)V" } : Jvm.MethodName)) ∈ lw_all := lw_g (lw_at lw_m11 32 rfl) rfl
theorem q2485 : (Jvm.Cond.code ({ cls := "ColumnarPressModel$Line", name := "<init>", desc := "(III)V" } : Jvm.MethodName) prog_16_method_1_code (4 : Nat) (Option.none : Option Jvm.ClassFile.FieldType)) ∈ lw_all := lw_g (lw_at lw_m11 33 rfl) rfl
theorem q2486 : (Jvm.Cond.methodLink "ColumnarPressModel$Line" (1 : Nat) ({ cls := "java/lang/Record", name := "<init>", desc := "()V" } : Jvm.MethodName)) ∈ lw_all := lw_g (lw_at lw_m11 34 rfl) rfl
theorem q2487 : (Jvm.Cond.fieldLink "ColumnarPressModel$Line" (7 : Nat) "ColumnarPressModel$Line" "words" "I") ∈ lw_all := lw_g (lw_at lw_m11 35 rfl) rfl
theorem q2488 : (Jvm.Cond.fieldLink "ColumnarPressModel$Line" (13 : Nat) "ColumnarPressModel$Line" "x" "I") ∈ lw_all := lw_g (lw_at lw_m11 36 rfl) rfl
theorem q2489 : (Jvm.Cond.fieldLink "ColumnarPressModel$Line" (16 : Nat) "ColumnarPressModel$Line" "y" "I") ∈ lw_all := lw_g (lw_at lw_m11 37 rfl) rfl
theorem q2490 : (Jvm.Cond.laysFinal "ColumnarPressModel$Line" "ColumnarPressModel$Line" "words" "I") ∈ lw_all := lw_g (lw_at lw_m11 38 rfl) rfl
theorem q2491 : (Jvm.Cond.soleField "ColumnarPressModel$Line" "words") ∈ lw_all := lw_g (lw_at lw_m11 39 rfl) rfl
theorem q2492 : (Jvm.Cond.laysFinal "ColumnarPressModel$Line" "ColumnarPressModel$Line" "x" "I") ∈ lw_all := lw_g (lw_at lw_m11 40 rfl) rfl
theorem q2493 : (Jvm.Cond.soleField "ColumnarPressModel$Line" "x") ∈ lw_all := lw_g (lw_at lw_m11 41 rfl) rfl
theorem q2494 : (Jvm.Cond.laysFinal "ColumnarPressModel$Line" "ColumnarPressModel$Line" "y" "I") ∈ lw_all := lw_g (lw_at lw_m11 42 rfl) rfl
theorem q2495 : (Jvm.Cond.soleField "ColumnarPressModel$Line" "y") ∈ lw_all := lw_g (lw_at lw_m11 43 rfl) rfl
theorem q2496 : (Jvm.Cond.superclass "ColumnarPressModel$Line" "java/lang/Record") ∈ lw_all := lw_g (lw_at lw_m11 44 rfl) rfl
theorem q2588 : (Jvm.Cond.instanceMethod ({ cls := "ColumnarPressModel$Line", name := "words", desc := "()I" } : Jvm.MethodName)) ∈ lw_all := lw_g (lw_at lw_m11 136 rfl) rfl
theorem q2589 : (Jvm.Cond.selects "ColumnarPressModel$Line" ({ cls := "ColumnarPressModel$Line", name := "words", desc := "()I" } : Jvm.MethodName) ({ cls := "ColumnarPressModel$Line", name := "words", desc := "()I" } : Jvm.MethodName)) ∈ lw_all := lw_g (lw_at lw_m11 137 rfl) rfl
theorem q2590 : (Jvm.Cond.code ({ cls := "ColumnarPressModel$Line", name := "words", desc := "()I" } : Jvm.MethodName) prog_16_method_5_code (1 : Nat) (Option.some Jvm.ClassFile.FieldType.int)) ∈ lw_all := lw_g (lw_at lw_m11 138 rfl) rfl
theorem q2596 : (Jvm.Cond.instanceMethod ({ cls := "ColumnarPressModel$Line", name := "x", desc := "()I" } : Jvm.MethodName)) ∈ lw_all := lw_g (lw_at lw_m11 144 rfl) rfl
theorem q2597 : (Jvm.Cond.selects "ColumnarPressModel$Line" ({ cls := "ColumnarPressModel$Line", name := "x", desc := "()I" } : Jvm.MethodName) ({ cls := "ColumnarPressModel$Line", name := "x", desc := "()I" } : Jvm.MethodName)) ∈ lw_all := lw_g (lw_at lw_m11 145 rfl) rfl
theorem q2598 : (Jvm.Cond.code ({ cls := "ColumnarPressModel$Line", name := "x", desc := "()I" } : Jvm.MethodName) prog_16_method_6_code (1 : Nat) (Option.some Jvm.ClassFile.FieldType.int)) ∈ lw_all := lw_g (lw_at lw_m11 146 rfl) rfl
theorem q2604 : (Jvm.Cond.instanceMethod ({ cls := "ColumnarPressModel$Line", name := "y", desc := "()I" } : Jvm.MethodName)) ∈ lw_all := lw_g (lw_at lw_m11 152 rfl) rfl
theorem q2605 : (Jvm.Cond.selects "ColumnarPressModel$Line" ({ cls := "ColumnarPressModel$Line", name := "y", desc := "()I" } : Jvm.MethodName) ({ cls := "ColumnarPressModel$Line", name := "y", desc := "()I" } : Jvm.MethodName)) ∈ lw_all := lw_g (lw_at lw_m11 153 rfl) rfl
theorem q2606 : (Jvm.Cond.code ({ cls := "ColumnarPressModel$Line", name := "y", desc := "()I" } : Jvm.MethodName) prog_16_method_7_code (1 : Nat) (Option.some Jvm.ClassFile.FieldType.int)) ∈ lw_all := lw_g (lw_at lw_m11 154 rfl) rfl
theorem q2715 : (Jvm.Cond.instanceMethod ({ cls := "ColumnarPressModel$Line", name := "equals", desc := "(Ljava/lang/Object;)Z" } : Jvm.MethodName)) ∈ lw_all := lw_g (lw_at lw_m12 23 rfl) rfl
theorem q2716 : (Jvm.Cond.code ({ cls := "ColumnarPressModel$Line", name := "equals", desc := "(Ljava/lang/Object;)Z" } : Jvm.MethodName) prog_16_method_4_code (2 : Nat) (Option.some Jvm.ClassFile.FieldType.boolean)) ∈ lw_all := lw_g (lw_at lw_m12 24 rfl) rfl
theorem q2736 : (Jvm.Cond.selects "ColumnarPressModel$Line" ({ cls := "java/lang/Object", name := "equals", desc := "(Ljava/lang/Object;)Z" } : Jvm.MethodName) ({ cls := "ColumnarPressModel$Line", name := "equals", desc := "(Ljava/lang/Object;)Z" } : Jvm.MethodName)) ∈ lw_all := lw_g (lw_at lw_m12 44 rfl) rfl
theorem q2873 : (Jvm.Cond.castable "ColumnarPressModel$Line" "java/lang/Object") ∈ lw_tbl := lw_at lw_m12 181 rfl
theorem in_X14 : ∀ w ∈ wsX140, w ∈ lw_all := lw_in wsX140 [2490, 2492, 2494] (by decide +kernel) (by decide +kernel)
/-! ColumnarPressModel$Point -/
set_option maxRecDepth 100000
def RX15 : String := "ColumnarPressModel$Point"
def TX15 : u_T := fun k => match k with
  | 0 => ("ColumnarPressModel$Point", "x", "I", true)
  | _ => ("ColumnarPressModel$Point", "y", "I", true)
def tyX15 : Nat → FieldType := fun k => match k with
  | 0 => .int
  | _ => .int
abbrev wsX150 : List Cond := u_ws RX15 TX15 2
theorem nmX15 : ∀ a, a < 2 → ∀ b, b < 2 → a ≠ b → (TX15 a).2.1 ≠ (TX15 b).2.1 := by decide +kernel
theorem tyX15_ok : ∀ k, k < 2 → parseFieldDescriptor (TX15 k).2.2.1 = some (tyX15 k) := by decide +kernel
abbrev cX15_init : ByteArray := prog_18_method_1_code
def yX15_init : MethodName := ⟨RX15, "<init>", "(II)V"⟩
def dkwX15_init_0 : List UInt8 := [42, 183, 0, 1, 42, 27, 181, 0, 7, 42, 28, 181, 0, 13, 177]
abbrev dktX15_init_0 : List UInt8 := dkwX15_init_0 ++ []
theorem dksX15_init_0 : cX15_init.data.toList.drop 0 = dktX15_init_0 := by decide +kernel
theorem dX15_init_0 : decode cX15_init 0 = .ok (.aload_n 0, 1) := dk_42 (dk_at dksX15_init_0 0 rfl rfl)
theorem dX15_init_1 : decode cX15_init 1 = .ok (.invokespecial 1, 3) := dk_183 0 1 (dk_at dksX15_init_0 1 rfl rfl)
theorem dX15_init_4 : decode cX15_init 4 = .ok (.aload_n 0, 1) := dk_42 (dk_at dksX15_init_0 4 rfl rfl)
theorem dX15_init_5 : decode cX15_init 5 = .ok (.iload_n 1, 1) := dk_27 (dk_at dksX15_init_0 5 rfl rfl)
theorem dX15_init_6 : decode cX15_init 6 = .ok (.putfield 7, 3) := dk_181 0 7 (dk_at dksX15_init_0 6 rfl rfl)
theorem dX15_init_9 : decode cX15_init 9 = .ok (.aload_n 0, 1) := dk_42 (dk_at dksX15_init_0 9 rfl rfl)
theorem dX15_init_10 : decode cX15_init 10 = .ok (.iload_n 2, 1) := dk_28 (dk_at dksX15_init_0 10 rfl rfl)
theorem dX15_init_11 : decode cX15_init 11 = .ok (.putfield 13, 3) := dk_181 0 13 (dk_at dksX15_init_0 11 rfl rfl)
theorem dX15_init_14 : decode cX15_init 14 = .ok (.return_, 1) := dk_177 (dk_at dksX15_init_0 14 rfl rfl)
abbrev cX15_x : ByteArray := prog_18_method_5_code
def yX15_x : MethodName := ⟨RX15, "x", "()I"⟩
theorem dX15_x_0 : decode cX15_x 0 = .ok (.aload_n 0, 1) := by decide +kernel
theorem dX15_x_1 : decode cX15_x 1 = .ok (.getfield 7, 3) := by decide +kernel
theorem dX15_x_4 : decode cX15_x 4 = .ok (.ireturn, 1) := by decide +kernel
abbrev cX15_y : ByteArray := prog_18_method_6_code
def yX15_y : MethodName := ⟨RX15, "y", "()I"⟩
theorem dX15_y_0 : decode cX15_y 0 = .ok (.aload_n 0, 1) := by decide +kernel
theorem dX15_y_1 : decode cX15_y 1 = .ok (.getfield 13, 3) := by decide +kernel
theorem dX15_y_4 : decode cX15_y 4 = .ok (.ireturn, 1) := by decide +kernel
abbrev cX15_equals : ByteArray := prog_18_method_4_code
def yX15_equals : MethodName := ⟨RX15, "equals", "(Ljava/lang/Object;)Z"⟩
def dkwX15_equals_0 : List UInt8 := [42, 43, 186, 0, 24, 0, 0, 172]
abbrev dktX15_equals_0 : List UInt8 := dkwX15_equals_0 ++ []
theorem dksX15_equals_0 : cX15_equals.data.toList.drop 0 = dktX15_equals_0 := by decide +kernel
theorem dX15_equals_0 : decode cX15_equals 0 = .ok (.aload_n 0, 1) := dk_42 (dk_at dksX15_equals_0 0 rfl rfl)
theorem dX15_equals_1 : decode cX15_equals 1 = .ok (.aload_n 1, 1) := dk_43 (dk_at dksX15_equals_0 1 rfl rfl)
theorem dX15_equals_2 : decode cX15_equals 2 = .ok (.invokedynamic 24, 5) := by decide +kernel
theorem dX15_equals_7 : decode cX15_equals 7 = .ok (.ireturn, 1) := dk_172 (dk_at dksX15_equals_0 7 rfl rfl)
theorem q100 : (Jvm.Cond.initialized "ColumnarPressModel$Point") ∈ lw_all := lw_g (lw_at lw_m1 48 rfl) rfl
theorem q404 : (Jvm.Cond.selects "ColumnarPressModel$Point" ({ cls := "java/lang/Object", name := "getClass", desc := "()Ljava/lang/Class;" } : Jvm.MethodName) ({ cls := "java/lang/Object", name := "getClass", desc := "()Ljava/lang/Class;" } : Jvm.MethodName)) ∈ lw_all := lw_g (lw_at lw_m2 112 rfl) rfl
theorem q2539 : (Jvm.Cond.instantiable "ColumnarPressModel$Point" (2 : Nat)) ∈ lw_all := lw_g (lw_at lw_m11 87 rfl) rfl
theorem q2541 : (Jvm.Cond.instanceMethod ({ cls := "ColumnarPressModel$Point", name := "<init>", desc := "(II)V" } : Jvm.MethodName)) ∈ lw_all := lw_g (lw_at lw_m11 89 rfl) rfl
theorem q2542 : (Jvm.Cond.code ({ cls := "ColumnarPressModel$Point", name := "<init>", desc := "(II)V" } : Jvm.MethodName) prog_18_method_1_code (3 : Nat) (Option.none : Option Jvm.ClassFile.FieldType)) ∈ lw_all := lw_g (lw_at lw_m11 90 rfl) rfl
theorem q2543 : (Jvm.Cond.methodLink "ColumnarPressModel$Point" (1 : Nat) ({ cls := "java/lang/Record", name := "<init>", desc := "()V" } : Jvm.MethodName)) ∈ lw_all := lw_g (lw_at lw_m11 91 rfl) rfl
theorem q2544 : (Jvm.Cond.fieldLink "ColumnarPressModel$Point" (7 : Nat) "ColumnarPressModel$Point" "x" "I") ∈ lw_all := lw_g (lw_at lw_m11 92 rfl) rfl
theorem q2545 : (Jvm.Cond.fieldLink "ColumnarPressModel$Point" (13 : Nat) "ColumnarPressModel$Point" "y" "I") ∈ lw_all := lw_g (lw_at lw_m11 93 rfl) rfl
theorem q2546 : (Jvm.Cond.laysFinal "ColumnarPressModel$Point" "ColumnarPressModel$Point" "x" "I") ∈ lw_all := lw_g (lw_at lw_m11 94 rfl) rfl
theorem q2547 : (Jvm.Cond.soleField "ColumnarPressModel$Point" "x") ∈ lw_all := lw_g (lw_at lw_m11 95 rfl) rfl
theorem q2548 : (Jvm.Cond.laysFinal "ColumnarPressModel$Point" "ColumnarPressModel$Point" "y" "I") ∈ lw_all := lw_g (lw_at lw_m11 96 rfl) rfl
theorem q2549 : (Jvm.Cond.soleField "ColumnarPressModel$Point" "y") ∈ lw_all := lw_g (lw_at lw_m11 97 rfl) rfl
theorem q2550 : (Jvm.Cond.superclass "ColumnarPressModel$Point" "java/lang/Record") ∈ lw_all := lw_g (lw_at lw_m11 98 rfl) rfl
theorem q2552 : (Jvm.Cond.instanceMethod ({ cls := "ColumnarPressModel$Point", name := "x", desc := "()I" } : Jvm.MethodName)) ∈ lw_all := lw_g (lw_at lw_m11 100 rfl) rfl
theorem q2553 : (Jvm.Cond.selects "ColumnarPressModel$Point" ({ cls := "ColumnarPressModel$Point", name := "x", desc := "()I" } : Jvm.MethodName) ({ cls := "ColumnarPressModel$Point", name := "x", desc := "()I" } : Jvm.MethodName)) ∈ lw_all := lw_g (lw_at lw_m11 101 rfl) rfl
theorem q2554 : (Jvm.Cond.code ({ cls := "ColumnarPressModel$Point", name := "x", desc := "()I" } : Jvm.MethodName) prog_18_method_5_code (1 : Nat) (Option.some Jvm.ClassFile.FieldType.int)) ∈ lw_all := lw_g (lw_at lw_m11 102 rfl) rfl
theorem q2556 : (Jvm.Cond.instanceMethod ({ cls := "ColumnarPressModel$Point", name := "y", desc := "()I" } : Jvm.MethodName)) ∈ lw_all := lw_g (lw_at lw_m11 104 rfl) rfl
theorem q2557 : (Jvm.Cond.selects "ColumnarPressModel$Point" ({ cls := "ColumnarPressModel$Point", name := "y", desc := "()I" } : Jvm.MethodName) ({ cls := "ColumnarPressModel$Point", name := "y", desc := "()I" } : Jvm.MethodName)) ∈ lw_all := lw_g (lw_at lw_m11 105 rfl) rfl
theorem q2558 : (Jvm.Cond.code ({ cls := "ColumnarPressModel$Point", name := "y", desc := "()I" } : Jvm.MethodName) prog_18_method_6_code (1 : Nat) (Option.some Jvm.ClassFile.FieldType.int)) ∈ lw_all := lw_g (lw_at lw_m11 106 rfl) rfl
theorem q2719 : (Jvm.Cond.instanceMethod ({ cls := "ColumnarPressModel$Point", name := "equals", desc := "(Ljava/lang/Object;)Z" } : Jvm.MethodName)) ∈ lw_all := lw_g (lw_at lw_m12 27 rfl) rfl
theorem q2720 : (Jvm.Cond.code ({ cls := "ColumnarPressModel$Point", name := "equals", desc := "(Ljava/lang/Object;)Z" } : Jvm.MethodName) prog_18_method_4_code (2 : Nat) (Option.some Jvm.ClassFile.FieldType.boolean)) ∈ lw_all := lw_g (lw_at lw_m12 28 rfl) rfl
theorem q2738 : (Jvm.Cond.selects "ColumnarPressModel$Point" ({ cls := "java/lang/Object", name := "equals", desc := "(Ljava/lang/Object;)Z" } : Jvm.MethodName) ({ cls := "ColumnarPressModel$Point", name := "equals", desc := "(Ljava/lang/Object;)Z" } : Jvm.MethodName)) ∈ lw_all := lw_g (lw_at lw_m12 46 rfl) rfl
theorem q2874 : (Jvm.Cond.castable "ColumnarPressModel$Point" "java/lang/Object") ∈ lw_tbl := lw_at lw_m12 182 rfl
theorem in_X15 : ∀ w ∈ wsX150, w ∈ lw_all := lw_in wsX150 [2546, 2548] (by decide +kernel) (by decide +kernel)
/-! ColumnarPressModel$Unit -/
set_option maxRecDepth 100000
def RX18 : String := "ColumnarPressModel$Unit"
def TX18 : u_T := fun k => match k with
  | 0 => ("ColumnarPressModel$Unit", "box", "LColumnarPressModel$Box;", true)
  | 1 => ("ColumnarPressModel$Unit", "line", "I", true)
  | 2 => ("ColumnarPressModel$Unit", "top", "I", true)
  | 3 => ("ColumnarPressModel$Unit", "bottom", "I", true)
  | _ => ("ColumnarPressModel$Unit", "firsts", "Ljava/util/ArrayList;", true)
def tyX18 : Nat → FieldType := fun k => match k with
  | 0 => .object "ColumnarPressModel$Box"
  | 1 => .int
  | 2 => .int
  | 3 => .int
  | _ => .object "java/util/ArrayList"
abbrev wsX180 : List Cond := u_ws RX18 TX18 5
theorem nmX18 : ∀ a, a < 5 → ∀ b, b < 5 → a ≠ b → (TX18 a).2.1 ≠ (TX18 b).2.1 := by decide +kernel
theorem tyX18_ok : ∀ k, k < 5 → parseFieldDescriptor (TX18 k).2.2.1 = some (tyX18 k) := by decide +kernel
abbrev cX18_init : ByteArray := prog_20_method_1_code
def yX18_init : MethodName := ⟨RX18, "<init>", "(LColumnarPressModel$Box;IIILjava/util/ArrayList;)V"⟩
def dkwX18_init_1 : List UInt8 := [181, 0, 20, 42, 25, 5, 181, 0, 23, 177]
abbrev dktX18_init_1 : List UInt8 := dkwX18_init_1 ++ []
def dkwX18_init_0 : List UInt8 := [42, 183, 0, 1, 42, 43, 181, 0, 7, 42, 28, 181, 0, 13, 42, 29, 181, 0, 17, 42, 21, 4]
abbrev dktX18_init_0 : List UInt8 := dkwX18_init_0 ++ dktX18_init_1
theorem dksX18_init_0 : cX18_init.data.toList.drop 0 = dktX18_init_0 := by decide +kernel
theorem dksX18_init_1 : cX18_init.data.toList.drop 22 = dktX18_init_1 := dk_seg dksX18_init_0 22 rfl rfl
theorem dX18_init_0 : decode cX18_init 0 = .ok (.aload_n 0, 1) := dk_42 (dk_at dksX18_init_0 0 rfl rfl)
theorem dX18_init_1 : decode cX18_init 1 = .ok (.invokespecial 1, 3) := dk_183 0 1 (dk_at dksX18_init_0 1 rfl rfl)
theorem dX18_init_4 : decode cX18_init 4 = .ok (.aload_n 0, 1) := dk_42 (dk_at dksX18_init_0 4 rfl rfl)
theorem dX18_init_5 : decode cX18_init 5 = .ok (.aload_n 1, 1) := dk_43 (dk_at dksX18_init_0 5 rfl rfl)
theorem dX18_init_6 : decode cX18_init 6 = .ok (.putfield 7, 3) := dk_181 0 7 (dk_at dksX18_init_0 6 rfl rfl)
theorem dX18_init_9 : decode cX18_init 9 = .ok (.aload_n 0, 1) := dk_42 (dk_at dksX18_init_0 9 rfl rfl)
theorem dX18_init_10 : decode cX18_init 10 = .ok (.iload_n 2, 1) := dk_28 (dk_at dksX18_init_0 10 rfl rfl)
theorem dX18_init_11 : decode cX18_init 11 = .ok (.putfield 13, 3) := dk_181 0 13 (dk_at dksX18_init_0 11 rfl rfl)
theorem dX18_init_14 : decode cX18_init 14 = .ok (.aload_n 0, 1) := dk_42 (dk_at dksX18_init_0 14 rfl rfl)
theorem dX18_init_15 : decode cX18_init 15 = .ok (.iload_n 3, 1) := dk_29 (dk_at dksX18_init_0 15 rfl rfl)
theorem dX18_init_16 : decode cX18_init 16 = .ok (.putfield 17, 3) := dk_181 0 17 (dk_at dksX18_init_0 16 rfl rfl)
theorem dX18_init_19 : decode cX18_init 19 = .ok (.aload_n 0, 1) := dk_42 (dk_at dksX18_init_0 19 rfl rfl)
theorem dX18_init_20 : decode cX18_init 20 = .ok (.iload 4, 2) := dk_21 4 (dk_at dksX18_init_0 20 rfl rfl)
theorem dX18_init_22 : decode cX18_init 22 = .ok (.putfield 20, 3) := dk_181 0 20 (dk_at dksX18_init_1 0 rfl rfl)
theorem dX18_init_25 : decode cX18_init 25 = .ok (.aload_n 0, 1) := dk_42 (dk_at dksX18_init_1 3 rfl rfl)
theorem dX18_init_26 : decode cX18_init 26 = .ok (.aload 5, 2) := dk_25 5 (dk_at dksX18_init_1 4 rfl rfl)
theorem dX18_init_28 : decode cX18_init 28 = .ok (.putfield 23, 3) := dk_181 0 23 (dk_at dksX18_init_1 6 rfl rfl)
theorem dX18_init_31 : decode cX18_init 31 = .ok (.return_, 1) := dk_177 (dk_at dksX18_init_1 9 rfl rfl)
abbrev cX18_equals : ByteArray := prog_20_method_4_code
def yX18_equals : MethodName := ⟨RX18, "equals", "(Ljava/lang/Object;)Z"⟩
def dkwX18_equals_0 : List UInt8 := [42, 43, 186, 0, 35, 0, 0, 172]
abbrev dktX18_equals_0 : List UInt8 := dkwX18_equals_0 ++ []
theorem dksX18_equals_0 : cX18_equals.data.toList.drop 0 = dktX18_equals_0 := by decide +kernel
theorem dX18_equals_0 : decode cX18_equals 0 = .ok (.aload_n 0, 1) := dk_42 (dk_at dksX18_equals_0 0 rfl rfl)
theorem dX18_equals_1 : decode cX18_equals 1 = .ok (.aload_n 1, 1) := dk_43 (dk_at dksX18_equals_0 1 rfl rfl)
theorem dX18_equals_2 : decode cX18_equals 2 = .ok (.invokedynamic 35, 5) := by decide +kernel
theorem dX18_equals_7 : decode cX18_equals 7 = .ok (.ireturn, 1) := dk_172 (dk_at dksX18_equals_0 7 rfl rfl)
abbrev cX18_firsts : ByteArray := prog_20_method_9_code
def yX18_firsts : MethodName := ⟨RX18, "firsts", "()Ljava/util/ArrayList;"⟩
theorem dX18_firsts_0 : decode cX18_firsts 0 = .ok (.aload_n 0, 1) := by decide +kernel
theorem dX18_firsts_1 : decode cX18_firsts 1 = .ok (.getfield 23, 3) := by decide +kernel
theorem dX18_firsts_4 : decode cX18_firsts 4 = .ok (.areturn, 1) := by decide +kernel
abbrev cX18_box : ByteArray := prog_20_method_5_code
def yX18_box : MethodName := ⟨RX18, "box", "()LColumnarPressModel$Box;"⟩
theorem dX18_box_0 : decode cX18_box 0 = .ok (.aload_n 0, 1) := by decide +kernel
theorem dX18_box_1 : decode cX18_box 1 = .ok (.getfield 7, 3) := by decide +kernel
theorem dX18_box_4 : decode cX18_box 4 = .ok (.areturn, 1) := by decide +kernel
abbrev cX18_line : ByteArray := prog_20_method_6_code
def yX18_line : MethodName := ⟨RX18, "line", "()I"⟩
theorem dX18_line_0 : decode cX18_line 0 = .ok (.aload_n 0, 1) := by decide +kernel
theorem dX18_line_1 : decode cX18_line 1 = .ok (.getfield 13, 3) := by decide +kernel
theorem dX18_line_4 : decode cX18_line 4 = .ok (.ireturn, 1) := by decide +kernel
abbrev cX18_bottom : ByteArray := prog_20_method_8_code
def yX18_bottom : MethodName := ⟨RX18, "bottom", "()I"⟩
theorem dX18_bottom_0 : decode cX18_bottom 0 = .ok (.aload_n 0, 1) := by decide +kernel
theorem dX18_bottom_1 : decode cX18_bottom 1 = .ok (.getfield 20, 3) := by decide +kernel
theorem dX18_bottom_4 : decode cX18_bottom 4 = .ok (.ireturn, 1) := by decide +kernel
abbrev cX18_top : ByteArray := prog_20_method_7_code
def yX18_top : MethodName := ⟨RX18, "top", "()I"⟩
theorem dX18_top_0 : decode cX18_top 0 = .ok (.aload_n 0, 1) := by decide +kernel
theorem dX18_top_1 : decode cX18_top 1 = .ok (.getfield 17, 3) := by decide +kernel
theorem dX18_top_4 : decode cX18_top 4 = .ok (.ireturn, 1) := by decide +kernel
theorem q103 : (Jvm.Cond.initialized "ColumnarPressModel$Unit") ∈ lw_all := lw_g (lw_at lw_m1 51 rfl) rfl
theorem q406 : (Jvm.Cond.selects "ColumnarPressModel$Unit" ({ cls := "java/lang/Object", name := "getClass", desc := "()Ljava/lang/Class;" } : Jvm.MethodName) ({ cls := "java/lang/Object", name := "getClass", desc := "()Ljava/lang/Class;" } : Jvm.MethodName)) ∈ lw_all := lw_g (lw_at lw_m2 114 rfl) rfl
theorem q2626 : (Jvm.Cond.instantiable "ColumnarPressModel$Unit" (5 : Nat)) ∈ lw_all := lw_g (lw_at lw_m11 174 rfl) rfl
theorem q2665 : (Jvm.Cond.instanceMethod ({ cls := "ColumnarPressModel$Unit", name := "<init>", desc := "(LColumnarPressModel$Box;IIILjava/util/ArrayList;)V" } : Jvm.MethodName)) ∈ lw_all := lw_g (lw_at lw_m11 213 rfl) rfl
theorem q2666 : (Jvm.Cond.code ({ cls := "ColumnarPressModel$Unit", name := "<init>", desc := "(LColumnarPressModel$Box;IIILjava/util/ArrayList;)V" } : Jvm.MethodName) prog_20_method_1_code (6 : Nat) (Option.none : Option Jvm.ClassFile.FieldType)) ∈ lw_all := lw_g (lw_at lw_m11 214 rfl) rfl
theorem q2667 : (Jvm.Cond.methodLink "ColumnarPressModel$Unit" (1 : Nat) ({ cls := "java/lang/Record", name := "<init>", desc := "()V" } : Jvm.MethodName)) ∈ lw_all := lw_g (lw_at lw_m11 215 rfl) rfl
theorem q2668 : (Jvm.Cond.fieldLink "ColumnarPressModel$Unit" (7 : Nat) "ColumnarPressModel$Unit" "box" "LColumnarPressModel$Box;") ∈ lw_all := lw_g (lw_at lw_m11 216 rfl) rfl
theorem q2669 : (Jvm.Cond.fieldLink "ColumnarPressModel$Unit" (13 : Nat) "ColumnarPressModel$Unit" "line" "I") ∈ lw_all := lw_g (lw_at lw_m11 217 rfl) rfl
theorem q2670 : (Jvm.Cond.fieldLink "ColumnarPressModel$Unit" (17 : Nat) "ColumnarPressModel$Unit" "top" "I") ∈ lw_all := lw_g (lw_at lw_m11 218 rfl) rfl
theorem q2671 : (Jvm.Cond.fieldLink "ColumnarPressModel$Unit" (20 : Nat) "ColumnarPressModel$Unit" "bottom" "I") ∈ lw_all := lw_g (lw_at lw_m11 219 rfl) rfl
theorem q2672 : (Jvm.Cond.fieldLink "ColumnarPressModel$Unit" (23 : Nat) "ColumnarPressModel$Unit" "firsts" "Ljava/util/ArrayList;") ∈ lw_all := lw_g (lw_at lw_m11 220 rfl) rfl
theorem q2673 : (Jvm.Cond.laysFinal "ColumnarPressModel$Unit" "ColumnarPressModel$Unit" "box" "LColumnarPressModel$Box;") ∈ lw_all := lw_g (lw_at lw_m11 221 rfl) rfl
theorem q2674 : (Jvm.Cond.soleField "ColumnarPressModel$Unit" "box") ∈ lw_all := lw_g (lw_at lw_m11 222 rfl) rfl
theorem q2675 : (Jvm.Cond.laysFinal "ColumnarPressModel$Unit" "ColumnarPressModel$Unit" "line" "I") ∈ lw_all := lw_g (lw_at lw_m11 223 rfl) rfl
theorem q2676 : (Jvm.Cond.soleField "ColumnarPressModel$Unit" "line") ∈ lw_all := lw_g (lw_at lw_m11 224 rfl) rfl
theorem q2677 : (Jvm.Cond.laysFinal "ColumnarPressModel$Unit" "ColumnarPressModel$Unit" "top" "I") ∈ lw_all := lw_g (lw_at lw_m11 225 rfl) rfl
theorem q2678 : (Jvm.Cond.soleField "ColumnarPressModel$Unit" "top") ∈ lw_all := lw_g (lw_at lw_m11 226 rfl) rfl
theorem q2679 : (Jvm.Cond.laysFinal "ColumnarPressModel$Unit" "ColumnarPressModel$Unit" "bottom" "I") ∈ lw_all := lw_g (lw_at lw_m11 227 rfl) rfl
theorem q2680 : (Jvm.Cond.soleField "ColumnarPressModel$Unit" "bottom") ∈ lw_all := lw_g (lw_at lw_m11 228 rfl) rfl
theorem q2681 : (Jvm.Cond.laysFinal "ColumnarPressModel$Unit" "ColumnarPressModel$Unit" "firsts" "Ljava/util/ArrayList;") ∈ lw_all := lw_g (lw_at lw_m11 229 rfl) rfl
theorem q2682 : (Jvm.Cond.soleField "ColumnarPressModel$Unit" "firsts") ∈ lw_all := lw_g (lw_at lw_m11 230 rfl) rfl
theorem q2683 : (Jvm.Cond.superclass "ColumnarPressModel$Unit" "java/lang/Record") ∈ lw_all := lw_g (lw_at lw_m11 231 rfl) rfl
theorem q2723 : (Jvm.Cond.instanceMethod ({ cls := "ColumnarPressModel$Unit", name := "equals", desc := "(Ljava/lang/Object;)Z" } : Jvm.MethodName)) ∈ lw_all := lw_g (lw_at lw_m12 31 rfl) rfl
theorem q2724 : (Jvm.Cond.code ({ cls := "ColumnarPressModel$Unit", name := "equals", desc := "(Ljava/lang/Object;)Z" } : Jvm.MethodName) prog_20_method_4_code (2 : Nat) (Option.some Jvm.ClassFile.FieldType.boolean)) ∈ lw_all := lw_g (lw_at lw_m12 32 rfl) rfl
theorem q2740 : (Jvm.Cond.selects "ColumnarPressModel$Unit" ({ cls := "java/lang/Object", name := "equals", desc := "(Ljava/lang/Object;)Z" } : Jvm.MethodName) ({ cls := "ColumnarPressModel$Unit", name := "equals", desc := "(Ljava/lang/Object;)Z" } : Jvm.MethodName)) ∈ lw_all := lw_g (lw_at lw_m12 48 rfl) rfl
theorem q2759 : (Jvm.Cond.instanceMethod ({ cls := "ColumnarPressModel$Unit", name := "firsts", desc := "()Ljava/util/ArrayList;" } : Jvm.MethodName)) ∈ lw_all := lw_g (lw_at lw_m12 67 rfl) rfl
theorem q2760 : (Jvm.Cond.selects "ColumnarPressModel$Unit" ({ cls := "ColumnarPressModel$Unit", name := "firsts", desc := "()Ljava/util/ArrayList;" } : Jvm.MethodName) ({ cls := "ColumnarPressModel$Unit", name := "firsts", desc := "()Ljava/util/ArrayList;" } : Jvm.MethodName)) ∈ lw_all := lw_g (lw_at lw_m12 68 rfl) rfl
theorem q2761 : (Jvm.Cond.code ({ cls := "ColumnarPressModel$Unit", name := "firsts", desc := "()Ljava/util/ArrayList;" } : Jvm.MethodName) prog_20_method_9_code (1 : Nat) (Option.some (Jvm.ClassFile.FieldType.object "java/util/ArrayList"))) ∈ lw_all := lw_g (lw_at lw_m12 69 rfl) rfl
theorem q2763 : (Jvm.Cond.instanceMethod ({ cls := "ColumnarPressModel$Unit", name := "box", desc := "()LColumnarPressModel$Box;" } : Jvm.MethodName)) ∈ lw_all := lw_g (lw_at lw_m12 71 rfl) rfl
theorem q2764 : (Jvm.Cond.selects "ColumnarPressModel$Unit" ({ cls := "ColumnarPressModel$Unit", name := "box", desc := "()LColumnarPressModel$Box;" } : Jvm.MethodName) ({ cls := "ColumnarPressModel$Unit", name := "box", desc := "()LColumnarPressModel$Box;" } : Jvm.MethodName)) ∈ lw_all := lw_g (lw_at lw_m12 72 rfl) rfl
theorem q2765 : (Jvm.Cond.code ({ cls := "ColumnarPressModel$Unit", name := "box", desc := "()LColumnarPressModel$Box;" } : Jvm.MethodName) prog_20_method_5_code (1 : Nat) (Option.some (Jvm.ClassFile.FieldType.object "ColumnarPressModel$Box"))) ∈ lw_all := lw_g (lw_at lw_m12 73 rfl) rfl
theorem q2767 : (Jvm.Cond.instanceMethod ({ cls := "ColumnarPressModel$Unit", name := "line", desc := "()I" } : Jvm.MethodName)) ∈ lw_all := lw_g (lw_at lw_m12 75 rfl) rfl
theorem q2768 : (Jvm.Cond.selects "ColumnarPressModel$Unit" ({ cls := "ColumnarPressModel$Unit", name := "line", desc := "()I" } : Jvm.MethodName) ({ cls := "ColumnarPressModel$Unit", name := "line", desc := "()I" } : Jvm.MethodName)) ∈ lw_all := lw_g (lw_at lw_m12 76 rfl) rfl
theorem q2769 : (Jvm.Cond.code ({ cls := "ColumnarPressModel$Unit", name := "line", desc := "()I" } : Jvm.MethodName) prog_20_method_6_code (1 : Nat) (Option.some Jvm.ClassFile.FieldType.int)) ∈ lw_all := lw_g (lw_at lw_m12 77 rfl) rfl
theorem q2771 : (Jvm.Cond.instanceMethod ({ cls := "ColumnarPressModel$Unit", name := "bottom", desc := "()I" } : Jvm.MethodName)) ∈ lw_all := lw_g (lw_at lw_m12 79 rfl) rfl
theorem q2772 : (Jvm.Cond.selects "ColumnarPressModel$Unit" ({ cls := "ColumnarPressModel$Unit", name := "bottom", desc := "()I" } : Jvm.MethodName) ({ cls := "ColumnarPressModel$Unit", name := "bottom", desc := "()I" } : Jvm.MethodName)) ∈ lw_all := lw_g (lw_at lw_m12 80 rfl) rfl
theorem q2773 : (Jvm.Cond.code ({ cls := "ColumnarPressModel$Unit", name := "bottom", desc := "()I" } : Jvm.MethodName) prog_20_method_8_code (1 : Nat) (Option.some Jvm.ClassFile.FieldType.int)) ∈ lw_all := lw_g (lw_at lw_m12 81 rfl) rfl
theorem q2775 : (Jvm.Cond.instanceMethod ({ cls := "ColumnarPressModel$Unit", name := "top", desc := "()I" } : Jvm.MethodName)) ∈ lw_all := lw_g (lw_at lw_m12 83 rfl) rfl
theorem q2776 : (Jvm.Cond.selects "ColumnarPressModel$Unit" ({ cls := "ColumnarPressModel$Unit", name := "top", desc := "()I" } : Jvm.MethodName) ({ cls := "ColumnarPressModel$Unit", name := "top", desc := "()I" } : Jvm.MethodName)) ∈ lw_all := lw_g (lw_at lw_m12 84 rfl) rfl
theorem q2777 : (Jvm.Cond.code ({ cls := "ColumnarPressModel$Unit", name := "top", desc := "()I" } : Jvm.MethodName) prog_20_method_7_code (1 : Nat) (Option.some Jvm.ClassFile.FieldType.int)) ∈ lw_all := lw_g (lw_at lw_m12 85 rfl) rfl
theorem q2877 : (Jvm.Cond.castable "ColumnarPressModel$Unit" "java/lang/Object") ∈ lw_tbl := lw_at lw_m12 185 rfl
theorem in_X18 : ∀ w ∈ wsX180, w ∈ lw_all := lw_in wsX180 [2673, 2675, 2677, 2679, 2681] (by decide +kernel) (by decide +kernel)
/-! ColumnarPressModel$Page -/
set_option maxRecDepth 100000
def RX19 : String := "ColumnarPressModel$Page"
def TX19 : u_T := fun k => match k with
  | 0 => ("ColumnarPressModel$Page", "unit", "LColumnarPressModel$Unit;", true)
  | _ => ("ColumnarPressModel$Page", "number", "I", true)
def tyX19 : Nat → FieldType := fun k => match k with
  | 0 => .object "ColumnarPressModel$Unit"
  | _ => .int
abbrev wsX190 : List Cond := u_ws RX19 TX19 2
theorem nmX19 : ∀ a, a < 2 → ∀ b, b < 2 → a ≠ b → (TX19 a).2.1 ≠ (TX19 b).2.1 := by decide +kernel
theorem tyX19_ok : ∀ k, k < 2 → parseFieldDescriptor (TX19 k).2.2.1 = some (tyX19 k) := by decide +kernel
abbrev cX19_equals : ByteArray := prog_17_method_4_code
def yX19_equals : MethodName := ⟨RX19, "equals", "(Ljava/lang/Object;)Z"⟩
def dkwX19_equals_0 : List UInt8 := [42, 43, 186, 0, 25, 0, 0, 172]
abbrev dktX19_equals_0 : List UInt8 := dkwX19_equals_0 ++ []
theorem dksX19_equals_0 : cX19_equals.data.toList.drop 0 = dktX19_equals_0 := by decide +kernel
theorem dX19_equals_0 : decode cX19_equals 0 = .ok (.aload_n 0, 1) := dk_42 (dk_at dksX19_equals_0 0 rfl rfl)
theorem dX19_equals_1 : decode cX19_equals 1 = .ok (.aload_n 1, 1) := dk_43 (dk_at dksX19_equals_0 1 rfl rfl)
theorem dX19_equals_2 : decode cX19_equals 2 = .ok (.invokedynamic 25, 5) := by decide +kernel
theorem dX19_equals_7 : decode cX19_equals 7 = .ok (.ireturn, 1) := dk_172 (dk_at dksX19_equals_0 7 rfl rfl)
abbrev cX19_init : ByteArray := prog_17_method_1_code
def yX19_init : MethodName := ⟨RX19, "<init>", "(LColumnarPressModel$Unit;I)V"⟩
def dkwX19_init_0 : List UInt8 := [42, 183, 0, 1, 42, 43, 181, 0, 7, 42, 28, 181, 0, 13, 177]
abbrev dktX19_init_0 : List UInt8 := dkwX19_init_0 ++ []
theorem dksX19_init_0 : cX19_init.data.toList.drop 0 = dktX19_init_0 := by decide +kernel
theorem dX19_init_0 : decode cX19_init 0 = .ok (.aload_n 0, 1) := dk_42 (dk_at dksX19_init_0 0 rfl rfl)
theorem dX19_init_1 : decode cX19_init 1 = .ok (.invokespecial 1, 3) := dk_183 0 1 (dk_at dksX19_init_0 1 rfl rfl)
theorem dX19_init_4 : decode cX19_init 4 = .ok (.aload_n 0, 1) := dk_42 (dk_at dksX19_init_0 4 rfl rfl)
theorem dX19_init_5 : decode cX19_init 5 = .ok (.aload_n 1, 1) := dk_43 (dk_at dksX19_init_0 5 rfl rfl)
theorem dX19_init_6 : decode cX19_init 6 = .ok (.putfield 7, 3) := dk_181 0 7 (dk_at dksX19_init_0 6 rfl rfl)
theorem dX19_init_9 : decode cX19_init 9 = .ok (.aload_n 0, 1) := dk_42 (dk_at dksX19_init_0 9 rfl rfl)
theorem dX19_init_10 : decode cX19_init 10 = .ok (.iload_n 2, 1) := dk_28 (dk_at dksX19_init_0 10 rfl rfl)
theorem dX19_init_11 : decode cX19_init 11 = .ok (.putfield 13, 3) := dk_181 0 13 (dk_at dksX19_init_0 11 rfl rfl)
theorem dX19_init_14 : decode cX19_init 14 = .ok (.return_, 1) := dk_177 (dk_at dksX19_init_0 14 rfl rfl)
abbrev cX19_number : ByteArray := prog_17_method_6_code
def yX19_number : MethodName := ⟨RX19, "number", "()I"⟩
theorem dX19_number_0 : decode cX19_number 0 = .ok (.aload_n 0, 1) := by decide +kernel
theorem dX19_number_1 : decode cX19_number 1 = .ok (.getfield 13, 3) := by decide +kernel
theorem dX19_number_4 : decode cX19_number 4 = .ok (.ireturn, 1) := by decide +kernel
abbrev cX19_unit : ByteArray := prog_17_method_5_code
def yX19_unit : MethodName := ⟨RX19, "unit", "()LColumnarPressModel$Unit;"⟩
theorem dX19_unit_0 : decode cX19_unit 0 = .ok (.aload_n 0, 1) := by decide +kernel
theorem dX19_unit_1 : decode cX19_unit 1 = .ok (.getfield 7, 3) := by decide +kernel
theorem dX19_unit_4 : decode cX19_unit 4 = .ok (.areturn, 1) := by decide +kernel
theorem q104 : (Jvm.Cond.initialized "ColumnarPressModel$Page") ∈ lw_all := lw_g (lw_at lw_m1 52 rfl) rfl
theorem q403 : (Jvm.Cond.selects "ColumnarPressModel$Page" ({ cls := "java/lang/Object", name := "getClass", desc := "()Ljava/lang/Class;" } : Jvm.MethodName) ({ cls := "java/lang/Object", name := "getClass", desc := "()Ljava/lang/Class;" } : Jvm.MethodName)) ∈ lw_all := lw_g (lw_at lw_m2 111 rfl) rfl
theorem q2717 : (Jvm.Cond.instanceMethod ({ cls := "ColumnarPressModel$Page", name := "equals", desc := "(Ljava/lang/Object;)Z" } : Jvm.MethodName)) ∈ lw_all := lw_g (lw_at lw_m12 25 rfl) rfl
theorem q2718 : (Jvm.Cond.code ({ cls := "ColumnarPressModel$Page", name := "equals", desc := "(Ljava/lang/Object;)Z" } : Jvm.MethodName) prog_17_method_4_code (2 : Nat) (Option.some Jvm.ClassFile.FieldType.boolean)) ∈ lw_all := lw_g (lw_at lw_m12 26 rfl) rfl
theorem q2737 : (Jvm.Cond.selects "ColumnarPressModel$Page" ({ cls := "java/lang/Object", name := "equals", desc := "(Ljava/lang/Object;)Z" } : Jvm.MethodName) ({ cls := "ColumnarPressModel$Page", name := "equals", desc := "(Ljava/lang/Object;)Z" } : Jvm.MethodName)) ∈ lw_all := lw_g (lw_at lw_m12 45 rfl) rfl
theorem q2779 : (Jvm.Cond.instantiable "ColumnarPressModel$Page" (2 : Nat)) ∈ lw_all := lw_g (lw_at lw_m12 87 rfl) rfl
theorem q2781 : (Jvm.Cond.instanceMethod ({ cls := "ColumnarPressModel$Page", name := "<init>", desc := "(LColumnarPressModel$Unit;I)V" } : Jvm.MethodName)) ∈ lw_all := lw_g (lw_at lw_m12 89 rfl) rfl
theorem q2782 : (Jvm.Cond.code ({ cls := "ColumnarPressModel$Page", name := "<init>", desc := "(LColumnarPressModel$Unit;I)V" } : Jvm.MethodName) prog_17_method_1_code (3 : Nat) (Option.none : Option Jvm.ClassFile.FieldType)) ∈ lw_all := lw_g (lw_at lw_m12 90 rfl) rfl
theorem q2783 : (Jvm.Cond.methodLink "ColumnarPressModel$Page" (1 : Nat) ({ cls := "java/lang/Record", name := "<init>", desc := "()V" } : Jvm.MethodName)) ∈ lw_all := lw_g (lw_at lw_m12 91 rfl) rfl
theorem q2784 : (Jvm.Cond.fieldLink "ColumnarPressModel$Page" (7 : Nat) "ColumnarPressModel$Page" "unit" "LColumnarPressModel$Unit;") ∈ lw_all := lw_g (lw_at lw_m12 92 rfl) rfl
theorem q2785 : (Jvm.Cond.fieldLink "ColumnarPressModel$Page" (13 : Nat) "ColumnarPressModel$Page" "number" "I") ∈ lw_all := lw_g (lw_at lw_m12 93 rfl) rfl
theorem q2786 : (Jvm.Cond.laysFinal "ColumnarPressModel$Page" "ColumnarPressModel$Page" "unit" "LColumnarPressModel$Unit;") ∈ lw_all := lw_g (lw_at lw_m12 94 rfl) rfl
theorem q2787 : (Jvm.Cond.soleField "ColumnarPressModel$Page" "unit") ∈ lw_all := lw_g (lw_at lw_m12 95 rfl) rfl
theorem q2788 : (Jvm.Cond.laysFinal "ColumnarPressModel$Page" "ColumnarPressModel$Page" "number" "I") ∈ lw_all := lw_g (lw_at lw_m12 96 rfl) rfl
theorem q2789 : (Jvm.Cond.soleField "ColumnarPressModel$Page" "number") ∈ lw_all := lw_g (lw_at lw_m12 97 rfl) rfl
theorem q2790 : (Jvm.Cond.superclass "ColumnarPressModel$Page" "java/lang/Record") ∈ lw_all := lw_g (lw_at lw_m12 98 rfl) rfl
theorem q2792 : (Jvm.Cond.instanceMethod ({ cls := "ColumnarPressModel$Page", name := "number", desc := "()I" } : Jvm.MethodName)) ∈ lw_all := lw_g (lw_at lw_m12 100 rfl) rfl
theorem q2793 : (Jvm.Cond.selects "ColumnarPressModel$Page" ({ cls := "ColumnarPressModel$Page", name := "number", desc := "()I" } : Jvm.MethodName) ({ cls := "ColumnarPressModel$Page", name := "number", desc := "()I" } : Jvm.MethodName)) ∈ lw_all := lw_g (lw_at lw_m12 101 rfl) rfl
theorem q2794 : (Jvm.Cond.code ({ cls := "ColumnarPressModel$Page", name := "number", desc := "()I" } : Jvm.MethodName) prog_17_method_6_code (1 : Nat) (Option.some Jvm.ClassFile.FieldType.int)) ∈ lw_all := lw_g (lw_at lw_m12 102 rfl) rfl
theorem q2800 : (Jvm.Cond.instanceMethod ({ cls := "ColumnarPressModel$Page", name := "unit", desc := "()LColumnarPressModel$Unit;" } : Jvm.MethodName)) ∈ lw_all := lw_g (lw_at lw_m12 108 rfl) rfl
theorem q2801 : (Jvm.Cond.selects "ColumnarPressModel$Page" ({ cls := "ColumnarPressModel$Page", name := "unit", desc := "()LColumnarPressModel$Unit;" } : Jvm.MethodName) ({ cls := "ColumnarPressModel$Page", name := "unit", desc := "()LColumnarPressModel$Unit;" } : Jvm.MethodName)) ∈ lw_all := lw_g (lw_at lw_m12 109 rfl) rfl
theorem q2802 : (Jvm.Cond.code ({ cls := "ColumnarPressModel$Page", name := "unit", desc := "()LColumnarPressModel$Unit;" } : Jvm.MethodName) prog_17_method_5_code (1 : Nat) (Option.some (Jvm.ClassFile.FieldType.object "ColumnarPressModel$Unit"))) ∈ lw_all := lw_g (lw_at lw_m12 110 rfl) rfl
theorem q2878 : (Jvm.Cond.castable "ColumnarPressModel$Page" "java/lang/Object") ∈ lw_tbl := lw_at lw_m12 186 rfl
theorem in_X19 : ∀ w ∈ wsX190, w ∈ lw_all := lw_in wsX190 [2786, 2788] (by decide +kernel) (by decide +kernel)
/-! ColumnarPressModel$Box -/
set_option maxRecDepth 100000
def RX5 : String := "ColumnarPressModel$Box"
def TX5 : u_T := fun k => match k with
  | 0 => ("ColumnarPressModel$Box", "number", "I", true)
  | 1 => ("ColumnarPressModel$Box", "kind", "C", true)
  | 2 => ("ColumnarPressModel$Box", "parent", "LColumnarPressModel$Box;", true)
  | 3 => ("ColumnarPressModel$Box", "deep", "I", true)
  | 4 => ("ColumnarPressModel$Box", "children", "Ljava/util/ArrayList;", true)
  | 5 => ("ColumnarPressModel$Box", "words", "Ljava/util/ArrayList;", true)
  | 6 => ("ColumnarPressModel$Box", "lines", "Ljava/util/ArrayList;", true)
  | 7 => ("ColumnarPressModel$Box", "width", "I", false)
  | 8 => ("ColumnarPressModel$Box", "height", "I", false)
  | 9 => ("ColumnarPressModel$Box", "top", "I", false)
  | 10 => ("ColumnarPressModel$Box", "bottom", "I", false)
  | 11 => ("ColumnarPressModel$Box", "left", "I", false)
  | 12 => ("ColumnarPressModel$Box", "right", "I", false)
  | 13 => ("ColumnarPressModel$Box", "padding", "I", false)
  | 14 => ("ColumnarPressModel$Box", "grow", "I", false)
  | 15 => ("ColumnarPressModel$Box", "shrink", "I", false)
  | 16 => ("ColumnarPressModel$Box", "columns", "I", false)
  | 17 => ("ColumnarPressModel$Box", "dx", "I", false)
  | 18 => ("ColumnarPressModel$Box", "dy", "I", false)
  | 19 => ("ColumnarPressModel$Box", "depth", "I", false)
  | 20 => ("ColumnarPressModel$Box", "side", "C", false)
  | 21 => ("ColumnarPressModel$Box", "place", "C", false)
  | 22 => ("ColumnarPressModel$Box", "pause", "C", false)
  | 23 => ("ColumnarPressModel$Box", "alignment", "C", false)
  | 24 => ("ColumnarPressModel$Box", "clears", "Z", false)
  | 25 => ("ColumnarPressModel$Box", "isMarked", "Z", false)
  | 26 => ("ColumnarPressModel$Box", "lastWidth", "I", false)
  | 27 => ("ColumnarPressModel$Box", "x", "I", false)
  | 28 => ("ColumnarPressModel$Box", "y", "I", false)
  | 29 => ("ColumnarPressModel$Box", "w", "I", false)
  | _ => ("ColumnarPressModel$Box", "h", "I", false)
def tyX5 : Nat → FieldType := fun k => match k with
  | 0 => .int
  | 1 => .char
  | 2 => .object "ColumnarPressModel$Box"
  | 3 => .int
  | 4 => .object "java/util/ArrayList"
  | 5 => .object "java/util/ArrayList"
  | 6 => .object "java/util/ArrayList"
  | 7 => .int
  | 8 => .int
  | 9 => .int
  | 10 => .int
  | 11 => .int
  | 12 => .int
  | 13 => .int
  | 14 => .int
  | 15 => .int
  | 16 => .int
  | 17 => .int
  | 18 => .int
  | 19 => .int
  | 20 => .char
  | 21 => .char
  | 22 => .char
  | 23 => .char
  | 24 => .boolean
  | 25 => .boolean
  | 26 => .int
  | 27 => .int
  | 28 => .int
  | 29 => .int
  | _ => .int
abbrev wsX50 : List Cond := u_ws RX5 TX5 31
set_option maxRecDepth 100000 in
theorem nmX5 : ∀ a, a < 31 → ∀ b, b < 31 → a ≠ b → (TX5 a).2.1 ≠ (TX5 b).2.1 := by decide +kernel
set_option maxRecDepth 100000 in
theorem tyX5_ok : ∀ k, k < 31 → parseFieldDescriptor (TX5 k).2.2.1 = some (tyX5 k) := by decide +kernel
abbrev cX5_init : ByteArray := prog_15_method_1_code
def yX5_init : MethodName := ⟨RX5, "<init>", "(ICLColumnarPressModel$Box;)V"⟩
def dkwX5_init_8 : List UInt8 := [180, 0, 107, 4, 96, 181, 0, 107, 177]
abbrev dktX5_init_8 : List UInt8 := dkwX5_init_8 ++ []
def dkwX5_init_7 : List UInt8 := [181, 0, 97, 42, 28, 181, 0, 100, 42, 45, 181, 0, 103, 42, 45, 199, 0, 7, 3, 167, 0, 9, 45]
abbrev dktX5_init_7 : List UInt8 := dkwX5_init_7 ++ dktX5_init_8
def dkwX5_init_6 : List UInt8 := [42, 3, 181, 0, 85, 42, 3, 181, 0, 88, 42, 3, 181, 0, 91, 42, 3, 181, 0, 94, 42, 27]
abbrev dktX5_init_6 : List UInt8 := dkwX5_init_6 ++ dktX5_init_7
def dkwX5_init_5 : List UInt8 := [181, 0, 69, 42, 16, 108, 181, 0, 72, 42, 3, 181, 0, 75, 42, 4, 181, 0, 79, 42, 2, 181, 0, 82]
abbrev dktX5_init_5 : List UInt8 := dkwX5_init_5 ++ dktX5_init_6
def dkwX5_init_4 : List UInt8 := [3, 181, 0, 56, 42, 3, 181, 0, 59, 42, 16, 110, 181, 0, 62, 42, 16, 115, 181, 0, 66, 42, 16, 97]
abbrev dktX5_init_4 : List UInt8 := dkwX5_init_4 ++ dktX5_init_5
def dkwX5_init_3 : List UInt8 := [181, 0, 41, 42, 3, 181, 0, 44, 42, 4, 181, 0, 47, 42, 4, 181, 0, 50, 42, 3, 181, 0, 53, 42]
abbrev dktX5_init_3 : List UInt8 := dkwX5_init_3 ++ dktX5_init_4
def dkwX5_init_2 : List UInt8 := [42, 3, 181, 0, 29, 42, 3, 181, 0, 32, 42, 3, 181, 0, 35, 42, 3, 181, 0, 38, 42, 3]
abbrev dktX5_init_2 : List UInt8 := dkwX5_init_2 ++ dktX5_init_3
def dkwX5_init_1 : List UInt8 := [181, 0, 16, 42, 187, 0, 7, 89, 183, 0, 9, 181, 0, 19, 42, 2, 181, 0, 22, 42, 2, 181, 0, 26]
abbrev dktX5_init_1 : List UInt8 := dkwX5_init_1 ++ dktX5_init_2
def dkwX5_init_0 : List UInt8 := [42, 183, 0, 1, 42, 187, 0, 7, 89, 183, 0, 9, 181, 0, 10, 42, 187, 0, 7, 89, 183, 0, 9]
abbrev dktX5_init_0 : List UInt8 := dkwX5_init_0 ++ dktX5_init_1
theorem dksX5_init_0 : cX5_init.data.toList.drop 0 = dktX5_init_0 := by decide +kernel
theorem dksX5_init_1 : cX5_init.data.toList.drop 23 = dktX5_init_1 := dk_seg dksX5_init_0 23 rfl rfl
theorem dksX5_init_2 : cX5_init.data.toList.drop 47 = dktX5_init_2 := dk_seg dksX5_init_1 24 rfl rfl
theorem dksX5_init_3 : cX5_init.data.toList.drop 69 = dktX5_init_3 := dk_seg dksX5_init_2 22 rfl rfl
theorem dksX5_init_4 : cX5_init.data.toList.drop 93 = dktX5_init_4 := dk_seg dksX5_init_3 24 rfl rfl
theorem dksX5_init_5 : cX5_init.data.toList.drop 117 = dktX5_init_5 := dk_seg dksX5_init_4 24 rfl rfl
theorem dksX5_init_6 : cX5_init.data.toList.drop 141 = dktX5_init_6 := dk_seg dksX5_init_5 24 rfl rfl
theorem dksX5_init_7 : cX5_init.data.toList.drop 163 = dktX5_init_7 := dk_seg dksX5_init_6 22 rfl rfl
theorem dksX5_init_8 : cX5_init.data.toList.drop 186 = dktX5_init_8 := dk_seg dksX5_init_7 23 rfl rfl
theorem dX5_init_0 : decode cX5_init 0 = .ok (.aload_n 0, 1) := dk_42 (dk_at dksX5_init_0 0 rfl rfl)
theorem dX5_init_1 : decode cX5_init 1 = .ok (.invokespecial 1, 3) := dk_183 0 1 (dk_at dksX5_init_0 1 rfl rfl)
theorem dX5_init_4 : decode cX5_init 4 = .ok (.aload_n 0, 1) := dk_42 (dk_at dksX5_init_0 4 rfl rfl)
theorem dX5_init_5 : decode cX5_init 5 = .ok (.new 7, 3) := dk_187 0 7 (dk_at dksX5_init_0 5 rfl rfl)
theorem dX5_init_8 : decode cX5_init 8 = .ok (.dup, 1) := dk_89 (dk_at dksX5_init_0 8 rfl rfl)
theorem dX5_init_9 : decode cX5_init 9 = .ok (.invokespecial 9, 3) := dk_183 0 9 (dk_at dksX5_init_0 9 rfl rfl)
theorem dX5_init_12 : decode cX5_init 12 = .ok (.putfield 10, 3) := dk_181 0 10 (dk_at dksX5_init_0 12 rfl rfl)
theorem dX5_init_15 : decode cX5_init 15 = .ok (.aload_n 0, 1) := dk_42 (dk_at dksX5_init_0 15 rfl rfl)
theorem dX5_init_16 : decode cX5_init 16 = .ok (.new 7, 3) := dk_187 0 7 (dk_at dksX5_init_0 16 rfl rfl)
theorem dX5_init_19 : decode cX5_init 19 = .ok (.dup, 1) := dk_89 (dk_at dksX5_init_0 19 rfl rfl)
theorem dX5_init_20 : decode cX5_init 20 = .ok (.invokespecial 9, 3) := dk_183 0 9 (dk_at dksX5_init_0 20 rfl rfl)
theorem dX5_init_23 : decode cX5_init 23 = .ok (.putfield 16, 3) := dk_181 0 16 (dk_at dksX5_init_1 0 rfl rfl)
theorem dX5_init_26 : decode cX5_init 26 = .ok (.aload_n 0, 1) := dk_42 (dk_at dksX5_init_1 3 rfl rfl)
theorem dX5_init_27 : decode cX5_init 27 = .ok (.new 7, 3) := dk_187 0 7 (dk_at dksX5_init_1 4 rfl rfl)
theorem dX5_init_30 : decode cX5_init 30 = .ok (.dup, 1) := dk_89 (dk_at dksX5_init_1 7 rfl rfl)
theorem dX5_init_31 : decode cX5_init 31 = .ok (.invokespecial 9, 3) := dk_183 0 9 (dk_at dksX5_init_1 8 rfl rfl)
theorem dX5_init_34 : decode cX5_init 34 = .ok (.putfield 19, 3) := dk_181 0 19 (dk_at dksX5_init_1 11 rfl rfl)
theorem dX5_init_37 : decode cX5_init 37 = .ok (.aload_n 0, 1) := dk_42 (dk_at dksX5_init_1 14 rfl rfl)
theorem dX5_init_38 : decode cX5_init 38 = .ok (.iconst (-1), 1) := dk_2 (dk_at dksX5_init_1 15 rfl rfl)
theorem dX5_init_39 : decode cX5_init 39 = .ok (.putfield 22, 3) := dk_181 0 22 (dk_at dksX5_init_1 16 rfl rfl)
theorem dX5_init_42 : decode cX5_init 42 = .ok (.aload_n 0, 1) := dk_42 (dk_at dksX5_init_1 19 rfl rfl)
theorem dX5_init_43 : decode cX5_init 43 = .ok (.iconst (-1), 1) := dk_2 (dk_at dksX5_init_1 20 rfl rfl)
theorem dX5_init_44 : decode cX5_init 44 = .ok (.putfield 26, 3) := dk_181 0 26 (dk_at dksX5_init_1 21 rfl rfl)
theorem dX5_init_47 : decode cX5_init 47 = .ok (.aload_n 0, 1) := dk_42 (dk_at dksX5_init_2 0 rfl rfl)
theorem dX5_init_48 : decode cX5_init 48 = .ok (.iconst 0, 1) := dk_3 (dk_at dksX5_init_2 1 rfl rfl)
theorem dX5_init_49 : decode cX5_init 49 = .ok (.putfield 29, 3) := dk_181 0 29 (dk_at dksX5_init_2 2 rfl rfl)
theorem dX5_init_52 : decode cX5_init 52 = .ok (.aload_n 0, 1) := dk_42 (dk_at dksX5_init_2 5 rfl rfl)
theorem dX5_init_53 : decode cX5_init 53 = .ok (.iconst 0, 1) := dk_3 (dk_at dksX5_init_2 6 rfl rfl)
theorem dX5_init_54 : decode cX5_init 54 = .ok (.putfield 32, 3) := dk_181 0 32 (dk_at dksX5_init_2 7 rfl rfl)
theorem dX5_init_57 : decode cX5_init 57 = .ok (.aload_n 0, 1) := dk_42 (dk_at dksX5_init_2 10 rfl rfl)
theorem dX5_init_58 : decode cX5_init 58 = .ok (.iconst 0, 1) := dk_3 (dk_at dksX5_init_2 11 rfl rfl)
theorem dX5_init_59 : decode cX5_init 59 = .ok (.putfield 35, 3) := dk_181 0 35 (dk_at dksX5_init_2 12 rfl rfl)
theorem dX5_init_62 : decode cX5_init 62 = .ok (.aload_n 0, 1) := dk_42 (dk_at dksX5_init_2 15 rfl rfl)
theorem dX5_init_63 : decode cX5_init 63 = .ok (.iconst 0, 1) := dk_3 (dk_at dksX5_init_2 16 rfl rfl)
theorem dX5_init_64 : decode cX5_init 64 = .ok (.putfield 38, 3) := dk_181 0 38 (dk_at dksX5_init_2 17 rfl rfl)
theorem dX5_init_67 : decode cX5_init 67 = .ok (.aload_n 0, 1) := dk_42 (dk_at dksX5_init_2 20 rfl rfl)
theorem dX5_init_68 : decode cX5_init 68 = .ok (.iconst 0, 1) := dk_3 (dk_at dksX5_init_2 21 rfl rfl)
theorem dX5_init_69 : decode cX5_init 69 = .ok (.putfield 41, 3) := dk_181 0 41 (dk_at dksX5_init_3 0 rfl rfl)
theorem dX5_init_72 : decode cX5_init 72 = .ok (.aload_n 0, 1) := dk_42 (dk_at dksX5_init_3 3 rfl rfl)
theorem dX5_init_73 : decode cX5_init 73 = .ok (.iconst 0, 1) := dk_3 (dk_at dksX5_init_3 4 rfl rfl)
theorem dX5_init_74 : decode cX5_init 74 = .ok (.putfield 44, 3) := dk_181 0 44 (dk_at dksX5_init_3 5 rfl rfl)
theorem dX5_init_77 : decode cX5_init 77 = .ok (.aload_n 0, 1) := dk_42 (dk_at dksX5_init_3 8 rfl rfl)
theorem dX5_init_78 : decode cX5_init 78 = .ok (.iconst 1, 1) := dk_4 (dk_at dksX5_init_3 9 rfl rfl)
theorem dX5_init_79 : decode cX5_init 79 = .ok (.putfield 47, 3) := dk_181 0 47 (dk_at dksX5_init_3 10 rfl rfl)
theorem dX5_init_82 : decode cX5_init 82 = .ok (.aload_n 0, 1) := dk_42 (dk_at dksX5_init_3 13 rfl rfl)
theorem dX5_init_83 : decode cX5_init 83 = .ok (.iconst 1, 1) := dk_4 (dk_at dksX5_init_3 14 rfl rfl)
theorem dX5_init_84 : decode cX5_init 84 = .ok (.putfield 50, 3) := dk_181 0 50 (dk_at dksX5_init_3 15 rfl rfl)
theorem dX5_init_87 : decode cX5_init 87 = .ok (.aload_n 0, 1) := dk_42 (dk_at dksX5_init_3 18 rfl rfl)
theorem dX5_init_88 : decode cX5_init 88 = .ok (.iconst 0, 1) := dk_3 (dk_at dksX5_init_3 19 rfl rfl)
theorem dX5_init_89 : decode cX5_init 89 = .ok (.putfield 53, 3) := dk_181 0 53 (dk_at dksX5_init_3 20 rfl rfl)
theorem dX5_init_92 : decode cX5_init 92 = .ok (.aload_n 0, 1) := dk_42 (dk_at dksX5_init_3 23 rfl rfl)
theorem dX5_init_93 : decode cX5_init 93 = .ok (.iconst 0, 1) := dk_3 (dk_at dksX5_init_4 0 rfl rfl)
theorem dX5_init_94 : decode cX5_init 94 = .ok (.putfield 56, 3) := dk_181 0 56 (dk_at dksX5_init_4 1 rfl rfl)
theorem dX5_init_97 : decode cX5_init 97 = .ok (.aload_n 0, 1) := dk_42 (dk_at dksX5_init_4 4 rfl rfl)
theorem dX5_init_98 : decode cX5_init 98 = .ok (.iconst 0, 1) := dk_3 (dk_at dksX5_init_4 5 rfl rfl)
theorem dX5_init_99 : decode cX5_init 99 = .ok (.putfield 59, 3) := dk_181 0 59 (dk_at dksX5_init_4 6 rfl rfl)
theorem dX5_init_102 : decode cX5_init 102 = .ok (.aload_n 0, 1) := dk_42 (dk_at dksX5_init_4 9 rfl rfl)
theorem dX5_init_103 : decode cX5_init 103 = .ok (.bipush 110, 2) := dk_16 110 (dk_at dksX5_init_4 10 rfl rfl)
theorem dX5_init_105 : decode cX5_init 105 = .ok (.putfield 62, 3) := dk_181 0 62 (dk_at dksX5_init_4 12 rfl rfl)
theorem dX5_init_108 : decode cX5_init 108 = .ok (.aload_n 0, 1) := dk_42 (dk_at dksX5_init_4 15 rfl rfl)
theorem dX5_init_109 : decode cX5_init 109 = .ok (.bipush 115, 2) := dk_16 115 (dk_at dksX5_init_4 16 rfl rfl)
theorem dX5_init_111 : decode cX5_init 111 = .ok (.putfield 66, 3) := dk_181 0 66 (dk_at dksX5_init_4 18 rfl rfl)
theorem dX5_init_114 : decode cX5_init 114 = .ok (.aload_n 0, 1) := dk_42 (dk_at dksX5_init_4 21 rfl rfl)
theorem dX5_init_115 : decode cX5_init 115 = .ok (.bipush 97, 2) := dk_16 97 (dk_at dksX5_init_4 22 rfl rfl)
theorem dX5_init_117 : decode cX5_init 117 = .ok (.putfield 69, 3) := dk_181 0 69 (dk_at dksX5_init_5 0 rfl rfl)
theorem dX5_init_120 : decode cX5_init 120 = .ok (.aload_n 0, 1) := dk_42 (dk_at dksX5_init_5 3 rfl rfl)
theorem dX5_init_121 : decode cX5_init 121 = .ok (.bipush 108, 2) := dk_16 108 (dk_at dksX5_init_5 4 rfl rfl)
theorem dX5_init_123 : decode cX5_init 123 = .ok (.putfield 72, 3) := dk_181 0 72 (dk_at dksX5_init_5 6 rfl rfl)
theorem dX5_init_126 : decode cX5_init 126 = .ok (.aload_n 0, 1) := dk_42 (dk_at dksX5_init_5 9 rfl rfl)
theorem dX5_init_127 : decode cX5_init 127 = .ok (.iconst 0, 1) := dk_3 (dk_at dksX5_init_5 10 rfl rfl)
theorem dX5_init_128 : decode cX5_init 128 = .ok (.putfield 75, 3) := dk_181 0 75 (dk_at dksX5_init_5 11 rfl rfl)
theorem dX5_init_131 : decode cX5_init 131 = .ok (.aload_n 0, 1) := dk_42 (dk_at dksX5_init_5 14 rfl rfl)
theorem dX5_init_132 : decode cX5_init 132 = .ok (.iconst 1, 1) := dk_4 (dk_at dksX5_init_5 15 rfl rfl)
theorem dX5_init_133 : decode cX5_init 133 = .ok (.putfield 79, 3) := dk_181 0 79 (dk_at dksX5_init_5 16 rfl rfl)
theorem dX5_init_136 : decode cX5_init 136 = .ok (.aload_n 0, 1) := dk_42 (dk_at dksX5_init_5 19 rfl rfl)
theorem dX5_init_137 : decode cX5_init 137 = .ok (.iconst (-1), 1) := dk_2 (dk_at dksX5_init_5 20 rfl rfl)
theorem dX5_init_138 : decode cX5_init 138 = .ok (.putfield 82, 3) := dk_181 0 82 (dk_at dksX5_init_5 21 rfl rfl)
theorem dX5_init_141 : decode cX5_init 141 = .ok (.aload_n 0, 1) := dk_42 (dk_at dksX5_init_6 0 rfl rfl)
theorem dX5_init_142 : decode cX5_init 142 = .ok (.iconst 0, 1) := dk_3 (dk_at dksX5_init_6 1 rfl rfl)
theorem dX5_init_143 : decode cX5_init 143 = .ok (.putfield 85, 3) := dk_181 0 85 (dk_at dksX5_init_6 2 rfl rfl)
theorem dX5_init_146 : decode cX5_init 146 = .ok (.aload_n 0, 1) := dk_42 (dk_at dksX5_init_6 5 rfl rfl)
theorem dX5_init_147 : decode cX5_init 147 = .ok (.iconst 0, 1) := dk_3 (dk_at dksX5_init_6 6 rfl rfl)
theorem dX5_init_148 : decode cX5_init 148 = .ok (.putfield 88, 3) := dk_181 0 88 (dk_at dksX5_init_6 7 rfl rfl)
theorem dX5_init_151 : decode cX5_init 151 = .ok (.aload_n 0, 1) := dk_42 (dk_at dksX5_init_6 10 rfl rfl)
theorem dX5_init_152 : decode cX5_init 152 = .ok (.iconst 0, 1) := dk_3 (dk_at dksX5_init_6 11 rfl rfl)
theorem dX5_init_153 : decode cX5_init 153 = .ok (.putfield 91, 3) := dk_181 0 91 (dk_at dksX5_init_6 12 rfl rfl)
theorem dX5_init_156 : decode cX5_init 156 = .ok (.aload_n 0, 1) := dk_42 (dk_at dksX5_init_6 15 rfl rfl)
theorem dX5_init_157 : decode cX5_init 157 = .ok (.iconst 0, 1) := dk_3 (dk_at dksX5_init_6 16 rfl rfl)
theorem dX5_init_158 : decode cX5_init 158 = .ok (.putfield 94, 3) := dk_181 0 94 (dk_at dksX5_init_6 17 rfl rfl)
theorem dX5_init_161 : decode cX5_init 161 = .ok (.aload_n 0, 1) := dk_42 (dk_at dksX5_init_6 20 rfl rfl)
theorem dX5_init_162 : decode cX5_init 162 = .ok (.iload_n 1, 1) := dk_27 (dk_at dksX5_init_6 21 rfl rfl)
theorem dX5_init_163 : decode cX5_init 163 = .ok (.putfield 97, 3) := dk_181 0 97 (dk_at dksX5_init_7 0 rfl rfl)
theorem dX5_init_166 : decode cX5_init 166 = .ok (.aload_n 0, 1) := dk_42 (dk_at dksX5_init_7 3 rfl rfl)
theorem dX5_init_167 : decode cX5_init 167 = .ok (.iload_n 2, 1) := dk_28 (dk_at dksX5_init_7 4 rfl rfl)
theorem dX5_init_168 : decode cX5_init 168 = .ok (.putfield 100, 3) := dk_181 0 100 (dk_at dksX5_init_7 5 rfl rfl)
theorem dX5_init_171 : decode cX5_init 171 = .ok (.aload_n 0, 1) := dk_42 (dk_at dksX5_init_7 8 rfl rfl)
theorem dX5_init_172 : decode cX5_init 172 = .ok (.aload_n 3, 1) := dk_45 (dk_at dksX5_init_7 9 rfl rfl)
theorem dX5_init_173 : decode cX5_init 173 = .ok (.putfield 103, 3) := dk_181 0 103 (dk_at dksX5_init_7 10 rfl rfl)
theorem dX5_init_176 : decode cX5_init 176 = .ok (.aload_n 0, 1) := dk_42 (dk_at dksX5_init_7 13 rfl rfl)
theorem dX5_init_177 : decode cX5_init 177 = .ok (.aload_n 3, 1) := dk_45 (dk_at dksX5_init_7 14 rfl rfl)
theorem dX5_init_178 : decode cX5_init 178 = .ok (.ifnonnull 7, 3) := dk_199 0 7 (dk_at dksX5_init_7 15 rfl rfl)
theorem dX5_init_181 : decode cX5_init 181 = .ok (.iconst 0, 1) := dk_3 (dk_at dksX5_init_7 18 rfl rfl)
theorem dX5_init_182 : decode cX5_init 182 = .ok (.goto 9, 3) := dk_167 0 9 (dk_at dksX5_init_7 19 rfl rfl)
theorem dX5_init_185 : decode cX5_init 185 = .ok (.aload_n 3, 1) := dk_45 (dk_at dksX5_init_7 22 rfl rfl)
theorem dX5_init_186 : decode cX5_init 186 = .ok (.getfield 107, 3) := dk_180 0 107 (dk_at dksX5_init_8 0 rfl rfl)
theorem dX5_init_189 : decode cX5_init 189 = .ok (.iconst 1, 1) := dk_4 (dk_at dksX5_init_8 3 rfl rfl)
theorem dX5_init_190 : decode cX5_init 190 = .ok (.iadd, 1) := dk_96 (dk_at dksX5_init_8 4 rfl rfl)
theorem dX5_init_191 : decode cX5_init 191 = .ok (.putfield 107, 3) := dk_181 0 107 (dk_at dksX5_init_8 5 rfl rfl)
theorem dX5_init_194 : decode cX5_init 194 = .ok (.return_, 1) := dk_177 (dk_at dksX5_init_8 8 rfl rfl)
abbrev cX5_told : ByteArray := prog_15_method_9_code
def yX5_told : MethodName := ⟨RX5, "told", "()I"⟩
def dkwX5_told_0 : List UInt8 := [42, 180, 0, 103, 199, 0, 7, 2, 167, 0, 7, 42, 180, 0, 22, 172]
abbrev dktX5_told_0 : List UInt8 := dkwX5_told_0 ++ []
theorem dksX5_told_0 : cX5_told.data.toList.drop 0 = dktX5_told_0 := by decide +kernel
theorem dX5_told_0 : decode cX5_told 0 = .ok (.aload_n 0, 1) := dk_42 (dk_at dksX5_told_0 0 rfl rfl)
theorem dX5_told_1 : decode cX5_told 1 = .ok (.getfield 103, 3) := dk_180 0 103 (dk_at dksX5_told_0 1 rfl rfl)
theorem dX5_told_4 : decode cX5_told 4 = .ok (.ifnonnull 7, 3) := dk_199 0 7 (dk_at dksX5_told_0 4 rfl rfl)
theorem dX5_told_7 : decode cX5_told 7 = .ok (.iconst (-1), 1) := dk_2 (dk_at dksX5_told_0 7 rfl rfl)
theorem dX5_told_8 : decode cX5_told 8 = .ok (.goto 7, 3) := dk_167 0 7 (dk_at dksX5_told_0 8 rfl rfl)
theorem dX5_told_11 : decode cX5_told 11 = .ok (.aload_n 0, 1) := dk_42 (dk_at dksX5_told_0 11 rfl rfl)
theorem dX5_told_12 : decode cX5_told 12 = .ok (.getfield 22, 3) := dk_180 0 22 (dk_at dksX5_told_0 12 rfl rfl)
theorem dX5_told_15 : decode cX5_told 15 = .ok (.ireturn, 1) := dk_172 (dk_at dksX5_told_0 15 rfl rfl)
abbrev cX5_isLifted : ByteArray := prog_15_method_2_code
def yX5_isLifted : MethodName := ⟨RX5, "isLifted", "()Z"⟩
def dkwX5_isLifted_0 : List UInt8 := [42, 180, 0, 103, 198, 0, 16, 42, 180, 0, 66, 16, 97, 160, 0, 7, 4, 167, 0, 4, 3, 172]
abbrev dktX5_isLifted_0 : List UInt8 := dkwX5_isLifted_0 ++ []
theorem dksX5_isLifted_0 : cX5_isLifted.data.toList.drop 0 = dktX5_isLifted_0 := by decide +kernel
theorem dX5_isLifted_0 : decode cX5_isLifted 0 = .ok (.aload_n 0, 1) := dk_42 (dk_at dksX5_isLifted_0 0 rfl rfl)
theorem dX5_isLifted_1 : decode cX5_isLifted 1 = .ok (.getfield 103, 3) := dk_180 0 103 (dk_at dksX5_isLifted_0 1 rfl rfl)
theorem dX5_isLifted_4 : decode cX5_isLifted 4 = .ok (.ifnull 16, 3) := dk_198 0 16 (dk_at dksX5_isLifted_0 4 rfl rfl)
theorem dX5_isLifted_7 : decode cX5_isLifted 7 = .ok (.aload_n 0, 1) := dk_42 (dk_at dksX5_isLifted_0 7 rfl rfl)
theorem dX5_isLifted_8 : decode cX5_isLifted 8 = .ok (.getfield 66, 3) := dk_180 0 66 (dk_at dksX5_isLifted_0 8 rfl rfl)
theorem dX5_isLifted_11 : decode cX5_isLifted 11 = .ok (.bipush 97, 2) := dk_16 97 (dk_at dksX5_isLifted_0 11 rfl rfl)
theorem dX5_isLifted_13 : decode cX5_isLifted 13 = .ok (.if_icmp .ne 7, 3) := dk_160 0 7 (dk_at dksX5_isLifted_0 13 rfl rfl)
theorem dX5_isLifted_16 : decode cX5_isLifted 16 = .ok (.iconst 1, 1) := dk_4 (dk_at dksX5_isLifted_0 16 rfl rfl)
theorem dX5_isLifted_17 : decode cX5_isLifted 17 = .ok (.goto 4, 3) := dk_167 0 4 (dk_at dksX5_isLifted_0 17 rfl rfl)
theorem dX5_isLifted_20 : decode cX5_isLifted 20 = .ok (.iconst 0, 1) := dk_3 (dk_at dksX5_isLifted_0 20 rfl rfl)
theorem dX5_isLifted_21 : decode cX5_isLifted 21 = .ok (.ireturn, 1) := dk_172 (dk_at dksX5_isLifted_0 21 rfl rfl)
abbrev cX5_sides : ByteArray := prog_15_method_8_code
def yX5_sides : MethodName := ⟨RX5, "sides", "()I"⟩
def dkwX5_sides_0 : List UInt8 := [42, 180, 0, 35, 42, 180, 0, 38, 96, 172]
abbrev dktX5_sides_0 : List UInt8 := dkwX5_sides_0 ++ []
theorem dksX5_sides_0 : cX5_sides.data.toList.drop 0 = dktX5_sides_0 := by decide +kernel
theorem dX5_sides_0 : decode cX5_sides 0 = .ok (.aload_n 0, 1) := dk_42 (dk_at dksX5_sides_0 0 rfl rfl)
theorem dX5_sides_1 : decode cX5_sides 1 = .ok (.getfield 35, 3) := dk_180 0 35 (dk_at dksX5_sides_0 1 rfl rfl)
theorem dX5_sides_4 : decode cX5_sides 4 = .ok (.aload_n 0, 1) := dk_42 (dk_at dksX5_sides_0 4 rfl rfl)
theorem dX5_sides_5 : decode cX5_sides 5 = .ok (.getfield 38, 3) := dk_180 0 38 (dk_at dksX5_sides_0 5 rfl rfl)
theorem dX5_sides_8 : decode cX5_sides 8 = .ok (.iadd, 1) := dk_96 (dk_at dksX5_sides_0 8 rfl rfl)
theorem dX5_sides_9 : decode cX5_sides 9 = .ok (.ireturn, 1) := dk_172 (dk_at dksX5_sides_0 9 rfl rfl)
abbrev cX5_isFloat : ByteArray := prog_15_method_4_code
def yX5_isFloat : MethodName := ⟨RX5, "isFloat", "()Z"⟩
def dkwX5_isFloat_1 : List UInt8 := [160, 0, 16, 42, 180, 0, 62, 16, 110, 159, 0, 7, 4, 167, 0, 4, 3, 172]
abbrev dktX5_isFloat_1 : List UInt8 := dkwX5_isFloat_1 ++ []
def dkwX5_isFloat_0 : List UInt8 := [42, 180, 0, 103, 198, 0, 35, 42, 182, 0, 110, 154, 0, 28, 42, 180, 0, 103, 180, 0, 100, 16, 98]
abbrev dktX5_isFloat_0 : List UInt8 := dkwX5_isFloat_0 ++ dktX5_isFloat_1
theorem dksX5_isFloat_0 : cX5_isFloat.data.toList.drop 0 = dktX5_isFloat_0 := by decide +kernel
theorem dksX5_isFloat_1 : cX5_isFloat.data.toList.drop 23 = dktX5_isFloat_1 := dk_seg dksX5_isFloat_0 23 rfl rfl
theorem dX5_isFloat_0 : decode cX5_isFloat 0 = .ok (.aload_n 0, 1) := dk_42 (dk_at dksX5_isFloat_0 0 rfl rfl)
theorem dX5_isFloat_1 : decode cX5_isFloat 1 = .ok (.getfield 103, 3) := dk_180 0 103 (dk_at dksX5_isFloat_0 1 rfl rfl)
theorem dX5_isFloat_4 : decode cX5_isFloat 4 = .ok (.ifnull 35, 3) := dk_198 0 35 (dk_at dksX5_isFloat_0 4 rfl rfl)
theorem dX5_isFloat_7 : decode cX5_isFloat 7 = .ok (.aload_n 0, 1) := dk_42 (dk_at dksX5_isFloat_0 7 rfl rfl)
theorem dX5_isFloat_8 : decode cX5_isFloat 8 = .ok (.invokevirtual 110, 3) := dk_182 0 110 (dk_at dksX5_isFloat_0 8 rfl rfl)
theorem dX5_isFloat_11 : decode cX5_isFloat 11 = .ok (.ifCond .ne 28, 3) := dk_154 0 28 (dk_at dksX5_isFloat_0 11 rfl rfl)
theorem dX5_isFloat_14 : decode cX5_isFloat 14 = .ok (.aload_n 0, 1) := dk_42 (dk_at dksX5_isFloat_0 14 rfl rfl)
theorem dX5_isFloat_15 : decode cX5_isFloat 15 = .ok (.getfield 103, 3) := dk_180 0 103 (dk_at dksX5_isFloat_0 15 rfl rfl)
theorem dX5_isFloat_18 : decode cX5_isFloat 18 = .ok (.getfield 100, 3) := dk_180 0 100 (dk_at dksX5_isFloat_0 18 rfl rfl)
theorem dX5_isFloat_21 : decode cX5_isFloat 21 = .ok (.bipush 98, 2) := dk_16 98 (dk_at dksX5_isFloat_0 21 rfl rfl)
theorem dX5_isFloat_23 : decode cX5_isFloat 23 = .ok (.if_icmp .ne 16, 3) := dk_160 0 16 (dk_at dksX5_isFloat_1 0 rfl rfl)
theorem dX5_isFloat_26 : decode cX5_isFloat 26 = .ok (.aload_n 0, 1) := dk_42 (dk_at dksX5_isFloat_1 3 rfl rfl)
theorem dX5_isFloat_27 : decode cX5_isFloat 27 = .ok (.getfield 62, 3) := dk_180 0 62 (dk_at dksX5_isFloat_1 4 rfl rfl)
theorem dX5_isFloat_30 : decode cX5_isFloat 30 = .ok (.bipush 110, 2) := dk_16 110 (dk_at dksX5_isFloat_1 7 rfl rfl)
theorem dX5_isFloat_32 : decode cX5_isFloat 32 = .ok (.if_icmp .eq 7, 3) := dk_159 0 7 (dk_at dksX5_isFloat_1 9 rfl rfl)
theorem dX5_isFloat_35 : decode cX5_isFloat 35 = .ok (.iconst 1, 1) := dk_4 (dk_at dksX5_isFloat_1 12 rfl rfl)
theorem dX5_isFloat_36 : decode cX5_isFloat 36 = .ok (.goto 4, 3) := dk_167 0 4 (dk_at dksX5_isFloat_1 13 rfl rfl)
theorem dX5_isFloat_39 : decode cX5_isFloat 39 = .ok (.iconst 0, 1) := dk_3 (dk_at dksX5_isFloat_1 16 rfl rfl)
theorem dX5_isFloat_40 : decode cX5_isFloat 40 = .ok (.ireturn, 1) := dk_172 (dk_at dksX5_isFloat_1 17 rfl rfl)
abbrev cX5_over : ByteArray := prog_15_method_6_code
def yX5_over : MethodName := ⟨RX5, "over", "()I"⟩
def dkwX5_over_0 : List UInt8 := [42, 180, 0, 29, 156, 0, 7, 3, 167, 0, 7, 42, 180, 0, 29, 172]
abbrev dktX5_over_0 : List UInt8 := dkwX5_over_0 ++ []
theorem dksX5_over_0 : cX5_over.data.toList.drop 0 = dktX5_over_0 := by decide +kernel
theorem dX5_over_0 : decode cX5_over 0 = .ok (.aload_n 0, 1) := dk_42 (dk_at dksX5_over_0 0 rfl rfl)
theorem dX5_over_1 : decode cX5_over 1 = .ok (.getfield 29, 3) := dk_180 0 29 (dk_at dksX5_over_0 1 rfl rfl)
theorem dX5_over_4 : decode cX5_over 4 = .ok (.ifCond .ge 7, 3) := dk_156 0 7 (dk_at dksX5_over_0 4 rfl rfl)
theorem dX5_over_7 : decode cX5_over 7 = .ok (.iconst 0, 1) := dk_3 (dk_at dksX5_over_0 7 rfl rfl)
theorem dX5_over_8 : decode cX5_over 8 = .ok (.goto 7, 3) := dk_167 0 7 (dk_at dksX5_over_0 8 rfl rfl)
theorem dX5_over_11 : decode cX5_over 11 = .ok (.aload_n 0, 1) := dk_42 (dk_at dksX5_over_0 11 rfl rfl)
theorem dX5_over_12 : decode cX5_over 12 = .ok (.getfield 29, 3) := dk_180 0 29 (dk_at dksX5_over_0 12 rfl rfl)
theorem dX5_over_15 : decode cX5_over 15 = .ok (.ireturn, 1) := dk_172 (dk_at dksX5_over_0 15 rfl rfl)
abbrev cX5_under : ByteArray := prog_15_method_7_code
def yX5_under : MethodName := ⟨RX5, "under", "()I"⟩
def dkwX5_under_0 : List UInt8 := [42, 180, 0, 32, 156, 0, 7, 3, 167, 0, 7, 42, 180, 0, 32, 172]
abbrev dktX5_under_0 : List UInt8 := dkwX5_under_0 ++ []
theorem dksX5_under_0 : cX5_under.data.toList.drop 0 = dktX5_under_0 := by decide +kernel
theorem dX5_under_0 : decode cX5_under 0 = .ok (.aload_n 0, 1) := dk_42 (dk_at dksX5_under_0 0 rfl rfl)
theorem dX5_under_1 : decode cX5_under 1 = .ok (.getfield 32, 3) := dk_180 0 32 (dk_at dksX5_under_0 1 rfl rfl)
theorem dX5_under_4 : decode cX5_under 4 = .ok (.ifCond .ge 7, 3) := dk_156 0 7 (dk_at dksX5_under_0 4 rfl rfl)
theorem dX5_under_7 : decode cX5_under 7 = .ok (.iconst 0, 1) := dk_3 (dk_at dksX5_under_0 7 rfl rfl)
theorem dX5_under_8 : decode cX5_under 8 = .ok (.goto 7, 3) := dk_167 0 7 (dk_at dksX5_under_0 8 rfl rfl)
theorem dX5_under_11 : decode cX5_under 11 = .ok (.aload_n 0, 1) := dk_42 (dk_at dksX5_under_0 11 rfl rfl)
theorem dX5_under_12 : decode cX5_under 12 = .ok (.getfield 32, 3) := dk_180 0 32 (dk_at dksX5_under_0 12 rfl rfl)
theorem dX5_under_15 : decode cX5_under 15 = .ok (.ireturn, 1) := dk_172 (dk_at dksX5_under_0 15 rfl rfl)
abbrev cX5_isContext : ByteArray := prog_15_method_5_code
def yX5_isContext : MethodName := ⟨RX5, "isContext", "()Z"⟩
def dkwX5_isContext_2 : List UInt8 := [4, 167, 0, 4, 3, 172]
abbrev dktX5_isContext_2 : List UInt8 := dkwX5_isContext_2 ++ []
def dkwX5_isContext_1 : List UInt8 := [182, 0, 117, 154, 0, 21, 42, 180, 0, 100, 16, 102, 159, 0, 12, 42, 180, 0, 100, 16, 103, 160, 0, 7]
abbrev dktX5_isContext_1 : List UInt8 := dkwX5_isContext_1 ++ dktX5_isContext_2
def dkwX5_isContext_0 : List UInt8 := [42, 180, 0, 103, 198, 0, 42, 42, 182, 0, 110, 154, 0, 35, 42, 182, 0, 114, 154, 0, 28, 42]
abbrev dktX5_isContext_0 : List UInt8 := dkwX5_isContext_0 ++ dktX5_isContext_1
theorem dksX5_isContext_0 : cX5_isContext.data.toList.drop 0 = dktX5_isContext_0 := by decide +kernel
theorem dksX5_isContext_1 : cX5_isContext.data.toList.drop 22 = dktX5_isContext_1 := dk_seg dksX5_isContext_0 22 rfl rfl
theorem dksX5_isContext_2 : cX5_isContext.data.toList.drop 46 = dktX5_isContext_2 := dk_seg dksX5_isContext_1 24 rfl rfl
theorem dX5_isContext_0 : decode cX5_isContext 0 = .ok (.aload_n 0, 1) := dk_42 (dk_at dksX5_isContext_0 0 rfl rfl)
theorem dX5_isContext_1 : decode cX5_isContext 1 = .ok (.getfield 103, 3) := dk_180 0 103 (dk_at dksX5_isContext_0 1 rfl rfl)
theorem dX5_isContext_4 : decode cX5_isContext 4 = .ok (.ifnull 42, 3) := dk_198 0 42 (dk_at dksX5_isContext_0 4 rfl rfl)
theorem dX5_isContext_7 : decode cX5_isContext 7 = .ok (.aload_n 0, 1) := dk_42 (dk_at dksX5_isContext_0 7 rfl rfl)
theorem dX5_isContext_8 : decode cX5_isContext 8 = .ok (.invokevirtual 110, 3) := dk_182 0 110 (dk_at dksX5_isContext_0 8 rfl rfl)
theorem dX5_isContext_11 : decode cX5_isContext 11 = .ok (.ifCond .ne 35, 3) := dk_154 0 35 (dk_at dksX5_isContext_0 11 rfl rfl)
theorem dX5_isContext_14 : decode cX5_isContext 14 = .ok (.aload_n 0, 1) := dk_42 (dk_at dksX5_isContext_0 14 rfl rfl)
theorem dX5_isContext_15 : decode cX5_isContext 15 = .ok (.invokevirtual 114, 3) := dk_182 0 114 (dk_at dksX5_isContext_0 15 rfl rfl)
theorem dX5_isContext_18 : decode cX5_isContext 18 = .ok (.ifCond .ne 28, 3) := dk_154 0 28 (dk_at dksX5_isContext_0 18 rfl rfl)
theorem dX5_isContext_21 : decode cX5_isContext 21 = .ok (.aload_n 0, 1) := dk_42 (dk_at dksX5_isContext_0 21 rfl rfl)
theorem dX5_isContext_22 : decode cX5_isContext 22 = .ok (.invokevirtual 117, 3) := dk_182 0 117 (dk_at dksX5_isContext_1 0 rfl rfl)
theorem dX5_isContext_25 : decode cX5_isContext 25 = .ok (.ifCond .ne 21, 3) := dk_154 0 21 (dk_at dksX5_isContext_1 3 rfl rfl)
theorem dX5_isContext_28 : decode cX5_isContext 28 = .ok (.aload_n 0, 1) := dk_42 (dk_at dksX5_isContext_1 6 rfl rfl)
theorem dX5_isContext_29 : decode cX5_isContext 29 = .ok (.getfield 100, 3) := dk_180 0 100 (dk_at dksX5_isContext_1 7 rfl rfl)
theorem dX5_isContext_32 : decode cX5_isContext 32 = .ok (.bipush 102, 2) := dk_16 102 (dk_at dksX5_isContext_1 10 rfl rfl)
theorem dX5_isContext_34 : decode cX5_isContext 34 = .ok (.if_icmp .eq 12, 3) := dk_159 0 12 (dk_at dksX5_isContext_1 12 rfl rfl)
theorem dX5_isContext_37 : decode cX5_isContext 37 = .ok (.aload_n 0, 1) := dk_42 (dk_at dksX5_isContext_1 15 rfl rfl)
theorem dX5_isContext_38 : decode cX5_isContext 38 = .ok (.getfield 100, 3) := dk_180 0 100 (dk_at dksX5_isContext_1 16 rfl rfl)
theorem dX5_isContext_41 : decode cX5_isContext 41 = .ok (.bipush 103, 2) := dk_16 103 (dk_at dksX5_isContext_1 19 rfl rfl)
theorem dX5_isContext_43 : decode cX5_isContext 43 = .ok (.if_icmp .ne 7, 3) := dk_160 0 7 (dk_at dksX5_isContext_1 21 rfl rfl)
theorem dX5_isContext_46 : decode cX5_isContext 46 = .ok (.iconst 1, 1) := dk_4 (dk_at dksX5_isContext_2 0 rfl rfl)
theorem dX5_isContext_47 : decode cX5_isContext 47 = .ok (.goto 4, 3) := dk_167 0 4 (dk_at dksX5_isContext_2 1 rfl rfl)
theorem dX5_isContext_50 : decode cX5_isContext 50 = .ok (.iconst 0, 1) := dk_3 (dk_at dksX5_isContext_2 4 rfl rfl)
theorem dX5_isContext_51 : decode cX5_isContext 51 = .ok (.ireturn, 1) := dk_172 (dk_at dksX5_isContext_2 5 rfl rfl)
abbrev cX5_isItem : ByteArray := prog_15_method_3_code
def yX5_isItem : MethodName := ⟨RX5, "isItem", "()Z"⟩
def dkwX5_isItem_1 : List UInt8 := [180, 0, 100, 16, 103, 160, 0, 14, 42, 182, 0, 110, 154, 0, 7, 4, 167, 0, 4, 3, 172]
abbrev dktX5_isItem_1 : List UInt8 := dkwX5_isItem_1 ++ []
def dkwX5_isItem_0 : List UInt8 := [42, 180, 0, 103, 198, 0, 38, 42, 180, 0, 103, 180, 0, 100, 16, 102, 159, 0, 15, 42, 180, 0, 103]
abbrev dktX5_isItem_0 : List UInt8 := dkwX5_isItem_0 ++ dktX5_isItem_1
theorem dksX5_isItem_0 : cX5_isItem.data.toList.drop 0 = dktX5_isItem_0 := by decide +kernel
theorem dksX5_isItem_1 : cX5_isItem.data.toList.drop 23 = dktX5_isItem_1 := dk_seg dksX5_isItem_0 23 rfl rfl
theorem dX5_isItem_0 : decode cX5_isItem 0 = .ok (.aload_n 0, 1) := dk_42 (dk_at dksX5_isItem_0 0 rfl rfl)
theorem dX5_isItem_1 : decode cX5_isItem 1 = .ok (.getfield 103, 3) := dk_180 0 103 (dk_at dksX5_isItem_0 1 rfl rfl)
theorem dX5_isItem_4 : decode cX5_isItem 4 = .ok (.ifnull 38, 3) := dk_198 0 38 (dk_at dksX5_isItem_0 4 rfl rfl)
theorem dX5_isItem_7 : decode cX5_isItem 7 = .ok (.aload_n 0, 1) := dk_42 (dk_at dksX5_isItem_0 7 rfl rfl)
theorem dX5_isItem_8 : decode cX5_isItem 8 = .ok (.getfield 103, 3) := dk_180 0 103 (dk_at dksX5_isItem_0 8 rfl rfl)
theorem dX5_isItem_11 : decode cX5_isItem 11 = .ok (.getfield 100, 3) := dk_180 0 100 (dk_at dksX5_isItem_0 11 rfl rfl)
theorem dX5_isItem_14 : decode cX5_isItem 14 = .ok (.bipush 102, 2) := dk_16 102 (dk_at dksX5_isItem_0 14 rfl rfl)
theorem dX5_isItem_16 : decode cX5_isItem 16 = .ok (.if_icmp .eq 15, 3) := dk_159 0 15 (dk_at dksX5_isItem_0 16 rfl rfl)
theorem dX5_isItem_19 : decode cX5_isItem 19 = .ok (.aload_n 0, 1) := dk_42 (dk_at dksX5_isItem_0 19 rfl rfl)
theorem dX5_isItem_20 : decode cX5_isItem 20 = .ok (.getfield 103, 3) := dk_180 0 103 (dk_at dksX5_isItem_0 20 rfl rfl)
theorem dX5_isItem_23 : decode cX5_isItem 23 = .ok (.getfield 100, 3) := dk_180 0 100 (dk_at dksX5_isItem_1 0 rfl rfl)
theorem dX5_isItem_26 : decode cX5_isItem 26 = .ok (.bipush 103, 2) := dk_16 103 (dk_at dksX5_isItem_1 3 rfl rfl)
theorem dX5_isItem_28 : decode cX5_isItem 28 = .ok (.if_icmp .ne 14, 3) := dk_160 0 14 (dk_at dksX5_isItem_1 5 rfl rfl)
theorem dX5_isItem_31 : decode cX5_isItem 31 = .ok (.aload_n 0, 1) := dk_42 (dk_at dksX5_isItem_1 8 rfl rfl)
theorem dX5_isItem_32 : decode cX5_isItem 32 = .ok (.invokevirtual 110, 3) := dk_182 0 110 (dk_at dksX5_isItem_1 9 rfl rfl)
theorem dX5_isItem_35 : decode cX5_isItem 35 = .ok (.ifCond .ne 7, 3) := dk_154 0 7 (dk_at dksX5_isItem_1 12 rfl rfl)
theorem dX5_isItem_38 : decode cX5_isItem 38 = .ok (.iconst 1, 1) := dk_4 (dk_at dksX5_isItem_1 15 rfl rfl)
theorem dX5_isItem_39 : decode cX5_isItem 39 = .ok (.goto 4, 3) := dk_167 0 4 (dk_at dksX5_isItem_1 16 rfl rfl)
theorem dX5_isItem_42 : decode cX5_isItem 42 = .ok (.iconst 0, 1) := dk_3 (dk_at dksX5_isItem_1 19 rfl rfl)
theorem dX5_isItem_43 : decode cX5_isItem 43 = .ok (.ireturn, 1) := dk_172 (dk_at dksX5_isItem_1 20 rfl rfl)
theorem q78 : (Jvm.Cond.initialized "ColumnarPressModel$Box") ∈ lw_all := lw_g (lw_at lw_m1 26 rfl) rfl
theorem q401 : (Jvm.Cond.selects "ColumnarPressModel$Box" ({ cls := "java/lang/Object", name := "getClass", desc := "()Ljava/lang/Class;" } : Jvm.MethodName) ({ cls := "java/lang/Object", name := "getClass", desc := "()Ljava/lang/Class;" } : Jvm.MethodName)) ∈ lw_all := lw_g (lw_at lw_m2 109 rfl) rfl
theorem q2085 : (Jvm.Cond.instantiable "ColumnarPressModel$Box" (31 : Nat)) ∈ lw_all := lw_g (lw_at lw_m9 113 rfl) rfl
theorem q2087 : (Jvm.Cond.instanceMethod ({ cls := "ColumnarPressModel$Box", name := "<init>", desc := "(ICLColumnarPressModel$Box;)V" } : Jvm.MethodName)) ∈ lw_all := lw_g (lw_at lw_m9 115 rfl) rfl
theorem q2088 : (Jvm.Cond.code ({ cls := "ColumnarPressModel$Box", name := "<init>", desc := "(ICLColumnarPressModel$Box;)V" } : Jvm.MethodName) prog_15_method_1_code (4 : Nat) (Option.none : Option Jvm.ClassFile.FieldType)) ∈ lw_all := lw_g (lw_at lw_m9 116 rfl) rfl
theorem q2089 : (Jvm.Cond.methodLink "ColumnarPressModel$Box" (1 : Nat) ({ cls := "java/lang/Object", name := "<init>", desc := "()V" } : Jvm.MethodName)) ∈ lw_all := lw_g (lw_at lw_m9 117 rfl) rfl
theorem q2090 : (Jvm.Cond.classLink "ColumnarPressModel$Box" (7 : Nat) "java/util/ArrayList") ∈ lw_all := lw_g (lw_at lw_m9 118 rfl) rfl
theorem q2091 : (Jvm.Cond.methodLink "ColumnarPressModel$Box" (9 : Nat) ({ cls := "java/util/ArrayList", name := "<init>", desc := "()V" } : Jvm.MethodName)) ∈ lw_all := lw_g (lw_at lw_m9 119 rfl) rfl
theorem q2092 : (Jvm.Cond.fieldLink "ColumnarPressModel$Box" (97 : Nat) "ColumnarPressModel$Box" "number" "I") ∈ lw_all := lw_g (lw_at lw_m9 120 rfl) rfl
theorem q2094 : (Jvm.Cond.fieldLink "ColumnarPressModel$Box" (100 : Nat) "ColumnarPressModel$Box" "kind" "C") ∈ lw_all := lw_g (lw_at lw_m9 122 rfl) rfl
theorem q2096 : (Jvm.Cond.fieldLink "ColumnarPressModel$Box" (103 : Nat) "ColumnarPressModel$Box" "parent" "LColumnarPressModel$Box;") ∈ lw_all := lw_g (lw_at lw_m9 124 rfl) rfl
theorem q2098 : (Jvm.Cond.fieldLink "ColumnarPressModel$Box" (107 : Nat) "ColumnarPressModel$Box" "deep" "I") ∈ lw_all := lw_g (lw_at lw_m9 126 rfl) rfl
theorem q2100 : (Jvm.Cond.fieldLink "ColumnarPressModel$Box" (10 : Nat) "ColumnarPressModel$Box" "children" "Ljava/util/ArrayList;") ∈ lw_all := lw_g (lw_at lw_m9 128 rfl) rfl
theorem q2102 : (Jvm.Cond.fieldLink "ColumnarPressModel$Box" (16 : Nat) "ColumnarPressModel$Box" "words" "Ljava/util/ArrayList;") ∈ lw_all := lw_g (lw_at lw_m9 130 rfl) rfl
theorem q2104 : (Jvm.Cond.fieldLink "ColumnarPressModel$Box" (19 : Nat) "ColumnarPressModel$Box" "lines" "Ljava/util/ArrayList;") ∈ lw_all := lw_g (lw_at lw_m9 132 rfl) rfl
theorem q2106 : (Jvm.Cond.fieldLink "ColumnarPressModel$Box" (22 : Nat) "ColumnarPressModel$Box" "width" "I") ∈ lw_all := lw_g (lw_at lw_m9 134 rfl) rfl
theorem q2108 : (Jvm.Cond.fieldLink "ColumnarPressModel$Box" (26 : Nat) "ColumnarPressModel$Box" "height" "I") ∈ lw_all := lw_g (lw_at lw_m9 136 rfl) rfl
theorem q2110 : (Jvm.Cond.fieldLink "ColumnarPressModel$Box" (29 : Nat) "ColumnarPressModel$Box" "top" "I") ∈ lw_all := lw_g (lw_at lw_m9 138 rfl) rfl
theorem q2112 : (Jvm.Cond.fieldLink "ColumnarPressModel$Box" (32 : Nat) "ColumnarPressModel$Box" "bottom" "I") ∈ lw_all := lw_g (lw_at lw_m9 140 rfl) rfl
theorem q2114 : (Jvm.Cond.fieldLink "ColumnarPressModel$Box" (35 : Nat) "ColumnarPressModel$Box" "left" "I") ∈ lw_all := lw_g (lw_at lw_m9 142 rfl) rfl
theorem q2116 : (Jvm.Cond.fieldLink "ColumnarPressModel$Box" (38 : Nat) "ColumnarPressModel$Box" "right" "I") ∈ lw_all := lw_g (lw_at lw_m9 144 rfl) rfl
theorem q2118 : (Jvm.Cond.fieldLink "ColumnarPressModel$Box" (41 : Nat) "ColumnarPressModel$Box" "padding" "I") ∈ lw_all := lw_g (lw_at lw_m9 146 rfl) rfl
theorem q2120 : (Jvm.Cond.fieldLink "ColumnarPressModel$Box" (44 : Nat) "ColumnarPressModel$Box" "grow" "I") ∈ lw_all := lw_g (lw_at lw_m9 148 rfl) rfl
theorem q2122 : (Jvm.Cond.fieldLink "ColumnarPressModel$Box" (47 : Nat) "ColumnarPressModel$Box" "shrink" "I") ∈ lw_all := lw_g (lw_at lw_m9 150 rfl) rfl
theorem q2124 : (Jvm.Cond.fieldLink "ColumnarPressModel$Box" (50 : Nat) "ColumnarPressModel$Box" "columns" "I") ∈ lw_all := lw_g (lw_at lw_m9 152 rfl) rfl
theorem q2126 : (Jvm.Cond.fieldLink "ColumnarPressModel$Box" (53 : Nat) "ColumnarPressModel$Box" "dx" "I") ∈ lw_all := lw_g (lw_at lw_m9 154 rfl) rfl
theorem q2128 : (Jvm.Cond.fieldLink "ColumnarPressModel$Box" (56 : Nat) "ColumnarPressModel$Box" "dy" "I") ∈ lw_all := lw_g (lw_at lw_m9 156 rfl) rfl
theorem q2130 : (Jvm.Cond.fieldLink "ColumnarPressModel$Box" (59 : Nat) "ColumnarPressModel$Box" "depth" "I") ∈ lw_all := lw_g (lw_at lw_m9 158 rfl) rfl
theorem q2132 : (Jvm.Cond.fieldLink "ColumnarPressModel$Box" (62 : Nat) "ColumnarPressModel$Box" "side" "C") ∈ lw_all := lw_g (lw_at lw_m9 160 rfl) rfl
theorem q2134 : (Jvm.Cond.fieldLink "ColumnarPressModel$Box" (66 : Nat) "ColumnarPressModel$Box" "place" "C") ∈ lw_all := lw_g (lw_at lw_m9 162 rfl) rfl
theorem q2136 : (Jvm.Cond.fieldLink "ColumnarPressModel$Box" (69 : Nat) "ColumnarPressModel$Box" "pause" "C") ∈ lw_all := lw_g (lw_at lw_m9 164 rfl) rfl
theorem q2138 : (Jvm.Cond.fieldLink "ColumnarPressModel$Box" (72 : Nat) "ColumnarPressModel$Box" "alignment" "C") ∈ lw_all := lw_g (lw_at lw_m9 166 rfl) rfl
theorem q2140 : (Jvm.Cond.fieldLink "ColumnarPressModel$Box" (75 : Nat) "ColumnarPressModel$Box" "clears" "Z") ∈ lw_all := lw_g (lw_at lw_m9 168 rfl) rfl
theorem q2142 : (Jvm.Cond.fieldLink "ColumnarPressModel$Box" (79 : Nat) "ColumnarPressModel$Box" "isMarked" "Z") ∈ lw_all := lw_g (lw_at lw_m9 170 rfl) rfl
theorem q2144 : (Jvm.Cond.fieldLink "ColumnarPressModel$Box" (82 : Nat) "ColumnarPressModel$Box" "lastWidth" "I") ∈ lw_all := lw_g (lw_at lw_m9 172 rfl) rfl
theorem q2146 : (Jvm.Cond.fieldLink "ColumnarPressModel$Box" (85 : Nat) "ColumnarPressModel$Box" "x" "I") ∈ lw_all := lw_g (lw_at lw_m9 174 rfl) rfl
theorem q2148 : (Jvm.Cond.fieldLink "ColumnarPressModel$Box" (88 : Nat) "ColumnarPressModel$Box" "y" "I") ∈ lw_all := lw_g (lw_at lw_m9 176 rfl) rfl
theorem q2150 : (Jvm.Cond.fieldLink "ColumnarPressModel$Box" (91 : Nat) "ColumnarPressModel$Box" "w" "I") ∈ lw_all := lw_g (lw_at lw_m9 178 rfl) rfl
theorem q2152 : (Jvm.Cond.fieldLink "ColumnarPressModel$Box" (94 : Nat) "ColumnarPressModel$Box" "h" "I") ∈ lw_all := lw_g (lw_at lw_m9 180 rfl) rfl
theorem q2154 : (Jvm.Cond.laysFinal "ColumnarPressModel$Box" "ColumnarPressModel$Box" "number" "I") ∈ lw_all := lw_g (lw_at lw_m9 182 rfl) rfl
theorem q2155 : (Jvm.Cond.soleField "ColumnarPressModel$Box" "number") ∈ lw_all := lw_g (lw_at lw_m9 183 rfl) rfl
theorem q2156 : (Jvm.Cond.laysFinal "ColumnarPressModel$Box" "ColumnarPressModel$Box" "kind" "C") ∈ lw_all := lw_g (lw_at lw_m9 184 rfl) rfl
theorem q2157 : (Jvm.Cond.soleField "ColumnarPressModel$Box" "kind") ∈ lw_all := lw_g (lw_at lw_m9 185 rfl) rfl
theorem q2158 : (Jvm.Cond.laysFinal "ColumnarPressModel$Box" "ColumnarPressModel$Box" "parent" "LColumnarPressModel$Box;") ∈ lw_all := lw_g (lw_at lw_m9 186 rfl) rfl
theorem q2159 : (Jvm.Cond.soleField "ColumnarPressModel$Box" "parent") ∈ lw_all := lw_g (lw_at lw_m9 187 rfl) rfl
theorem q2160 : (Jvm.Cond.laysFinal "ColumnarPressModel$Box" "ColumnarPressModel$Box" "deep" "I") ∈ lw_all := lw_g (lw_at lw_m9 188 rfl) rfl
theorem q2161 : (Jvm.Cond.soleField "ColumnarPressModel$Box" "deep") ∈ lw_all := lw_g (lw_at lw_m9 189 rfl) rfl
theorem q2162 : (Jvm.Cond.laysFinal "ColumnarPressModel$Box" "ColumnarPressModel$Box" "children" "Ljava/util/ArrayList;") ∈ lw_all := lw_g (lw_at lw_m9 190 rfl) rfl
theorem q2163 : (Jvm.Cond.soleField "ColumnarPressModel$Box" "children") ∈ lw_all := lw_g (lw_at lw_m9 191 rfl) rfl
theorem q2164 : (Jvm.Cond.laysFinal "ColumnarPressModel$Box" "ColumnarPressModel$Box" "words" "Ljava/util/ArrayList;") ∈ lw_all := lw_g (lw_at lw_m9 192 rfl) rfl
theorem q2165 : (Jvm.Cond.soleField "ColumnarPressModel$Box" "words") ∈ lw_all := lw_g (lw_at lw_m9 193 rfl) rfl
theorem q2166 : (Jvm.Cond.laysFinal "ColumnarPressModel$Box" "ColumnarPressModel$Box" "lines" "Ljava/util/ArrayList;") ∈ lw_all := lw_g (lw_at lw_m9 194 rfl) rfl
theorem q2167 : (Jvm.Cond.soleField "ColumnarPressModel$Box" "lines") ∈ lw_all := lw_g (lw_at lw_m9 195 rfl) rfl
theorem q2168 : (Jvm.Cond.lays "ColumnarPressModel$Box" "ColumnarPressModel$Box" "width" "I") ∈ lw_all := lw_g (lw_at lw_m9 196 rfl) rfl
theorem q2169 : (Jvm.Cond.soleField "ColumnarPressModel$Box" "width") ∈ lw_all := lw_g (lw_at lw_m9 197 rfl) rfl
theorem q2170 : (Jvm.Cond.lays "ColumnarPressModel$Box" "ColumnarPressModel$Box" "height" "I") ∈ lw_all := lw_g (lw_at lw_m9 198 rfl) rfl
theorem q2171 : (Jvm.Cond.soleField "ColumnarPressModel$Box" "height") ∈ lw_all := lw_g (lw_at lw_m9 199 rfl) rfl
theorem q2172 : (Jvm.Cond.lays "ColumnarPressModel$Box" "ColumnarPressModel$Box" "top" "I") ∈ lw_all := lw_g (lw_at lw_m9 200 rfl) rfl
theorem q2173 : (Jvm.Cond.soleField "ColumnarPressModel$Box" "top") ∈ lw_all := lw_g (lw_at lw_m9 201 rfl) rfl
theorem q2174 : (Jvm.Cond.lays "ColumnarPressModel$Box" "ColumnarPressModel$Box" "bottom" "I") ∈ lw_all := lw_g (lw_at lw_m9 202 rfl) rfl
theorem q2175 : (Jvm.Cond.soleField "ColumnarPressModel$Box" "bottom") ∈ lw_all := lw_g (lw_at lw_m9 203 rfl) rfl
theorem q2176 : (Jvm.Cond.lays "ColumnarPressModel$Box" "ColumnarPressModel$Box" "left" "I") ∈ lw_all := lw_g (lw_at lw_m9 204 rfl) rfl
theorem q2177 : (Jvm.Cond.soleField "ColumnarPressModel$Box" "left") ∈ lw_all := lw_g (lw_at lw_m9 205 rfl) rfl
theorem q2178 : (Jvm.Cond.lays "ColumnarPressModel$Box" "ColumnarPressModel$Box" "right" "I") ∈ lw_all := lw_g (lw_at lw_m9 206 rfl) rfl
theorem q2179 : (Jvm.Cond.soleField "ColumnarPressModel$Box" "right") ∈ lw_all := lw_g (lw_at lw_m9 207 rfl) rfl
theorem q2180 : (Jvm.Cond.lays "ColumnarPressModel$Box" "ColumnarPressModel$Box" "padding" "I") ∈ lw_all := lw_g (lw_at lw_m9 208 rfl) rfl
theorem q2181 : (Jvm.Cond.soleField "ColumnarPressModel$Box" "padding") ∈ lw_all := lw_g (lw_at lw_m9 209 rfl) rfl
theorem q2182 : (Jvm.Cond.lays "ColumnarPressModel$Box" "ColumnarPressModel$Box" "grow" "I") ∈ lw_all := lw_g (lw_at lw_m9 210 rfl) rfl
theorem q2183 : (Jvm.Cond.soleField "ColumnarPressModel$Box" "grow") ∈ lw_all := lw_g (lw_at lw_m9 211 rfl) rfl
theorem q2184 : (Jvm.Cond.lays "ColumnarPressModel$Box" "ColumnarPressModel$Box" "shrink" "I") ∈ lw_all := lw_g (lw_at lw_m9 212 rfl) rfl
theorem q2185 : (Jvm.Cond.soleField "ColumnarPressModel$Box" "shrink") ∈ lw_all := lw_g (lw_at lw_m9 213 rfl) rfl
theorem q2186 : (Jvm.Cond.lays "ColumnarPressModel$Box" "ColumnarPressModel$Box" "columns" "I") ∈ lw_all := lw_g (lw_at lw_m9 214 rfl) rfl
theorem q2187 : (Jvm.Cond.soleField "ColumnarPressModel$Box" "columns") ∈ lw_all := lw_g (lw_at lw_m9 215 rfl) rfl
theorem q2188 : (Jvm.Cond.lays "ColumnarPressModel$Box" "ColumnarPressModel$Box" "dx" "I") ∈ lw_all := lw_g (lw_at lw_m9 216 rfl) rfl
theorem q2189 : (Jvm.Cond.soleField "ColumnarPressModel$Box" "dx") ∈ lw_all := lw_g (lw_at lw_m9 217 rfl) rfl
theorem q2190 : (Jvm.Cond.lays "ColumnarPressModel$Box" "ColumnarPressModel$Box" "dy" "I") ∈ lw_all := lw_g (lw_at lw_m9 218 rfl) rfl
theorem q2191 : (Jvm.Cond.soleField "ColumnarPressModel$Box" "dy") ∈ lw_all := lw_g (lw_at lw_m9 219 rfl) rfl
theorem q2192 : (Jvm.Cond.lays "ColumnarPressModel$Box" "ColumnarPressModel$Box" "depth" "I") ∈ lw_all := lw_g (lw_at lw_m9 220 rfl) rfl
theorem q2193 : (Jvm.Cond.soleField "ColumnarPressModel$Box" "depth") ∈ lw_all := lw_g (lw_at lw_m9 221 rfl) rfl
theorem q2194 : (Jvm.Cond.lays "ColumnarPressModel$Box" "ColumnarPressModel$Box" "side" "C") ∈ lw_all := lw_g (lw_at lw_m9 222 rfl) rfl
theorem q2195 : (Jvm.Cond.soleField "ColumnarPressModel$Box" "side") ∈ lw_all := lw_g (lw_at lw_m9 223 rfl) rfl
theorem q2196 : (Jvm.Cond.lays "ColumnarPressModel$Box" "ColumnarPressModel$Box" "place" "C") ∈ lw_all := lw_g (lw_at lw_m9 224 rfl) rfl
theorem q2197 : (Jvm.Cond.soleField "ColumnarPressModel$Box" "place") ∈ lw_all := lw_g (lw_at lw_m9 225 rfl) rfl
theorem q2198 : (Jvm.Cond.lays "ColumnarPressModel$Box" "ColumnarPressModel$Box" "pause" "C") ∈ lw_all := lw_g (lw_at lw_m9 226 rfl) rfl
theorem q2199 : (Jvm.Cond.soleField "ColumnarPressModel$Box" "pause") ∈ lw_all := lw_g (lw_at lw_m9 227 rfl) rfl
theorem q2200 : (Jvm.Cond.lays "ColumnarPressModel$Box" "ColumnarPressModel$Box" "alignment" "C") ∈ lw_all := lw_g (lw_at lw_m9 228 rfl) rfl
theorem q2201 : (Jvm.Cond.soleField "ColumnarPressModel$Box" "alignment") ∈ lw_all := lw_g (lw_at lw_m9 229 rfl) rfl
theorem q2202 : (Jvm.Cond.lays "ColumnarPressModel$Box" "ColumnarPressModel$Box" "clears" "Z") ∈ lw_all := lw_g (lw_at lw_m9 230 rfl) rfl
theorem q2203 : (Jvm.Cond.soleField "ColumnarPressModel$Box" "clears") ∈ lw_all := lw_g (lw_at lw_m9 231 rfl) rfl
theorem q2204 : (Jvm.Cond.lays "ColumnarPressModel$Box" "ColumnarPressModel$Box" "isMarked" "Z") ∈ lw_all := lw_g (lw_at lw_m9 232 rfl) rfl
theorem q2205 : (Jvm.Cond.soleField "ColumnarPressModel$Box" "isMarked") ∈ lw_all := lw_g (lw_at lw_m9 233 rfl) rfl
theorem q2206 : (Jvm.Cond.lays "ColumnarPressModel$Box" "ColumnarPressModel$Box" "lastWidth" "I") ∈ lw_all := lw_g (lw_at lw_m9 234 rfl) rfl
theorem q2207 : (Jvm.Cond.soleField "ColumnarPressModel$Box" "lastWidth") ∈ lw_all := lw_g (lw_at lw_m9 235 rfl) rfl
theorem q2208 : (Jvm.Cond.lays "ColumnarPressModel$Box" "ColumnarPressModel$Box" "x" "I") ∈ lw_all := lw_g (lw_at lw_m9 236 rfl) rfl
theorem q2209 : (Jvm.Cond.soleField "ColumnarPressModel$Box" "x") ∈ lw_all := lw_g (lw_at lw_m9 237 rfl) rfl
theorem q2210 : (Jvm.Cond.lays "ColumnarPressModel$Box" "ColumnarPressModel$Box" "y" "I") ∈ lw_all := lw_g (lw_at lw_m9 238 rfl) rfl
theorem q2211 : (Jvm.Cond.soleField "ColumnarPressModel$Box" "y") ∈ lw_all := lw_g (lw_at lw_m9 239 rfl) rfl
theorem q2212 : (Jvm.Cond.lays "ColumnarPressModel$Box" "ColumnarPressModel$Box" "w" "I") ∈ lw_all := lw_g (lw_at lw_m10 0 rfl) rfl
theorem q2213 : (Jvm.Cond.soleField "ColumnarPressModel$Box" "w") ∈ lw_all := lw_g (lw_at lw_m10 1 rfl) rfl
theorem q2214 : (Jvm.Cond.lays "ColumnarPressModel$Box" "ColumnarPressModel$Box" "h" "I") ∈ lw_all := lw_g (lw_at lw_m10 2 rfl) rfl
theorem q2215 : (Jvm.Cond.soleField "ColumnarPressModel$Box" "h") ∈ lw_all := lw_g (lw_at lw_m10 3 rfl) rfl
theorem q2216 : (Jvm.Cond.superclass "ColumnarPressModel$Box" "java/lang/Object") ∈ lw_all := lw_g (lw_at lw_m10 4 rfl) rfl
theorem q2316 : (Jvm.Cond.instanceMethod ({ cls := "ColumnarPressModel$Box", name := "told", desc := "()I" } : Jvm.MethodName)) ∈ lw_all := lw_g (lw_at lw_m10 104 rfl) rfl
theorem q2317 : (Jvm.Cond.selects "ColumnarPressModel$Box" ({ cls := "ColumnarPressModel$Box", name := "told", desc := "()I" } : Jvm.MethodName) ({ cls := "ColumnarPressModel$Box", name := "told", desc := "()I" } : Jvm.MethodName)) ∈ lw_all := lw_g (lw_at lw_m10 105 rfl) rfl
theorem q2318 : (Jvm.Cond.code ({ cls := "ColumnarPressModel$Box", name := "told", desc := "()I" } : Jvm.MethodName) prog_15_method_9_code (1 : Nat) (Option.some Jvm.ClassFile.FieldType.int)) ∈ lw_all := lw_g (lw_at lw_m10 106 rfl) rfl
theorem q2334 : (Jvm.Cond.instanceMethod ({ cls := "ColumnarPressModel$Box", name := "isLifted", desc := "()Z" } : Jvm.MethodName)) ∈ lw_all := lw_g (lw_at lw_m10 122 rfl) rfl
theorem q2335 : (Jvm.Cond.selects "ColumnarPressModel$Box" ({ cls := "ColumnarPressModel$Box", name := "isLifted", desc := "()Z" } : Jvm.MethodName) ({ cls := "ColumnarPressModel$Box", name := "isLifted", desc := "()Z" } : Jvm.MethodName)) ∈ lw_all := lw_g (lw_at lw_m10 123 rfl) rfl
theorem q2336 : (Jvm.Cond.code ({ cls := "ColumnarPressModel$Box", name := "isLifted", desc := "()Z" } : Jvm.MethodName) prog_15_method_2_code (1 : Nat) (Option.some Jvm.ClassFile.FieldType.boolean)) ∈ lw_all := lw_g (lw_at lw_m10 124 rfl) rfl
theorem q2338 : (Jvm.Cond.instanceMethod ({ cls := "ColumnarPressModel$Box", name := "sides", desc := "()I" } : Jvm.MethodName)) ∈ lw_all := lw_g (lw_at lw_m10 126 rfl) rfl
theorem q2339 : (Jvm.Cond.selects "ColumnarPressModel$Box" ({ cls := "ColumnarPressModel$Box", name := "sides", desc := "()I" } : Jvm.MethodName) ({ cls := "ColumnarPressModel$Box", name := "sides", desc := "()I" } : Jvm.MethodName)) ∈ lw_all := lw_g (lw_at lw_m10 127 rfl) rfl
theorem q2340 : (Jvm.Cond.code ({ cls := "ColumnarPressModel$Box", name := "sides", desc := "()I" } : Jvm.MethodName) prog_15_method_8_code (1 : Nat) (Option.some Jvm.ClassFile.FieldType.int)) ∈ lw_all := lw_g (lw_at lw_m10 128 rfl) rfl
theorem q2365 : (Jvm.Cond.instanceMethod ({ cls := "ColumnarPressModel$Box", name := "isFloat", desc := "()Z" } : Jvm.MethodName)) ∈ lw_all := lw_g (lw_at lw_m10 153 rfl) rfl
theorem q2366 : (Jvm.Cond.selects "ColumnarPressModel$Box" ({ cls := "ColumnarPressModel$Box", name := "isFloat", desc := "()Z" } : Jvm.MethodName) ({ cls := "ColumnarPressModel$Box", name := "isFloat", desc := "()Z" } : Jvm.MethodName)) ∈ lw_all := lw_g (lw_at lw_m10 154 rfl) rfl
theorem q2367 : (Jvm.Cond.code ({ cls := "ColumnarPressModel$Box", name := "isFloat", desc := "()Z" } : Jvm.MethodName) prog_15_method_4_code (1 : Nat) (Option.some Jvm.ClassFile.FieldType.boolean)) ∈ lw_all := lw_g (lw_at lw_m10 155 rfl) rfl
theorem q2368 : (Jvm.Cond.methodLink "ColumnarPressModel$Box" (110 : Nat) ({ cls := "ColumnarPressModel$Box", name := "isLifted", desc := "()Z" } : Jvm.MethodName)) ∈ lw_all := lw_g (lw_at lw_m10 156 rfl) rfl
theorem q2378 : (Jvm.Cond.instanceMethod ({ cls := "ColumnarPressModel$Box", name := "over", desc := "()I" } : Jvm.MethodName)) ∈ lw_all := lw_g (lw_at lw_m10 166 rfl) rfl
theorem q2379 : (Jvm.Cond.selects "ColumnarPressModel$Box" ({ cls := "ColumnarPressModel$Box", name := "over", desc := "()I" } : Jvm.MethodName) ({ cls := "ColumnarPressModel$Box", name := "over", desc := "()I" } : Jvm.MethodName)) ∈ lw_all := lw_g (lw_at lw_m10 167 rfl) rfl
theorem q2380 : (Jvm.Cond.code ({ cls := "ColumnarPressModel$Box", name := "over", desc := "()I" } : Jvm.MethodName) prog_15_method_6_code (1 : Nat) (Option.some Jvm.ClassFile.FieldType.int)) ∈ lw_all := lw_g (lw_at lw_m10 168 rfl) rfl
theorem q2382 : (Jvm.Cond.instanceMethod ({ cls := "ColumnarPressModel$Box", name := "under", desc := "()I" } : Jvm.MethodName)) ∈ lw_all := lw_g (lw_at lw_m10 170 rfl) rfl
theorem q2383 : (Jvm.Cond.selects "ColumnarPressModel$Box" ({ cls := "ColumnarPressModel$Box", name := "under", desc := "()I" } : Jvm.MethodName) ({ cls := "ColumnarPressModel$Box", name := "under", desc := "()I" } : Jvm.MethodName)) ∈ lw_all := lw_g (lw_at lw_m10 171 rfl) rfl
theorem q2384 : (Jvm.Cond.code ({ cls := "ColumnarPressModel$Box", name := "under", desc := "()I" } : Jvm.MethodName) prog_15_method_7_code (1 : Nat) (Option.some Jvm.ClassFile.FieldType.int)) ∈ lw_all := lw_g (lw_at lw_m10 172 rfl) rfl
theorem q2466 : (Jvm.Cond.instanceMethod ({ cls := "ColumnarPressModel$Box", name := "isContext", desc := "()Z" } : Jvm.MethodName)) ∈ lw_all := lw_g (lw_at lw_m11 14 rfl) rfl
theorem q2467 : (Jvm.Cond.selects "ColumnarPressModel$Box" ({ cls := "ColumnarPressModel$Box", name := "isContext", desc := "()Z" } : Jvm.MethodName) ({ cls := "ColumnarPressModel$Box", name := "isContext", desc := "()Z" } : Jvm.MethodName)) ∈ lw_all := lw_g (lw_at lw_m11 15 rfl) rfl
theorem q2468 : (Jvm.Cond.code ({ cls := "ColumnarPressModel$Box", name := "isContext", desc := "()Z" } : Jvm.MethodName) prog_15_method_5_code (1 : Nat) (Option.some Jvm.ClassFile.FieldType.boolean)) ∈ lw_all := lw_g (lw_at lw_m11 16 rfl) rfl
theorem q2469 : (Jvm.Cond.methodLink "ColumnarPressModel$Box" (114 : Nat) ({ cls := "ColumnarPressModel$Box", name := "isItem", desc := "()Z" } : Jvm.MethodName)) ∈ lw_all := lw_g (lw_at lw_m11 17 rfl) rfl
theorem q2470 : (Jvm.Cond.instanceMethod ({ cls := "ColumnarPressModel$Box", name := "isItem", desc := "()Z" } : Jvm.MethodName)) ∈ lw_all := lw_g (lw_at lw_m11 18 rfl) rfl
theorem q2471 : (Jvm.Cond.selects "ColumnarPressModel$Box" ({ cls := "ColumnarPressModel$Box", name := "isItem", desc := "()Z" } : Jvm.MethodName) ({ cls := "ColumnarPressModel$Box", name := "isItem", desc := "()Z" } : Jvm.MethodName)) ∈ lw_all := lw_g (lw_at lw_m11 19 rfl) rfl
theorem q2472 : (Jvm.Cond.code ({ cls := "ColumnarPressModel$Box", name := "isItem", desc := "()Z" } : Jvm.MethodName) prog_15_method_3_code (1 : Nat) (Option.some Jvm.ClassFile.FieldType.boolean)) ∈ lw_all := lw_g (lw_at lw_m11 20 rfl) rfl
theorem q2473 : (Jvm.Cond.methodLink "ColumnarPressModel$Box" (117 : Nat) ({ cls := "ColumnarPressModel$Box", name := "isFloat", desc := "()Z" } : Jvm.MethodName)) ∈ lw_all := lw_g (lw_at lw_m11 21 rfl) rfl
theorem q2735 : (Jvm.Cond.selects "ColumnarPressModel$Box" ({ cls := "java/lang/Object", name := "equals", desc := "(Ljava/lang/Object;)Z" } : Jvm.MethodName) ({ cls := "java/lang/Object", name := "equals", desc := "(Ljava/lang/Object;)Z" } : Jvm.MethodName)) ∈ lw_all := lw_g (lw_at lw_m12 43 rfl) rfl
theorem q2850 : (Jvm.Cond.castable "ColumnarPressModel$Box" "java/lang/Object") ∈ lw_tbl := lw_at lw_m12 158 rfl
theorem in_X5 : ∀ w ∈ wsX50, w ∈ lw_all := lw_in wsX50 [2154, 2156, 2158, 2160, 2162, 2164, 2166, 2168, 2170, 2172, 2174, 2176, 2178, 2180, 2182, 2184, 2186, 2188, 2190, 2192, 2194, 2196, 2198, 2200, 2202, 2204, 2206, 2208, 2210, 2212, 2214] (by decide +kernel) (by decide +kernel)
/-! ColumnarPress$Pages -/
set_option maxRecDepth 100000
def RX16 : String := "ColumnarPress$Pages"
def TX16 : u_T := fun k => match k with
  | 0 => ("ColumnarPress$Pages", "height", "I", true)
  | 1 => ("ColumnarPress$Pages", "units", "Ljava/util/List;", true)
  | 2 => ("ColumnarPress$Pages", "isBegun", "[Z", true)
  | 3 => ("ColumnarPress$Pages", "page", "I", false)
  | 4 => ("ColumnarPress$Pages", "top", "I", false)
  | 5 => ("ColumnarPress$Pages", "isFirst", "Z", false)
  | _ => ("ColumnarPress$Pages", "this$0", "LColumnarPress;", true)
def tyX16 : Nat → FieldType := fun k => match k with
  | 0 => .int
  | 1 => .object "java/util/List"
  | 2 => .array .boolean
  | 3 => .int
  | 4 => .int
  | 5 => .boolean
  | _ => .object "ColumnarPress"
abbrev wsX160 : List Cond := u_ws RX16 TX16 7
theorem nmX16 : ∀ a, a < 7 → ∀ b, b < 7 → a ≠ b → (TX16 a).2.1 ≠ (TX16 b).2.1 := by decide +kernel
theorem tyX16_ok : ∀ k, k < 7 → parseFieldDescriptor (TX16 k).2.2.1 = some (tyX16 k) := by decide +kernel
abbrev cX16_init : ByteArray := prog_10_method_1_code
def yX16_init : MethodName := ⟨RX16, "<init>", "(LColumnarPress;I)V"⟩
def dkwX16_init_2 : List UInt8 := [180, 0, 37, 3, 185, 0, 40, 2, 0, 192, 0, 46, 3, 182, 0, 48, 177]
abbrev dktX16_init_2 : List UInt8 := dkwX16_init_2 ++ []
def dkwX16_init_1 : List UInt8 := [188, 4, 181, 0, 22, 42, 2, 181, 0, 26, 42, 4, 181, 0, 30, 42, 28, 181, 0, 34, 42, 43]
abbrev dktX16_init_1 : List UInt8 := dkwX16_init_1 ++ dktX16_init_2
def dkwX16_init_0 : List UInt8 := [42, 43, 181, 0, 3, 42, 183, 0, 9, 42, 187, 0, 15, 89, 183, 0, 17, 181, 0, 18, 42, 16, 24]
abbrev dktX16_init_0 : List UInt8 := dkwX16_init_0 ++ dktX16_init_1
theorem dksX16_init_0 : cX16_init.data.toList.drop 0 = dktX16_init_0 := by decide +kernel
theorem dksX16_init_1 : cX16_init.data.toList.drop 23 = dktX16_init_1 := dk_seg dksX16_init_0 23 rfl rfl
theorem dksX16_init_2 : cX16_init.data.toList.drop 45 = dktX16_init_2 := dk_seg dksX16_init_1 22 rfl rfl
theorem dX16_init_0 : decode cX16_init 0 = .ok (.aload_n 0, 1) := dk_42 (dk_at dksX16_init_0 0 rfl rfl)
theorem dX16_init_1 : decode cX16_init 1 = .ok (.aload_n 1, 1) := dk_43 (dk_at dksX16_init_0 1 rfl rfl)
theorem dX16_init_2 : decode cX16_init 2 = .ok (.putfield 3, 3) := dk_181 0 3 (dk_at dksX16_init_0 2 rfl rfl)
theorem dX16_init_5 : decode cX16_init 5 = .ok (.aload_n 0, 1) := dk_42 (dk_at dksX16_init_0 5 rfl rfl)
theorem dX16_init_6 : decode cX16_init 6 = .ok (.invokespecial 9, 3) := dk_183 0 9 (dk_at dksX16_init_0 6 rfl rfl)
theorem dX16_init_9 : decode cX16_init 9 = .ok (.aload_n 0, 1) := dk_42 (dk_at dksX16_init_0 9 rfl rfl)
theorem dX16_init_10 : decode cX16_init 10 = .ok (.new 15, 3) := dk_187 0 15 (dk_at dksX16_init_0 10 rfl rfl)
theorem dX16_init_13 : decode cX16_init 13 = .ok (.dup, 1) := dk_89 (dk_at dksX16_init_0 13 rfl rfl)
theorem dX16_init_14 : decode cX16_init 14 = .ok (.invokespecial 17, 3) := dk_183 0 17 (dk_at dksX16_init_0 14 rfl rfl)
theorem dX16_init_17 : decode cX16_init 17 = .ok (.putfield 18, 3) := dk_181 0 18 (dk_at dksX16_init_0 17 rfl rfl)
theorem dX16_init_20 : decode cX16_init 20 = .ok (.aload_n 0, 1) := dk_42 (dk_at dksX16_init_0 20 rfl rfl)
theorem dX16_init_21 : decode cX16_init 21 = .ok (.bipush 24, 2) := dk_16 24 (dk_at dksX16_init_0 21 rfl rfl)
theorem dX16_init_23 : decode cX16_init 23 = .ok (.newarray .boolean, 2) := dk_188_4 (dk_at dksX16_init_1 0 rfl rfl)
theorem dX16_init_25 : decode cX16_init 25 = .ok (.putfield 22, 3) := dk_181 0 22 (dk_at dksX16_init_1 2 rfl rfl)
theorem dX16_init_28 : decode cX16_init 28 = .ok (.aload_n 0, 1) := dk_42 (dk_at dksX16_init_1 5 rfl rfl)
theorem dX16_init_29 : decode cX16_init 29 = .ok (.iconst (-1), 1) := dk_2 (dk_at dksX16_init_1 6 rfl rfl)
theorem dX16_init_30 : decode cX16_init 30 = .ok (.putfield 26, 3) := dk_181 0 26 (dk_at dksX16_init_1 7 rfl rfl)
theorem dX16_init_33 : decode cX16_init 33 = .ok (.aload_n 0, 1) := dk_42 (dk_at dksX16_init_1 10 rfl rfl)
theorem dX16_init_34 : decode cX16_init 34 = .ok (.iconst 1, 1) := dk_4 (dk_at dksX16_init_1 11 rfl rfl)
theorem dX16_init_35 : decode cX16_init 35 = .ok (.putfield 30, 3) := dk_181 0 30 (dk_at dksX16_init_1 12 rfl rfl)
theorem dX16_init_38 : decode cX16_init 38 = .ok (.aload_n 0, 1) := dk_42 (dk_at dksX16_init_1 15 rfl rfl)
theorem dX16_init_39 : decode cX16_init 39 = .ok (.iload_n 2, 1) := dk_28 (dk_at dksX16_init_1 16 rfl rfl)
theorem dX16_init_40 : decode cX16_init 40 = .ok (.putfield 34, 3) := dk_181 0 34 (dk_at dksX16_init_1 17 rfl rfl)
theorem dX16_init_43 : decode cX16_init 43 = .ok (.aload_n 0, 1) := dk_42 (dk_at dksX16_init_1 20 rfl rfl)
theorem dX16_init_44 : decode cX16_init 44 = .ok (.aload_n 1, 1) := dk_43 (dk_at dksX16_init_1 21 rfl rfl)
theorem dX16_init_45 : decode cX16_init 45 = .ok (.getfield 37, 3) := dk_180 0 37 (dk_at dksX16_init_2 0 rfl rfl)
theorem dX16_init_48 : decode cX16_init 48 = .ok (.iconst 0, 1) := dk_3 (dk_at dksX16_init_2 3 rfl rfl)
theorem dX16_init_49 : decode cX16_init 49 = .ok (.invokeinterface 40 2, 5) := by decide +kernel
theorem dX16_init_54 : decode cX16_init 54 = .ok (.checkcast 46, 3) := dk_192 0 46 (dk_at dksX16_init_2 9 rfl rfl)
theorem dX16_init_57 : decode cX16_init 57 = .ok (.iconst 0, 1) := dk_3 (dk_at dksX16_init_2 12 rfl rfl)
theorem dX16_init_58 : decode cX16_init 58 = .ok (.invokevirtual 48, 3) := dk_182 0 48 (dk_at dksX16_init_2 13 rfl rfl)
theorem dX16_init_61 : decode cX16_init 61 = .ok (.return_, 1) := dk_177 (dk_at dksX16_init_2 16 rfl rfl)
abbrev cX16_walk : ByteArray := prog_10_method_3_code
def yX16_walk : MethodName := ⟨RX16, "walk", "(LColumnarPress$Box;I)V"⟩
def dkwX16_walk_10 : List UInt8 := [180, 0, 114, 96, 182, 0, 48, 167, 255, 212, 177]
abbrev dktX16_walk_10 : List UInt8 := dkwX16_walk_10 ++ []
def dkwX16_walk_9 : List UInt8 := [192, 0, 46, 58, 4, 25, 4, 182, 0, 111, 153, 0, 19, 42, 25, 4, 28, 25, 4, 180, 0, 59]
abbrev dktX16_walk_9 : List UInt8 := dkwX16_walk_9 ++ dktX16_walk_10
def dkwX16_walk_8 : List UInt8 := [180, 0, 88, 185, 0, 98, 1, 0, 78, 45, 185, 0, 102, 1, 0, 153, 0, 41, 45, 185, 0, 107, 1, 0]
abbrev dktX16_walk_8 : List UInt8 := dkwX16_walk_8 ++ dktX16_walk_9
def dkwX16_walk_7 : List UInt8 := [158, 0, 80, 42, 43, 3, 28, 28, 43, 180, 0, 59, 180, 0, 97, 96, 3, 182, 0, 81, 167, 0, 60, 43]
abbrev dktX16_walk_7 : List UInt8 := dkwX16_walk_7 ++ dktX16_walk_8
def dkwX16_walk_6 : List UInt8 := [185, 0, 91, 1, 0, 153, 0, 40, 43, 182, 0, 94, 154, 0, 90, 43, 180, 0, 59, 180, 0, 97]
abbrev dktX16_walk_6 : List UInt8 := dkwX16_walk_6 ++ dktX16_walk_7
def dkwX16_walk_5 : List UInt8 := [132, 4, 1, 167, 255, 161, 167, 0, 116, 43, 182, 0, 85, 154, 0, 15, 43, 180, 0, 88]
abbrev dktX16_walk_5 : List UInt8 := dkwX16_walk_5 ++ dktX16_walk_6
def dkwX16_walk_4 : List UInt8 := [167, 0, 4, 3, 54, 6, 42, 43, 21, 4, 21, 5, 21, 5, 16, 10, 96, 21, 6, 182, 0, 81]
abbrev dktX16_walk_4 : List UInt8 := dkwX16_walk_4 ++ dktX16_walk_5
def dkwX16_walk_3 : List UInt8 := [185, 0, 40, 2, 0, 192, 0, 72, 182, 0, 74, 96, 16, 10, 96, 182, 0, 77, 153, 0, 7, 4]
abbrev dktX16_walk_3 : List UInt8 := dkwX16_walk_3 ++ dktX16_walk_4
def dkwX16_walk_2 : List UInt8 := [54, 5, 21, 4, 154, 0, 42, 45, 185, 0, 68, 1, 0, 4, 164, 0, 32, 42, 28, 45, 4]
abbrev dktX16_walk_2 : List UInt8 := dkwX16_walk_2 ++ dktX16_walk_3
def dkwX16_walk_1 : List UInt8 := [185, 0, 68, 1, 0, 162, 0, 90, 28, 45, 21, 4, 185, 0, 40, 2, 0, 192, 0, 72, 182, 0, 74, 96]
abbrev dktX16_walk_1 : List UInt8 := dkwX16_walk_1 ++ dktX16_walk_2
def dkwX16_walk_0 : List UInt8 := [43, 182, 0, 55, 153, 0, 115, 43, 180, 0, 59, 180, 0, 63, 78, 3, 54, 4, 21, 4, 45]
abbrev dktX16_walk_0 : List UInt8 := dkwX16_walk_0 ++ dktX16_walk_1
theorem dksX16_walk_0 : cX16_walk.data.toList.drop 0 = dktX16_walk_0 := by decide +kernel
theorem dksX16_walk_1 : cX16_walk.data.toList.drop 21 = dktX16_walk_1 := dk_seg dksX16_walk_0 21 rfl rfl
theorem dksX16_walk_2 : cX16_walk.data.toList.drop 45 = dktX16_walk_2 := dk_seg dksX16_walk_1 24 rfl rfl
theorem dksX16_walk_3 : cX16_walk.data.toList.drop 66 = dktX16_walk_3 := dk_seg dksX16_walk_2 21 rfl rfl
theorem dksX16_walk_4 : cX16_walk.data.toList.drop 88 = dktX16_walk_4 := dk_seg dksX16_walk_3 22 rfl rfl
theorem dksX16_walk_5 : cX16_walk.data.toList.drop 110 = dktX16_walk_5 := dk_seg dksX16_walk_4 22 rfl rfl
theorem dksX16_walk_6 : cX16_walk.data.toList.drop 130 = dktX16_walk_6 := dk_seg dksX16_walk_5 20 rfl rfl
theorem dksX16_walk_7 : cX16_walk.data.toList.drop 152 = dktX16_walk_7 := dk_seg dksX16_walk_6 22 rfl rfl
theorem dksX16_walk_8 : cX16_walk.data.toList.drop 176 = dktX16_walk_8 := dk_seg dksX16_walk_7 24 rfl rfl
theorem dksX16_walk_9 : cX16_walk.data.toList.drop 200 = dktX16_walk_9 := dk_seg dksX16_walk_8 24 rfl rfl
theorem dksX16_walk_10 : cX16_walk.data.toList.drop 222 = dktX16_walk_10 := dk_seg dksX16_walk_9 22 rfl rfl
theorem dX16_walk_0 : decode cX16_walk 0 = .ok (.aload_n 1, 1) := dk_43 (dk_at dksX16_walk_0 0 rfl rfl)
theorem dX16_walk_1 : decode cX16_walk 1 = .ok (.invokevirtual 55, 3) := dk_182 0 55 (dk_at dksX16_walk_0 1 rfl rfl)
theorem dX16_walk_4 : decode cX16_walk 4 = .ok (.ifCond .eq 115, 3) := dk_153 0 115 (dk_at dksX16_walk_0 4 rfl rfl)
theorem dX16_walk_7 : decode cX16_walk 7 = .ok (.aload_n 1, 1) := dk_43 (dk_at dksX16_walk_0 7 rfl rfl)
theorem dX16_walk_8 : decode cX16_walk 8 = .ok (.getfield 59, 3) := dk_180 0 59 (dk_at dksX16_walk_0 8 rfl rfl)
theorem dX16_walk_11 : decode cX16_walk 11 = .ok (.getfield 63, 3) := dk_180 0 63 (dk_at dksX16_walk_0 11 rfl rfl)
theorem dX16_walk_14 : decode cX16_walk 14 = .ok (.astore_n 3, 1) := dk_78 (dk_at dksX16_walk_0 14 rfl rfl)
theorem dX16_walk_15 : decode cX16_walk 15 = .ok (.iconst 0, 1) := dk_3 (dk_at dksX16_walk_0 15 rfl rfl)
theorem dX16_walk_16 : decode cX16_walk 16 = .ok (.istore 4, 2) := dk_54 4 (dk_at dksX16_walk_0 16 rfl rfl)
theorem dX16_walk_18 : decode cX16_walk 18 = .ok (.iload 4, 2) := dk_21 4 (dk_at dksX16_walk_0 18 rfl rfl)
theorem dX16_walk_20 : decode cX16_walk 20 = .ok (.aload_n 3, 1) := dk_45 (dk_at dksX16_walk_0 20 rfl rfl)
theorem dX16_walk_21 : decode cX16_walk 21 = .ok (.invokeinterface 68 1, 5) := by decide +kernel
theorem dX16_walk_26 : decode cX16_walk 26 = .ok (.if_icmp .ge 90, 3) := dk_162 0 90 (dk_at dksX16_walk_1 5 rfl rfl)
theorem dX16_walk_29 : decode cX16_walk 29 = .ok (.iload_n 2, 1) := dk_28 (dk_at dksX16_walk_1 8 rfl rfl)
theorem dX16_walk_30 : decode cX16_walk 30 = .ok (.aload_n 3, 1) := dk_45 (dk_at dksX16_walk_1 9 rfl rfl)
theorem dX16_walk_31 : decode cX16_walk 31 = .ok (.iload 4, 2) := dk_21 4 (dk_at dksX16_walk_1 10 rfl rfl)
theorem dX16_walk_33 : decode cX16_walk 33 = .ok (.invokeinterface 40 2, 5) := by decide +kernel
theorem dX16_walk_38 : decode cX16_walk 38 = .ok (.checkcast 72, 3) := dk_192 0 72 (dk_at dksX16_walk_1 17 rfl rfl)
theorem dX16_walk_41 : decode cX16_walk 41 = .ok (.invokevirtual 74, 3) := dk_182 0 74 (dk_at dksX16_walk_1 20 rfl rfl)
theorem dX16_walk_44 : decode cX16_walk 44 = .ok (.iadd, 1) := dk_96 (dk_at dksX16_walk_1 23 rfl rfl)
theorem dX16_walk_45 : decode cX16_walk 45 = .ok (.istore 5, 2) := dk_54 5 (dk_at dksX16_walk_2 0 rfl rfl)
theorem dX16_walk_47 : decode cX16_walk 47 = .ok (.iload 4, 2) := dk_21 4 (dk_at dksX16_walk_2 2 rfl rfl)
theorem dX16_walk_49 : decode cX16_walk 49 = .ok (.ifCond .ne 42, 3) := dk_154 0 42 (dk_at dksX16_walk_2 4 rfl rfl)
theorem dX16_walk_52 : decode cX16_walk 52 = .ok (.aload_n 3, 1) := dk_45 (dk_at dksX16_walk_2 7 rfl rfl)
theorem dX16_walk_53 : decode cX16_walk 53 = .ok (.invokeinterface 68 1, 5) := by decide +kernel
theorem dX16_walk_58 : decode cX16_walk 58 = .ok (.iconst 1, 1) := dk_4 (dk_at dksX16_walk_2 13 rfl rfl)
theorem dX16_walk_59 : decode cX16_walk 59 = .ok (.if_icmp .le 32, 3) := dk_164 0 32 (dk_at dksX16_walk_2 14 rfl rfl)
theorem dX16_walk_62 : decode cX16_walk 62 = .ok (.aload_n 0, 1) := dk_42 (dk_at dksX16_walk_2 17 rfl rfl)
theorem dX16_walk_63 : decode cX16_walk 63 = .ok (.iload_n 2, 1) := dk_28 (dk_at dksX16_walk_2 18 rfl rfl)
theorem dX16_walk_64 : decode cX16_walk 64 = .ok (.aload_n 3, 1) := dk_45 (dk_at dksX16_walk_2 19 rfl rfl)
theorem dX16_walk_65 : decode cX16_walk 65 = .ok (.iconst 1, 1) := dk_4 (dk_at dksX16_walk_2 20 rfl rfl)
theorem dX16_walk_66 : decode cX16_walk 66 = .ok (.invokeinterface 40 2, 5) := by decide +kernel
theorem dX16_walk_71 : decode cX16_walk 71 = .ok (.checkcast 72, 3) := dk_192 0 72 (dk_at dksX16_walk_3 5 rfl rfl)
theorem dX16_walk_74 : decode cX16_walk 74 = .ok (.invokevirtual 74, 3) := dk_182 0 74 (dk_at dksX16_walk_3 8 rfl rfl)
theorem dX16_walk_77 : decode cX16_walk 77 = .ok (.iadd, 1) := dk_96 (dk_at dksX16_walk_3 11 rfl rfl)
theorem dX16_walk_78 : decode cX16_walk 78 = .ok (.bipush 10, 2) := dk_16 10 (dk_at dksX16_walk_3 12 rfl rfl)
theorem dX16_walk_80 : decode cX16_walk 80 = .ok (.iadd, 1) := dk_96 (dk_at dksX16_walk_3 14 rfl rfl)
theorem dX16_walk_81 : decode cX16_walk 81 = .ok (.invokevirtual 77, 3) := dk_182 0 77 (dk_at dksX16_walk_3 15 rfl rfl)
theorem dX16_walk_84 : decode cX16_walk 84 = .ok (.ifCond .eq 7, 3) := dk_153 0 7 (dk_at dksX16_walk_3 18 rfl rfl)
theorem dX16_walk_87 : decode cX16_walk 87 = .ok (.iconst 1, 1) := dk_4 (dk_at dksX16_walk_3 21 rfl rfl)
theorem dX16_walk_88 : decode cX16_walk 88 = .ok (.goto 4, 3) := dk_167 0 4 (dk_at dksX16_walk_4 0 rfl rfl)
theorem dX16_walk_91 : decode cX16_walk 91 = .ok (.iconst 0, 1) := dk_3 (dk_at dksX16_walk_4 3 rfl rfl)
theorem dX16_walk_92 : decode cX16_walk 92 = .ok (.istore 6, 2) := dk_54 6 (dk_at dksX16_walk_4 4 rfl rfl)
theorem dX16_walk_94 : decode cX16_walk 94 = .ok (.aload_n 0, 1) := dk_42 (dk_at dksX16_walk_4 6 rfl rfl)
theorem dX16_walk_95 : decode cX16_walk 95 = .ok (.aload_n 1, 1) := dk_43 (dk_at dksX16_walk_4 7 rfl rfl)
theorem dX16_walk_96 : decode cX16_walk 96 = .ok (.iload 4, 2) := dk_21 4 (dk_at dksX16_walk_4 8 rfl rfl)
theorem dX16_walk_98 : decode cX16_walk 98 = .ok (.iload 5, 2) := dk_21 5 (dk_at dksX16_walk_4 10 rfl rfl)
theorem dX16_walk_100 : decode cX16_walk 100 = .ok (.iload 5, 2) := dk_21 5 (dk_at dksX16_walk_4 12 rfl rfl)
theorem dX16_walk_102 : decode cX16_walk 102 = .ok (.bipush 10, 2) := dk_16 10 (dk_at dksX16_walk_4 14 rfl rfl)
theorem dX16_walk_104 : decode cX16_walk 104 = .ok (.iadd, 1) := dk_96 (dk_at dksX16_walk_4 16 rfl rfl)
theorem dX16_walk_105 : decode cX16_walk 105 = .ok (.iload 6, 2) := dk_21 6 (dk_at dksX16_walk_4 17 rfl rfl)
theorem dX16_walk_107 : decode cX16_walk 107 = .ok (.invokevirtual 81, 3) := dk_182 0 81 (dk_at dksX16_walk_4 19 rfl rfl)
theorem dX16_walk_110 : decode cX16_walk 110 = .ok (.iinc 4 1, 3) := dk_132 4 1 (dk_at dksX16_walk_5 0 rfl rfl)
theorem dX16_walk_113 : decode cX16_walk 113 = .ok (.goto (-95), 3) := dk_167 255 161 (dk_at dksX16_walk_5 3 rfl rfl)
theorem dX16_walk_116 : decode cX16_walk 116 = .ok (.goto 116, 3) := dk_167 0 116 (dk_at dksX16_walk_5 6 rfl rfl)
theorem dX16_walk_119 : decode cX16_walk 119 = .ok (.aload_n 1, 1) := dk_43 (dk_at dksX16_walk_5 9 rfl rfl)
theorem dX16_walk_120 : decode cX16_walk 120 = .ok (.invokevirtual 85, 3) := dk_182 0 85 (dk_at dksX16_walk_5 10 rfl rfl)
theorem dX16_walk_123 : decode cX16_walk 123 = .ok (.ifCond .ne 15, 3) := dk_154 0 15 (dk_at dksX16_walk_5 13 rfl rfl)
theorem dX16_walk_126 : decode cX16_walk 126 = .ok (.aload_n 1, 1) := dk_43 (dk_at dksX16_walk_5 16 rfl rfl)
theorem dX16_walk_127 : decode cX16_walk 127 = .ok (.getfield 88, 3) := dk_180 0 88 (dk_at dksX16_walk_5 17 rfl rfl)
theorem dX16_walk_130 : decode cX16_walk 130 = .ok (.invokeinterface 91 1, 5) := by decide +kernel
theorem dX16_walk_135 : decode cX16_walk 135 = .ok (.ifCond .eq 40, 3) := dk_153 0 40 (dk_at dksX16_walk_6 5 rfl rfl)
theorem dX16_walk_138 : decode cX16_walk 138 = .ok (.aload_n 1, 1) := dk_43 (dk_at dksX16_walk_6 8 rfl rfl)
theorem dX16_walk_139 : decode cX16_walk 139 = .ok (.invokevirtual 94, 3) := dk_182 0 94 (dk_at dksX16_walk_6 9 rfl rfl)
theorem dX16_walk_142 : decode cX16_walk 142 = .ok (.ifCond .ne 90, 3) := dk_154 0 90 (dk_at dksX16_walk_6 12 rfl rfl)
theorem dX16_walk_145 : decode cX16_walk 145 = .ok (.aload_n 1, 1) := dk_43 (dk_at dksX16_walk_6 15 rfl rfl)
theorem dX16_walk_146 : decode cX16_walk 146 = .ok (.getfield 59, 3) := dk_180 0 59 (dk_at dksX16_walk_6 16 rfl rfl)
theorem dX16_walk_149 : decode cX16_walk 149 = .ok (.getfield 97, 3) := dk_180 0 97 (dk_at dksX16_walk_6 19 rfl rfl)
theorem dX16_walk_152 : decode cX16_walk 152 = .ok (.ifCond .le 80, 3) := dk_158 0 80 (dk_at dksX16_walk_7 0 rfl rfl)
theorem dX16_walk_155 : decode cX16_walk 155 = .ok (.aload_n 0, 1) := dk_42 (dk_at dksX16_walk_7 3 rfl rfl)
theorem dX16_walk_156 : decode cX16_walk 156 = .ok (.aload_n 1, 1) := dk_43 (dk_at dksX16_walk_7 4 rfl rfl)
theorem dX16_walk_157 : decode cX16_walk 157 = .ok (.iconst 0, 1) := dk_3 (dk_at dksX16_walk_7 5 rfl rfl)
theorem dX16_walk_158 : decode cX16_walk 158 = .ok (.iload_n 2, 1) := dk_28 (dk_at dksX16_walk_7 6 rfl rfl)
theorem dX16_walk_159 : decode cX16_walk 159 = .ok (.iload_n 2, 1) := dk_28 (dk_at dksX16_walk_7 7 rfl rfl)
theorem dX16_walk_160 : decode cX16_walk 160 = .ok (.aload_n 1, 1) := dk_43 (dk_at dksX16_walk_7 8 rfl rfl)
theorem dX16_walk_161 : decode cX16_walk 161 = .ok (.getfield 59, 3) := dk_180 0 59 (dk_at dksX16_walk_7 9 rfl rfl)
theorem dX16_walk_164 : decode cX16_walk 164 = .ok (.getfield 97, 3) := dk_180 0 97 (dk_at dksX16_walk_7 12 rfl rfl)
theorem dX16_walk_167 : decode cX16_walk 167 = .ok (.iadd, 1) := dk_96 (dk_at dksX16_walk_7 15 rfl rfl)
theorem dX16_walk_168 : decode cX16_walk 168 = .ok (.iconst 0, 1) := dk_3 (dk_at dksX16_walk_7 16 rfl rfl)
theorem dX16_walk_169 : decode cX16_walk 169 = .ok (.invokevirtual 81, 3) := dk_182 0 81 (dk_at dksX16_walk_7 17 rfl rfl)
theorem dX16_walk_172 : decode cX16_walk 172 = .ok (.goto 60, 3) := dk_167 0 60 (dk_at dksX16_walk_7 20 rfl rfl)
theorem dX16_walk_175 : decode cX16_walk 175 = .ok (.aload_n 1, 1) := dk_43 (dk_at dksX16_walk_7 23 rfl rfl)
theorem dX16_walk_176 : decode cX16_walk 176 = .ok (.getfield 88, 3) := dk_180 0 88 (dk_at dksX16_walk_8 0 rfl rfl)
theorem dX16_walk_179 : decode cX16_walk 179 = .ok (.invokeinterface 98 1, 5) := by decide +kernel
theorem dX16_walk_184 : decode cX16_walk 184 = .ok (.astore_n 3, 1) := dk_78 (dk_at dksX16_walk_8 8 rfl rfl)
theorem dX16_walk_185 : decode cX16_walk 185 = .ok (.aload_n 3, 1) := dk_45 (dk_at dksX16_walk_8 9 rfl rfl)
theorem dX16_walk_186 : decode cX16_walk 186 = .ok (.invokeinterface 102 1, 5) := by decide +kernel
theorem dX16_walk_191 : decode cX16_walk 191 = .ok (.ifCond .eq 41, 3) := dk_153 0 41 (dk_at dksX16_walk_8 15 rfl rfl)
theorem dX16_walk_194 : decode cX16_walk 194 = .ok (.aload_n 3, 1) := dk_45 (dk_at dksX16_walk_8 18 rfl rfl)
theorem dX16_walk_195 : decode cX16_walk 195 = .ok (.invokeinterface 107 1, 5) := by decide +kernel
theorem dX16_walk_200 : decode cX16_walk 200 = .ok (.checkcast 46, 3) := dk_192 0 46 (dk_at dksX16_walk_9 0 rfl rfl)
theorem dX16_walk_203 : decode cX16_walk 203 = .ok (.astore 4, 2) := dk_58 4 (dk_at dksX16_walk_9 3 rfl rfl)
theorem dX16_walk_205 : decode cX16_walk 205 = .ok (.aload 4, 2) := dk_25 4 (dk_at dksX16_walk_9 5 rfl rfl)
theorem dX16_walk_207 : decode cX16_walk 207 = .ok (.invokevirtual 111, 3) := dk_182 0 111 (dk_at dksX16_walk_9 7 rfl rfl)
theorem dX16_walk_210 : decode cX16_walk 210 = .ok (.ifCond .eq 19, 3) := dk_153 0 19 (dk_at dksX16_walk_9 10 rfl rfl)
theorem dX16_walk_213 : decode cX16_walk 213 = .ok (.aload_n 0, 1) := dk_42 (dk_at dksX16_walk_9 13 rfl rfl)
theorem dX16_walk_214 : decode cX16_walk 214 = .ok (.aload 4, 2) := dk_25 4 (dk_at dksX16_walk_9 14 rfl rfl)
theorem dX16_walk_216 : decode cX16_walk 216 = .ok (.iload_n 2, 1) := dk_28 (dk_at dksX16_walk_9 16 rfl rfl)
theorem dX16_walk_217 : decode cX16_walk 217 = .ok (.aload 4, 2) := dk_25 4 (dk_at dksX16_walk_9 17 rfl rfl)
theorem dX16_walk_219 : decode cX16_walk 219 = .ok (.getfield 59, 3) := dk_180 0 59 (dk_at dksX16_walk_9 19 rfl rfl)
theorem dX16_walk_222 : decode cX16_walk 222 = .ok (.getfield 114, 3) := dk_180 0 114 (dk_at dksX16_walk_10 0 rfl rfl)
theorem dX16_walk_225 : decode cX16_walk 225 = .ok (.iadd, 1) := dk_96 (dk_at dksX16_walk_10 3 rfl rfl)
theorem dX16_walk_226 : decode cX16_walk 226 = .ok (.invokevirtual 48, 3) := dk_182 0 48 (dk_at dksX16_walk_10 4 rfl rfl)
theorem dX16_walk_229 : decode cX16_walk 229 = .ok (.goto (-44), 3) := dk_167 255 212 (dk_at dksX16_walk_10 7 rfl rfl)
theorem dX16_walk_232 : decode cX16_walk 232 = .ok (.return_, 1) := dk_177 (dk_at dksX16_walk_10 10 rfl rfl)
abbrev cX16_isLower : ByteArray := prog_10_method_2_code
def yX16_isLower : MethodName := ⟨RX16, "isLower", "(I)Z"⟩
def dkwX16_isLower_0 : List UInt8 := [27, 42, 180, 0, 52, 100, 42, 180, 0, 34, 164, 0, 7, 4, 167, 0, 4, 3, 172]
abbrev dktX16_isLower_0 : List UInt8 := dkwX16_isLower_0 ++ []
theorem dksX16_isLower_0 : cX16_isLower.data.toList.drop 0 = dktX16_isLower_0 := by decide +kernel
theorem dX16_isLower_0 : decode cX16_isLower 0 = .ok (.iload_n 1, 1) := dk_27 (dk_at dksX16_isLower_0 0 rfl rfl)
theorem dX16_isLower_1 : decode cX16_isLower 1 = .ok (.aload_n 0, 1) := dk_42 (dk_at dksX16_isLower_0 1 rfl rfl)
theorem dX16_isLower_2 : decode cX16_isLower 2 = .ok (.getfield 52, 3) := dk_180 0 52 (dk_at dksX16_isLower_0 2 rfl rfl)
theorem dX16_isLower_5 : decode cX16_isLower 5 = .ok (.isub, 1) := dk_100 (dk_at dksX16_isLower_0 5 rfl rfl)
theorem dX16_isLower_6 : decode cX16_isLower 6 = .ok (.aload_n 0, 1) := dk_42 (dk_at dksX16_isLower_0 6 rfl rfl)
theorem dX16_isLower_7 : decode cX16_isLower 7 = .ok (.getfield 34, 3) := dk_180 0 34 (dk_at dksX16_isLower_0 7 rfl rfl)
theorem dX16_isLower_10 : decode cX16_isLower 10 = .ok (.if_icmp .le 7, 3) := dk_164 0 7 (dk_at dksX16_isLower_0 10 rfl rfl)
theorem dX16_isLower_13 : decode cX16_isLower 13 = .ok (.iconst 1, 1) := dk_4 (dk_at dksX16_isLower_0 13 rfl rfl)
theorem dX16_isLower_14 : decode cX16_isLower 14 = .ok (.goto 4, 3) := dk_167 0 4 (dk_at dksX16_isLower_0 14 rfl rfl)
theorem dX16_isLower_17 : decode cX16_isLower 17 = .ok (.iconst 0, 1) := dk_3 (dk_at dksX16_isLower_0 17 rfl rfl)
theorem dX16_isLower_18 : decode cX16_isLower 18 = .ok (.ireturn, 1) := dk_172 (dk_at dksX16_isLower_0 18 rfl rfl)
abbrev cX16_put : ByteArray := prog_10_method_5_code
def yX16_put : MethodName := ⟨RX16, "put", "(LColumnarPress$Box;IIIZ)V"⟩
def dkwX16_put_6 : List UInt8 := [180, 0, 22, 25, 8, 180, 0, 120, 4, 84, 25, 8, 180, 0, 123, 58, 8, 167, 255, 230, 177]
abbrev dktX16_put_6 : List UInt8 := dkwX16_put_6 ++ []
def dkwX16_put_5 : List UInt8 := [180, 0, 26, 183, 0, 133, 185, 0, 136, 2, 0, 87, 43, 58, 8, 25, 8, 182, 0, 94, 154, 0, 24, 42]
abbrev dktX16_put_5 : List UInt8 := dkwX16_put_5 ++ dktX16_put_6
def dkwX16_put_4 : List UInt8 := [181, 0, 26, 42, 29, 181, 0, 52, 42, 3, 181, 0, 30, 42, 180, 0, 18, 187, 0, 131, 89, 43, 28, 42]
abbrev dktX16_put_4 : List UInt8 := dkwX16_put_4 ++ dktX16_put_5
def dkwX16_put_3 : List UInt8 := [159, 0, 15, 21, 7, 153, 0, 25, 42, 180, 0, 30, 154, 0, 18, 42, 89, 180, 0, 26, 4, 96]
abbrev dktX16_put_3 : List UInt8 := dkwX16_put_3 ++ dktX16_put_4
def dkwX16_put_2 : List UInt8 := [154, 0, 12, 42, 21, 4, 182, 0, 77, 153, 0, 7, 4, 167, 0, 4, 3, 54, 7, 42, 180, 0, 26, 2]
abbrev dktX16_put_2 : List UInt8 := dkwX16_put_2 ++ dktX16_put_3
def dkwX16_put_1 : List UInt8 := [182, 0, 74, 100, 167, 0, 4, 29, 54, 6, 42, 43, 21, 6, 182, 0, 127, 154, 0, 17, 21, 5]
abbrev dktX16_put_1 : List UInt8 := dkwX16_put_1 ++ dktX16_put_2
def dkwX16_put_0 : List UInt8 := [43, 182, 0, 55, 153, 0, 27, 29, 43, 180, 0, 59, 180, 0, 63, 28, 185, 0, 40, 2, 0, 192, 0, 72]
abbrev dktX16_put_0 : List UInt8 := dkwX16_put_0 ++ dktX16_put_1
theorem dksX16_put_0 : cX16_put.data.toList.drop 0 = dktX16_put_0 := by decide +kernel
theorem dksX16_put_1 : cX16_put.data.toList.drop 24 = dktX16_put_1 := dk_seg dksX16_put_0 24 rfl rfl
theorem dksX16_put_2 : cX16_put.data.toList.drop 46 = dktX16_put_2 := dk_seg dksX16_put_1 22 rfl rfl
theorem dksX16_put_3 : cX16_put.data.toList.drop 70 = dktX16_put_3 := dk_seg dksX16_put_2 24 rfl rfl
theorem dksX16_put_4 : cX16_put.data.toList.drop 92 = dktX16_put_4 := dk_seg dksX16_put_3 22 rfl rfl
theorem dksX16_put_5 : cX16_put.data.toList.drop 116 = dktX16_put_5 := dk_seg dksX16_put_4 24 rfl rfl
theorem dksX16_put_6 : cX16_put.data.toList.drop 140 = dktX16_put_6 := dk_seg dksX16_put_5 24 rfl rfl
theorem dX16_put_0 : decode cX16_put 0 = .ok (.aload_n 1, 1) := dk_43 (dk_at dksX16_put_0 0 rfl rfl)
theorem dX16_put_1 : decode cX16_put 1 = .ok (.invokevirtual 55, 3) := dk_182 0 55 (dk_at dksX16_put_0 1 rfl rfl)
theorem dX16_put_4 : decode cX16_put 4 = .ok (.ifCond .eq 27, 3) := dk_153 0 27 (dk_at dksX16_put_0 4 rfl rfl)
theorem dX16_put_7 : decode cX16_put 7 = .ok (.iload_n 3, 1) := dk_29 (dk_at dksX16_put_0 7 rfl rfl)
theorem dX16_put_8 : decode cX16_put 8 = .ok (.aload_n 1, 1) := dk_43 (dk_at dksX16_put_0 8 rfl rfl)
theorem dX16_put_9 : decode cX16_put 9 = .ok (.getfield 59, 3) := dk_180 0 59 (dk_at dksX16_put_0 9 rfl rfl)
theorem dX16_put_12 : decode cX16_put 12 = .ok (.getfield 63, 3) := dk_180 0 63 (dk_at dksX16_put_0 12 rfl rfl)
theorem dX16_put_15 : decode cX16_put 15 = .ok (.iload_n 2, 1) := dk_28 (dk_at dksX16_put_0 15 rfl rfl)
theorem dX16_put_16 : decode cX16_put 16 = .ok (.invokeinterface 40 2, 5) := by decide +kernel
theorem dX16_put_21 : decode cX16_put 21 = .ok (.checkcast 72, 3) := dk_192 0 72 (dk_at dksX16_put_0 21 rfl rfl)
theorem dX16_put_24 : decode cX16_put 24 = .ok (.invokevirtual 74, 3) := dk_182 0 74 (dk_at dksX16_put_1 0 rfl rfl)
theorem dX16_put_27 : decode cX16_put 27 = .ok (.isub, 1) := dk_100 (dk_at dksX16_put_1 3 rfl rfl)
theorem dX16_put_28 : decode cX16_put 28 = .ok (.goto 4, 3) := dk_167 0 4 (dk_at dksX16_put_1 4 rfl rfl)
theorem dX16_put_31 : decode cX16_put 31 = .ok (.iload_n 3, 1) := dk_29 (dk_at dksX16_put_1 7 rfl rfl)
theorem dX16_put_32 : decode cX16_put 32 = .ok (.istore 6, 2) := dk_54 6 (dk_at dksX16_put_1 8 rfl rfl)
theorem dX16_put_34 : decode cX16_put 34 = .ok (.aload_n 0, 1) := dk_42 (dk_at dksX16_put_1 10 rfl rfl)
theorem dX16_put_35 : decode cX16_put 35 = .ok (.aload_n 1, 1) := dk_43 (dk_at dksX16_put_1 11 rfl rfl)
theorem dX16_put_36 : decode cX16_put 36 = .ok (.iload 6, 2) := dk_21 6 (dk_at dksX16_put_1 12 rfl rfl)
theorem dX16_put_38 : decode cX16_put 38 = .ok (.invokevirtual 127, 3) := dk_182 0 127 (dk_at dksX16_put_1 14 rfl rfl)
theorem dX16_put_41 : decode cX16_put 41 = .ok (.ifCond .ne 17, 3) := dk_154 0 17 (dk_at dksX16_put_1 17 rfl rfl)
theorem dX16_put_44 : decode cX16_put 44 = .ok (.iload 5, 2) := dk_21 5 (dk_at dksX16_put_1 20 rfl rfl)
theorem dX16_put_46 : decode cX16_put 46 = .ok (.ifCond .ne 12, 3) := dk_154 0 12 (dk_at dksX16_put_2 0 rfl rfl)
theorem dX16_put_49 : decode cX16_put 49 = .ok (.aload_n 0, 1) := dk_42 (dk_at dksX16_put_2 3 rfl rfl)
theorem dX16_put_50 : decode cX16_put 50 = .ok (.iload 4, 2) := dk_21 4 (dk_at dksX16_put_2 4 rfl rfl)
theorem dX16_put_52 : decode cX16_put 52 = .ok (.invokevirtual 77, 3) := dk_182 0 77 (dk_at dksX16_put_2 6 rfl rfl)
theorem dX16_put_55 : decode cX16_put 55 = .ok (.ifCond .eq 7, 3) := dk_153 0 7 (dk_at dksX16_put_2 9 rfl rfl)
theorem dX16_put_58 : decode cX16_put 58 = .ok (.iconst 1, 1) := dk_4 (dk_at dksX16_put_2 12 rfl rfl)
theorem dX16_put_59 : decode cX16_put 59 = .ok (.goto 4, 3) := dk_167 0 4 (dk_at dksX16_put_2 13 rfl rfl)
theorem dX16_put_62 : decode cX16_put 62 = .ok (.iconst 0, 1) := dk_3 (dk_at dksX16_put_2 16 rfl rfl)
theorem dX16_put_63 : decode cX16_put 63 = .ok (.istore 7, 2) := dk_54 7 (dk_at dksX16_put_2 17 rfl rfl)
theorem dX16_put_65 : decode cX16_put 65 = .ok (.aload_n 0, 1) := dk_42 (dk_at dksX16_put_2 19 rfl rfl)
theorem dX16_put_66 : decode cX16_put 66 = .ok (.getfield 26, 3) := dk_180 0 26 (dk_at dksX16_put_2 20 rfl rfl)
theorem dX16_put_69 : decode cX16_put 69 = .ok (.iconst (-1), 1) := dk_2 (dk_at dksX16_put_2 23 rfl rfl)
theorem dX16_put_70 : decode cX16_put 70 = .ok (.if_icmp .eq 15, 3) := dk_159 0 15 (dk_at dksX16_put_3 0 rfl rfl)
theorem dX16_put_73 : decode cX16_put 73 = .ok (.iload 7, 2) := dk_21 7 (dk_at dksX16_put_3 3 rfl rfl)
theorem dX16_put_75 : decode cX16_put 75 = .ok (.ifCond .eq 25, 3) := dk_153 0 25 (dk_at dksX16_put_3 5 rfl rfl)
theorem dX16_put_78 : decode cX16_put 78 = .ok (.aload_n 0, 1) := dk_42 (dk_at dksX16_put_3 8 rfl rfl)
theorem dX16_put_79 : decode cX16_put 79 = .ok (.getfield 30, 3) := dk_180 0 30 (dk_at dksX16_put_3 9 rfl rfl)
theorem dX16_put_82 : decode cX16_put 82 = .ok (.ifCond .ne 18, 3) := dk_154 0 18 (dk_at dksX16_put_3 12 rfl rfl)
theorem dX16_put_85 : decode cX16_put 85 = .ok (.aload_n 0, 1) := dk_42 (dk_at dksX16_put_3 15 rfl rfl)
theorem dX16_put_86 : decode cX16_put 86 = .ok (.dup, 1) := dk_89 (dk_at dksX16_put_3 16 rfl rfl)
theorem dX16_put_87 : decode cX16_put 87 = .ok (.getfield 26, 3) := dk_180 0 26 (dk_at dksX16_put_3 17 rfl rfl)
theorem dX16_put_90 : decode cX16_put 90 = .ok (.iconst 1, 1) := dk_4 (dk_at dksX16_put_3 20 rfl rfl)
theorem dX16_put_91 : decode cX16_put 91 = .ok (.iadd, 1) := dk_96 (dk_at dksX16_put_3 21 rfl rfl)
theorem dX16_put_92 : decode cX16_put 92 = .ok (.putfield 26, 3) := dk_181 0 26 (dk_at dksX16_put_4 0 rfl rfl)
theorem dX16_put_95 : decode cX16_put 95 = .ok (.aload_n 0, 1) := dk_42 (dk_at dksX16_put_4 3 rfl rfl)
theorem dX16_put_96 : decode cX16_put 96 = .ok (.iload_n 3, 1) := dk_29 (dk_at dksX16_put_4 4 rfl rfl)
theorem dX16_put_97 : decode cX16_put 97 = .ok (.putfield 52, 3) := dk_181 0 52 (dk_at dksX16_put_4 5 rfl rfl)
theorem dX16_put_100 : decode cX16_put 100 = .ok (.aload_n 0, 1) := dk_42 (dk_at dksX16_put_4 8 rfl rfl)
theorem dX16_put_101 : decode cX16_put 101 = .ok (.iconst 0, 1) := dk_3 (dk_at dksX16_put_4 9 rfl rfl)
theorem dX16_put_102 : decode cX16_put 102 = .ok (.putfield 30, 3) := dk_181 0 30 (dk_at dksX16_put_4 10 rfl rfl)
theorem dX16_put_105 : decode cX16_put 105 = .ok (.aload_n 0, 1) := dk_42 (dk_at dksX16_put_4 13 rfl rfl)
theorem dX16_put_106 : decode cX16_put 106 = .ok (.getfield 18, 3) := dk_180 0 18 (dk_at dksX16_put_4 14 rfl rfl)
theorem dX16_put_109 : decode cX16_put 109 = .ok (.new 131, 3) := dk_187 0 131 (dk_at dksX16_put_4 17 rfl rfl)
theorem dX16_put_112 : decode cX16_put 112 = .ok (.dup, 1) := dk_89 (dk_at dksX16_put_4 20 rfl rfl)
theorem dX16_put_113 : decode cX16_put 113 = .ok (.aload_n 1, 1) := dk_43 (dk_at dksX16_put_4 21 rfl rfl)
theorem dX16_put_114 : decode cX16_put 114 = .ok (.iload_n 2, 1) := dk_28 (dk_at dksX16_put_4 22 rfl rfl)
theorem dX16_put_115 : decode cX16_put 115 = .ok (.aload_n 0, 1) := dk_42 (dk_at dksX16_put_4 23 rfl rfl)
theorem dX16_put_116 : decode cX16_put 116 = .ok (.getfield 26, 3) := dk_180 0 26 (dk_at dksX16_put_5 0 rfl rfl)
theorem dX16_put_119 : decode cX16_put 119 = .ok (.invokespecial 133, 3) := dk_183 0 133 (dk_at dksX16_put_5 3 rfl rfl)
theorem dX16_put_122 : decode cX16_put 122 = .ok (.invokeinterface 136 2, 5) := by decide +kernel
theorem dX16_put_127 : decode cX16_put 127 = .ok (.pop, 1) := dk_87 (dk_at dksX16_put_5 11 rfl rfl)
theorem dX16_put_128 : decode cX16_put 128 = .ok (.aload_n 1, 1) := dk_43 (dk_at dksX16_put_5 12 rfl rfl)
theorem dX16_put_129 : decode cX16_put 129 = .ok (.astore 8, 2) := dk_58 8 (dk_at dksX16_put_5 13 rfl rfl)
theorem dX16_put_131 : decode cX16_put 131 = .ok (.aload 8, 2) := dk_25 8 (dk_at dksX16_put_5 15 rfl rfl)
theorem dX16_put_133 : decode cX16_put 133 = .ok (.invokevirtual 94, 3) := dk_182 0 94 (dk_at dksX16_put_5 17 rfl rfl)
theorem dX16_put_136 : decode cX16_put 136 = .ok (.ifCond .ne 24, 3) := dk_154 0 24 (dk_at dksX16_put_5 20 rfl rfl)
theorem dX16_put_139 : decode cX16_put 139 = .ok (.aload_n 0, 1) := dk_42 (dk_at dksX16_put_5 23 rfl rfl)
theorem dX16_put_140 : decode cX16_put 140 = .ok (.getfield 22, 3) := dk_180 0 22 (dk_at dksX16_put_6 0 rfl rfl)
theorem dX16_put_143 : decode cX16_put 143 = .ok (.aload 8, 2) := dk_25 8 (dk_at dksX16_put_6 3 rfl rfl)
theorem dX16_put_145 : decode cX16_put 145 = .ok (.getfield 120, 3) := dk_180 0 120 (dk_at dksX16_put_6 5 rfl rfl)
theorem dX16_put_148 : decode cX16_put 148 = .ok (.iconst 1, 1) := dk_4 (dk_at dksX16_put_6 8 rfl rfl)
theorem dX16_put_149 : decode cX16_put 149 = .ok (.bastore, 1) := dk_84 (dk_at dksX16_put_6 9 rfl rfl)
theorem dX16_put_150 : decode cX16_put 150 = .ok (.aload 8, 2) := dk_25 8 (dk_at dksX16_put_6 10 rfl rfl)
theorem dX16_put_152 : decode cX16_put 152 = .ok (.getfield 123, 3) := dk_180 0 123 (dk_at dksX16_put_6 12 rfl rfl)
theorem dX16_put_155 : decode cX16_put 155 = .ok (.astore 8, 2) := dk_58 8 (dk_at dksX16_put_6 15 rfl rfl)
theorem dX16_put_157 : decode cX16_put 157 = .ok (.goto (-26), 3) := dk_167 255 230 (dk_at dksX16_put_6 17 rfl rfl)
theorem dX16_put_160 : decode cX16_put 160 = .ok (.return_, 1) := dk_177 (dk_at dksX16_put_6 20 rfl rfl)
abbrev cX16_mustBreak : ByteArray := prog_10_method_4_code
def yX16_mustBreak : MethodName := ⟨RX16, "mustBreak", "(LColumnarPress$Box;I)Z"⟩
def dkwX16_mustBreak_5 : List UInt8 := [180, 0, 114, 100, 54, 4, 25, 5, 180, 0, 123, 58, 5, 167, 255, 138, 29, 172]
abbrev dktX16_mustBreak_5 : List UInt8 := dkwX16_mustBreak_5 ++ []
def dkwX16_mustBreak_4 : List UInt8 := [159, 0, 8, 21, 7, 153, 0, 7, 4, 167, 0, 4, 3, 128, 62, 21, 4, 25, 5, 180, 0, 59]
abbrev dktX16_mustBreak_4 : List UInt8 := dkwX16_mustBreak_4 ++ dktX16_mustBreak_5
def dkwX16_mustBreak_3 : List UInt8 := [54, 7, 29, 42, 180, 0, 22, 25, 5, 180, 0, 120, 51, 154, 0, 22, 25, 5, 180, 0, 116, 16, 102]
abbrev dktX16_mustBreak_3 : List UInt8 := dkwX16_mustBreak_3 ++ dktX16_mustBreak_4
def dkwX16_mustBreak_2 : List UInt8 := [153, 0, 22, 25, 5, 180, 0, 59, 180, 0, 97, 42, 180, 0, 34, 163, 0, 7, 4, 167, 0, 4, 3]
abbrev dktX16_mustBreak_2 : List UInt8 := dkwX16_mustBreak_2 ++ dktX16_mustBreak_3
def dkwX16_mustBreak_1 : List UInt8 := [180, 0, 97, 96, 54, 6, 25, 5, 180, 0, 116, 16, 118, 160, 0, 31, 42, 21, 6, 182, 0, 77]
abbrev dktX16_mustBreak_1 : List UInt8 := dkwX16_mustBreak_1 ++ dktX16_mustBreak_2
def dkwX16_mustBreak_0 : List UInt8 := [3, 62, 28, 54, 4, 43, 58, 5, 25, 5, 182, 0, 94, 154, 0, 116, 21, 4, 25, 5, 180, 0, 59]
abbrev dktX16_mustBreak_0 : List UInt8 := dkwX16_mustBreak_0 ++ dktX16_mustBreak_1
theorem dksX16_mustBreak_0 : cX16_mustBreak.data.toList.drop 0 = dktX16_mustBreak_0 := by decide +kernel
theorem dksX16_mustBreak_1 : cX16_mustBreak.data.toList.drop 23 = dktX16_mustBreak_1 := dk_seg dksX16_mustBreak_0 23 rfl rfl
theorem dksX16_mustBreak_2 : cX16_mustBreak.data.toList.drop 45 = dktX16_mustBreak_2 := dk_seg dksX16_mustBreak_1 22 rfl rfl
theorem dksX16_mustBreak_3 : cX16_mustBreak.data.toList.drop 68 = dktX16_mustBreak_3 := dk_seg dksX16_mustBreak_2 23 rfl rfl
theorem dksX16_mustBreak_4 : cX16_mustBreak.data.toList.drop 91 = dktX16_mustBreak_4 := dk_seg dksX16_mustBreak_3 23 rfl rfl
theorem dksX16_mustBreak_5 : cX16_mustBreak.data.toList.drop 113 = dktX16_mustBreak_5 := dk_seg dksX16_mustBreak_4 22 rfl rfl
theorem dX16_mustBreak_0 : decode cX16_mustBreak 0 = .ok (.iconst 0, 1) := dk_3 (dk_at dksX16_mustBreak_0 0 rfl rfl)
theorem dX16_mustBreak_1 : decode cX16_mustBreak 1 = .ok (.istore_n 3, 1) := dk_62 (dk_at dksX16_mustBreak_0 1 rfl rfl)
theorem dX16_mustBreak_2 : decode cX16_mustBreak 2 = .ok (.iload_n 2, 1) := dk_28 (dk_at dksX16_mustBreak_0 2 rfl rfl)
theorem dX16_mustBreak_3 : decode cX16_mustBreak 3 = .ok (.istore 4, 2) := dk_54 4 (dk_at dksX16_mustBreak_0 3 rfl rfl)
theorem dX16_mustBreak_5 : decode cX16_mustBreak 5 = .ok (.aload_n 1, 1) := dk_43 (dk_at dksX16_mustBreak_0 5 rfl rfl)
theorem dX16_mustBreak_6 : decode cX16_mustBreak 6 = .ok (.astore 5, 2) := dk_58 5 (dk_at dksX16_mustBreak_0 6 rfl rfl)
theorem dX16_mustBreak_8 : decode cX16_mustBreak 8 = .ok (.aload 5, 2) := dk_25 5 (dk_at dksX16_mustBreak_0 8 rfl rfl)
theorem dX16_mustBreak_10 : decode cX16_mustBreak 10 = .ok (.invokevirtual 94, 3) := dk_182 0 94 (dk_at dksX16_mustBreak_0 10 rfl rfl)
theorem dX16_mustBreak_13 : decode cX16_mustBreak 13 = .ok (.ifCond .ne 116, 3) := dk_154 0 116 (dk_at dksX16_mustBreak_0 13 rfl rfl)
theorem dX16_mustBreak_16 : decode cX16_mustBreak 16 = .ok (.iload 4, 2) := dk_21 4 (dk_at dksX16_mustBreak_0 16 rfl rfl)
theorem dX16_mustBreak_18 : decode cX16_mustBreak 18 = .ok (.aload 5, 2) := dk_25 5 (dk_at dksX16_mustBreak_0 18 rfl rfl)
theorem dX16_mustBreak_20 : decode cX16_mustBreak 20 = .ok (.getfield 59, 3) := dk_180 0 59 (dk_at dksX16_mustBreak_0 20 rfl rfl)
theorem dX16_mustBreak_23 : decode cX16_mustBreak 23 = .ok (.getfield 97, 3) := dk_180 0 97 (dk_at dksX16_mustBreak_1 0 rfl rfl)
theorem dX16_mustBreak_26 : decode cX16_mustBreak 26 = .ok (.iadd, 1) := dk_96 (dk_at dksX16_mustBreak_1 3 rfl rfl)
theorem dX16_mustBreak_27 : decode cX16_mustBreak 27 = .ok (.istore 6, 2) := dk_54 6 (dk_at dksX16_mustBreak_1 4 rfl rfl)
theorem dX16_mustBreak_29 : decode cX16_mustBreak 29 = .ok (.aload 5, 2) := dk_25 5 (dk_at dksX16_mustBreak_1 6 rfl rfl)
theorem dX16_mustBreak_31 : decode cX16_mustBreak 31 = .ok (.getfield 116, 3) := dk_180 0 116 (dk_at dksX16_mustBreak_1 8 rfl rfl)
theorem dX16_mustBreak_34 : decode cX16_mustBreak 34 = .ok (.bipush 118, 2) := dk_16 118 (dk_at dksX16_mustBreak_1 11 rfl rfl)
theorem dX16_mustBreak_36 : decode cX16_mustBreak 36 = .ok (.if_icmp .ne 31, 3) := dk_160 0 31 (dk_at dksX16_mustBreak_1 13 rfl rfl)
theorem dX16_mustBreak_39 : decode cX16_mustBreak 39 = .ok (.aload_n 0, 1) := dk_42 (dk_at dksX16_mustBreak_1 16 rfl rfl)
theorem dX16_mustBreak_40 : decode cX16_mustBreak 40 = .ok (.iload 6, 2) := dk_21 6 (dk_at dksX16_mustBreak_1 17 rfl rfl)
theorem dX16_mustBreak_42 : decode cX16_mustBreak 42 = .ok (.invokevirtual 77, 3) := dk_182 0 77 (dk_at dksX16_mustBreak_1 19 rfl rfl)
theorem dX16_mustBreak_45 : decode cX16_mustBreak 45 = .ok (.ifCond .eq 22, 3) := dk_153 0 22 (dk_at dksX16_mustBreak_2 0 rfl rfl)
theorem dX16_mustBreak_48 : decode cX16_mustBreak 48 = .ok (.aload 5, 2) := dk_25 5 (dk_at dksX16_mustBreak_2 3 rfl rfl)
theorem dX16_mustBreak_50 : decode cX16_mustBreak 50 = .ok (.getfield 59, 3) := dk_180 0 59 (dk_at dksX16_mustBreak_2 5 rfl rfl)
theorem dX16_mustBreak_53 : decode cX16_mustBreak 53 = .ok (.getfield 97, 3) := dk_180 0 97 (dk_at dksX16_mustBreak_2 8 rfl rfl)
theorem dX16_mustBreak_56 : decode cX16_mustBreak 56 = .ok (.aload_n 0, 1) := dk_42 (dk_at dksX16_mustBreak_2 11 rfl rfl)
theorem dX16_mustBreak_57 : decode cX16_mustBreak 57 = .ok (.getfield 34, 3) := dk_180 0 34 (dk_at dksX16_mustBreak_2 12 rfl rfl)
theorem dX16_mustBreak_60 : decode cX16_mustBreak 60 = .ok (.if_icmp .gt 7, 3) := dk_163 0 7 (dk_at dksX16_mustBreak_2 15 rfl rfl)
theorem dX16_mustBreak_63 : decode cX16_mustBreak 63 = .ok (.iconst 1, 1) := dk_4 (dk_at dksX16_mustBreak_2 18 rfl rfl)
theorem dX16_mustBreak_64 : decode cX16_mustBreak 64 = .ok (.goto 4, 3) := dk_167 0 4 (dk_at dksX16_mustBreak_2 19 rfl rfl)
theorem dX16_mustBreak_67 : decode cX16_mustBreak 67 = .ok (.iconst 0, 1) := dk_3 (dk_at dksX16_mustBreak_2 22 rfl rfl)
theorem dX16_mustBreak_68 : decode cX16_mustBreak 68 = .ok (.istore 7, 2) := dk_54 7 (dk_at dksX16_mustBreak_3 0 rfl rfl)
theorem dX16_mustBreak_70 : decode cX16_mustBreak 70 = .ok (.iload_n 3, 1) := dk_29 (dk_at dksX16_mustBreak_3 2 rfl rfl)
theorem dX16_mustBreak_71 : decode cX16_mustBreak 71 = .ok (.aload_n 0, 1) := dk_42 (dk_at dksX16_mustBreak_3 3 rfl rfl)
theorem dX16_mustBreak_72 : decode cX16_mustBreak 72 = .ok (.getfield 22, 3) := dk_180 0 22 (dk_at dksX16_mustBreak_3 4 rfl rfl)
theorem dX16_mustBreak_75 : decode cX16_mustBreak 75 = .ok (.aload 5, 2) := dk_25 5 (dk_at dksX16_mustBreak_3 7 rfl rfl)
theorem dX16_mustBreak_77 : decode cX16_mustBreak 77 = .ok (.getfield 120, 3) := dk_180 0 120 (dk_at dksX16_mustBreak_3 9 rfl rfl)
theorem dX16_mustBreak_80 : decode cX16_mustBreak 80 = .ok (.baload, 1) := dk_51 (dk_at dksX16_mustBreak_3 12 rfl rfl)
theorem dX16_mustBreak_81 : decode cX16_mustBreak 81 = .ok (.ifCond .ne 22, 3) := dk_154 0 22 (dk_at dksX16_mustBreak_3 13 rfl rfl)
theorem dX16_mustBreak_84 : decode cX16_mustBreak 84 = .ok (.aload 5, 2) := dk_25 5 (dk_at dksX16_mustBreak_3 16 rfl rfl)
theorem dX16_mustBreak_86 : decode cX16_mustBreak 86 = .ok (.getfield 116, 3) := dk_180 0 116 (dk_at dksX16_mustBreak_3 18 rfl rfl)
theorem dX16_mustBreak_89 : decode cX16_mustBreak 89 = .ok (.bipush 102, 2) := dk_16 102 (dk_at dksX16_mustBreak_3 21 rfl rfl)
theorem dX16_mustBreak_91 : decode cX16_mustBreak 91 = .ok (.if_icmp .eq 8, 3) := dk_159 0 8 (dk_at dksX16_mustBreak_4 0 rfl rfl)
theorem dX16_mustBreak_94 : decode cX16_mustBreak 94 = .ok (.iload 7, 2) := dk_21 7 (dk_at dksX16_mustBreak_4 3 rfl rfl)
theorem dX16_mustBreak_96 : decode cX16_mustBreak 96 = .ok (.ifCond .eq 7, 3) := dk_153 0 7 (dk_at dksX16_mustBreak_4 5 rfl rfl)
theorem dX16_mustBreak_99 : decode cX16_mustBreak 99 = .ok (.iconst 1, 1) := dk_4 (dk_at dksX16_mustBreak_4 8 rfl rfl)
theorem dX16_mustBreak_100 : decode cX16_mustBreak 100 = .ok (.goto 4, 3) := dk_167 0 4 (dk_at dksX16_mustBreak_4 9 rfl rfl)
theorem dX16_mustBreak_103 : decode cX16_mustBreak 103 = .ok (.iconst 0, 1) := dk_3 (dk_at dksX16_mustBreak_4 12 rfl rfl)
theorem dX16_mustBreak_104 : decode cX16_mustBreak 104 = .ok (.ior, 1) := dk_128 (dk_at dksX16_mustBreak_4 13 rfl rfl)
theorem dX16_mustBreak_105 : decode cX16_mustBreak 105 = .ok (.istore_n 3, 1) := dk_62 (dk_at dksX16_mustBreak_4 14 rfl rfl)
theorem dX16_mustBreak_106 : decode cX16_mustBreak 106 = .ok (.iload 4, 2) := dk_21 4 (dk_at dksX16_mustBreak_4 15 rfl rfl)
theorem dX16_mustBreak_108 : decode cX16_mustBreak 108 = .ok (.aload 5, 2) := dk_25 5 (dk_at dksX16_mustBreak_4 17 rfl rfl)
theorem dX16_mustBreak_110 : decode cX16_mustBreak 110 = .ok (.getfield 59, 3) := dk_180 0 59 (dk_at dksX16_mustBreak_4 19 rfl rfl)
theorem dX16_mustBreak_113 : decode cX16_mustBreak 113 = .ok (.getfield 114, 3) := dk_180 0 114 (dk_at dksX16_mustBreak_5 0 rfl rfl)
theorem dX16_mustBreak_116 : decode cX16_mustBreak 116 = .ok (.isub, 1) := dk_100 (dk_at dksX16_mustBreak_5 3 rfl rfl)
theorem dX16_mustBreak_117 : decode cX16_mustBreak 117 = .ok (.istore 4, 2) := dk_54 4 (dk_at dksX16_mustBreak_5 4 rfl rfl)
theorem dX16_mustBreak_119 : decode cX16_mustBreak 119 = .ok (.aload 5, 2) := dk_25 5 (dk_at dksX16_mustBreak_5 6 rfl rfl)
theorem dX16_mustBreak_121 : decode cX16_mustBreak 121 = .ok (.getfield 123, 3) := dk_180 0 123 (dk_at dksX16_mustBreak_5 8 rfl rfl)
theorem dX16_mustBreak_124 : decode cX16_mustBreak 124 = .ok (.astore 5, 2) := dk_58 5 (dk_at dksX16_mustBreak_5 11 rfl rfl)
theorem dX16_mustBreak_126 : decode cX16_mustBreak 126 = .ok (.goto (-118), 3) := dk_167 255 138 (dk_at dksX16_mustBreak_5 13 rfl rfl)
theorem dX16_mustBreak_129 : decode cX16_mustBreak 129 = .ok (.iload_n 3, 1) := dk_29 (dk_at dksX16_mustBreak_5 16 rfl rfl)
theorem dX16_mustBreak_130 : decode cX16_mustBreak 130 = .ok (.ireturn, 1) := dk_172 (dk_at dksX16_mustBreak_5 17 rfl rfl)
theorem q101 : (Jvm.Cond.initialized "ColumnarPress$Pages") ∈ lw_all := lw_g (lw_at lw_m1 49 rfl) rfl
theorem q194 : (Jvm.Cond.fieldLinkNest "ColumnarPress$Pages" (114 : Nat) "ColumnarPress$Placed" "y" "I" "ColumnarPress") ∈ lw_tbl := lw_at lw_m1 142 rfl
theorem q205 : (Jvm.Cond.fieldLinkNest "ColumnarPress$Pages" (97 : Nat) "ColumnarPress$Placed" "height" "I" "ColumnarPress") ∈ lw_tbl := lw_at lw_m1 153 rfl
theorem q209 : (Jvm.Cond.fieldLinkNest "ColumnarPress$Pages" (63 : Nat) "ColumnarPress$Placed" "lines" "Ljava/util/List;" "ColumnarPress") ∈ lw_tbl := lw_at lw_m1 157 rfl
theorem q226 : (Jvm.Cond.fieldLinkNest "ColumnarPress$Pages" (120 : Nat) "ColumnarPress$Box" "number" "I" "ColumnarPress") ∈ lw_tbl := lw_at lw_m1 174 rfl
theorem q229 : (Jvm.Cond.fieldLinkNest "ColumnarPress$Pages" (123 : Nat) "ColumnarPress$Box" "parent" "LColumnarPress$Box;" "ColumnarPress") ∈ lw_tbl := lw_at lw_m1 177 rfl
theorem q236 : (Jvm.Cond.fieldLinkNest "ColumnarPress$Pages" (88 : Nat) "ColumnarPress$Box" "children" "Ljava/util/List;" "ColumnarPress") ∈ lw_tbl := lw_at lw_m1 184 rfl
theorem q283 : (Jvm.Cond.fieldLinkNest "ColumnarPress$Pages" (116 : Nat) "ColumnarPress$Box" "breaks" "C" "ColumnarPress") ∈ lw_tbl := lw_at lw_m1 231 rfl
theorem q291 : (Jvm.Cond.fieldLinkNest "ColumnarPress$Pages" (59 : Nat) "ColumnarPress$Box" "placed" "LColumnarPress$Placed;" "ColumnarPress") ∈ lw_tbl := lw_at lw_m1 239 rfl
theorem q397 : (Jvm.Cond.selects "ColumnarPress$Pages" ({ cls := "java/lang/Object", name := "getClass", desc := "()Ljava/lang/Class;" } : Jvm.MethodName) ({ cls := "java/lang/Object", name := "getClass", desc := "()Ljava/lang/Class;" } : Jvm.MethodName)) ∈ lw_all := lw_g (lw_at lw_m2 105 rfl) rfl
theorem q808 : (Jvm.Cond.fieldLinkNest "ColumnarPress$Pages" (37 : Nat) "ColumnarPress" "boxes" "Ljava/util/List;" "ColumnarPress") ∈ lw_tbl := lw_at lw_m4 36 rfl
theorem q1932 : (Jvm.Cond.instantiable "ColumnarPress$Pages" (7 : Nat)) ∈ lw_all := lw_g (lw_at lw_m8 200 rfl) rfl
theorem q1934 : (Jvm.Cond.instanceMethod ({ cls := "ColumnarPress$Pages", name := "<init>", desc := "(LColumnarPress;I)V" } : Jvm.MethodName)) ∈ lw_all := lw_g (lw_at lw_m8 202 rfl) rfl
theorem q1935 : (Jvm.Cond.code ({ cls := "ColumnarPress$Pages", name := "<init>", desc := "(LColumnarPress;I)V" } : Jvm.MethodName) prog_10_method_1_code (3 : Nat) (Option.none : Option Jvm.ClassFile.FieldType)) ∈ lw_all := lw_g (lw_at lw_m8 203 rfl) rfl
theorem q1936 : (Jvm.Cond.methodLink "ColumnarPress$Pages" (9 : Nat) ({ cls := "java/lang/Object", name := "<init>", desc := "()V" } : Jvm.MethodName)) ∈ lw_all := lw_g (lw_at lw_m8 204 rfl) rfl
theorem q1937 : (Jvm.Cond.classLink "ColumnarPress$Pages" (15 : Nat) "java/util/ArrayList") ∈ lw_all := lw_g (lw_at lw_m8 205 rfl) rfl
theorem q1938 : (Jvm.Cond.methodLink "ColumnarPress$Pages" (17 : Nat) ({ cls := "java/util/ArrayList", name := "<init>", desc := "()V" } : Jvm.MethodName)) ∈ lw_all := lw_g (lw_at lw_m8 206 rfl) rfl
theorem q1939 : (Jvm.Cond.interfaceEntry "ColumnarPress$Pages" (40 : Nat)) ∈ lw_tbl := lw_at lw_m8 207 rfl
theorem q1940 : (Jvm.Cond.methodLink "ColumnarPress$Pages" (40 : Nat) ({ cls := "java/util/List", name := "get", desc := "(I)Ljava/lang/Object;" } : Jvm.MethodName)) ∈ lw_all := lw_g (lw_at lw_m8 208 rfl) rfl
theorem q1941 : (Jvm.Cond.classLink "ColumnarPress$Pages" (46 : Nat) "ColumnarPress$Box") ∈ lw_all := lw_g (lw_at lw_m8 209 rfl) rfl
theorem q1942 : (Jvm.Cond.methodLink "ColumnarPress$Pages" (48 : Nat) ({ cls := "ColumnarPress$Pages", name := "walk", desc := "(LColumnarPress$Box;I)V" } : Jvm.MethodName)) ∈ lw_all := lw_g (lw_at lw_m8 210 rfl) rfl
theorem q1943 : (Jvm.Cond.privateMethod ({ cls := "ColumnarPress$Pages", name := "walk", desc := "(LColumnarPress$Box;I)V" } : Jvm.MethodName)) ∈ lw_tbl := lw_at lw_m8 211 rfl
theorem q1944 : (Jvm.Cond.instanceMethod ({ cls := "ColumnarPress$Pages", name := "walk", desc := "(LColumnarPress$Box;I)V" } : Jvm.MethodName)) ∈ lw_all := lw_g (lw_at lw_m8 212 rfl) rfl
theorem q1945 : (Jvm.Cond.code ({ cls := "ColumnarPress$Pages", name := "walk", desc := "(LColumnarPress$Box;I)V" } : Jvm.MethodName) prog_10_method_3_code (7 : Nat) (Option.none : Option Jvm.ClassFile.FieldType)) ∈ lw_all := lw_g (lw_at lw_m8 213 rfl) rfl
theorem q1946 : (Jvm.Cond.methodLink "ColumnarPress$Pages" (55 : Nat) ({ cls := "ColumnarPress$Box", name := "isText", desc := "()Z" } : Jvm.MethodName)) ∈ lw_all := lw_g (lw_at lw_m8 214 rfl) rfl
theorem q1947 : (Jvm.Cond.interfaceEntry "ColumnarPress$Pages" (68 : Nat)) ∈ lw_tbl := lw_at lw_m8 215 rfl
theorem q1948 : (Jvm.Cond.methodLink "ColumnarPress$Pages" (68 : Nat) ({ cls := "java/util/List", name := "size", desc := "()I" } : Jvm.MethodName)) ∈ lw_all := lw_g (lw_at lw_m8 216 rfl) rfl
theorem q1949 : (Jvm.Cond.classLink "ColumnarPress$Pages" (72 : Nat) "ColumnarPress$Line") ∈ lw_all := lw_g (lw_at lw_m8 217 rfl) rfl
theorem q1950 : (Jvm.Cond.methodLink "ColumnarPress$Pages" (74 : Nat) ({ cls := "ColumnarPress$Line", name := "y", desc := "()I" } : Jvm.MethodName)) ∈ lw_all := lw_g (lw_at lw_m8 218 rfl) rfl
theorem q1951 : (Jvm.Cond.methodLink "ColumnarPress$Pages" (77 : Nat) ({ cls := "ColumnarPress$Pages", name := "isLower", desc := "(I)Z" } : Jvm.MethodName)) ∈ lw_all := lw_g (lw_at lw_m8 219 rfl) rfl
theorem q1952 : (Jvm.Cond.privateMethod ({ cls := "ColumnarPress$Pages", name := "isLower", desc := "(I)Z" } : Jvm.MethodName)) ∈ lw_tbl := lw_at lw_m8 220 rfl
theorem q1953 : (Jvm.Cond.instanceMethod ({ cls := "ColumnarPress$Pages", name := "isLower", desc := "(I)Z" } : Jvm.MethodName)) ∈ lw_all := lw_g (lw_at lw_m8 221 rfl) rfl
theorem q1954 : (Jvm.Cond.code ({ cls := "ColumnarPress$Pages", name := "isLower", desc := "(I)Z" } : Jvm.MethodName) prog_10_method_2_code (2 : Nat) (Option.some Jvm.ClassFile.FieldType.boolean)) ∈ lw_all := lw_g (lw_at lw_m8 222 rfl) rfl
theorem q1955 : (Jvm.Cond.methodLink "ColumnarPress$Pages" (81 : Nat) ({ cls := "ColumnarPress$Pages", name := "put", desc := "(LColumnarPress$Box;IIIZ)V" } : Jvm.MethodName)) ∈ lw_all := lw_g (lw_at lw_m8 223 rfl) rfl
theorem q1956 : (Jvm.Cond.privateMethod ({ cls := "ColumnarPress$Pages", name := "put", desc := "(LColumnarPress$Box;IIIZ)V" } : Jvm.MethodName)) ∈ lw_tbl := lw_at lw_m8 224 rfl
theorem q1957 : (Jvm.Cond.instanceMethod ({ cls := "ColumnarPress$Pages", name := "put", desc := "(LColumnarPress$Box;IIIZ)V" } : Jvm.MethodName)) ∈ lw_all := lw_g (lw_at lw_m8 225 rfl) rfl
theorem q1958 : (Jvm.Cond.code ({ cls := "ColumnarPress$Pages", name := "put", desc := "(LColumnarPress$Box;IIIZ)V" } : Jvm.MethodName) prog_10_method_5_code (9 : Nat) (Option.none : Option Jvm.ClassFile.FieldType)) ∈ lw_all := lw_g (lw_at lw_m8 226 rfl) rfl
theorem q1959 : (Jvm.Cond.methodLink "ColumnarPress$Pages" (127 : Nat) ({ cls := "ColumnarPress$Pages", name := "mustBreak", desc := "(LColumnarPress$Box;I)Z" } : Jvm.MethodName)) ∈ lw_all := lw_g (lw_at lw_m8 227 rfl) rfl
theorem q1960 : (Jvm.Cond.privateMethod ({ cls := "ColumnarPress$Pages", name := "mustBreak", desc := "(LColumnarPress$Box;I)Z" } : Jvm.MethodName)) ∈ lw_tbl := lw_at lw_m8 228 rfl
theorem q1961 : (Jvm.Cond.instanceMethod ({ cls := "ColumnarPress$Pages", name := "mustBreak", desc := "(LColumnarPress$Box;I)Z" } : Jvm.MethodName)) ∈ lw_all := lw_g (lw_at lw_m8 229 rfl) rfl
theorem q1962 : (Jvm.Cond.code ({ cls := "ColumnarPress$Pages", name := "mustBreak", desc := "(LColumnarPress$Box;I)Z" } : Jvm.MethodName) prog_10_method_4_code (8 : Nat) (Option.some Jvm.ClassFile.FieldType.boolean)) ∈ lw_all := lw_g (lw_at lw_m8 230 rfl) rfl
theorem q1963 : (Jvm.Cond.methodLink "ColumnarPress$Pages" (94 : Nat) ({ cls := "ColumnarPress$Box", name := "isRoot", desc := "()Z" } : Jvm.MethodName)) ∈ lw_all := lw_g (lw_at lw_m8 231 rfl) rfl
theorem q1964 : (Jvm.Cond.classLink "ColumnarPress$Pages" (131 : Nat) "ColumnarPress$Unit") ∈ lw_all := lw_g (lw_at lw_m8 232 rfl) rfl
theorem q1966 : (Jvm.Cond.methodLinkNest "ColumnarPress$Pages" (133 : Nat) ({ cls := "ColumnarPress$Unit", name := "<init>", desc := "(LColumnarPress$Box;II)V" } : Jvm.MethodName) "ColumnarPress") ∈ lw_tbl := lw_at lw_m8 234 rfl
theorem q1980 : (Jvm.Cond.interfaceEntry "ColumnarPress$Pages" (136 : Nat)) ∈ lw_tbl := lw_at lw_m9 8 rfl
theorem q1981 : (Jvm.Cond.methodLink "ColumnarPress$Pages" (136 : Nat) ({ cls := "java/util/List", name := "add", desc := "(Ljava/lang/Object;)Z" } : Jvm.MethodName)) ∈ lw_all := lw_g (lw_at lw_m9 9 rfl) rfl
theorem q1982 : (Jvm.Cond.methodLink "ColumnarPress$Pages" (85 : Nat) ({ cls := "ColumnarPress$Box", name := "isItems", desc := "()Z" } : Jvm.MethodName)) ∈ lw_all := lw_g (lw_at lw_m9 10 rfl) rfl
theorem q1983 : (Jvm.Cond.interfaceEntry "ColumnarPress$Pages" (91 : Nat)) ∈ lw_tbl := lw_at lw_m9 11 rfl
theorem q1984 : (Jvm.Cond.methodLink "ColumnarPress$Pages" (91 : Nat) ({ cls := "java/util/List", name := "isEmpty", desc := "()Z" } : Jvm.MethodName)) ∈ lw_all := lw_g (lw_at lw_m9 12 rfl) rfl
theorem q1985 : (Jvm.Cond.interfaceEntry "ColumnarPress$Pages" (98 : Nat)) ∈ lw_tbl := lw_at lw_m9 13 rfl
theorem q1986 : (Jvm.Cond.methodLink "ColumnarPress$Pages" (98 : Nat) ({ cls := "java/util/List", name := "iterator", desc := "()Ljava/util/Iterator;" } : Jvm.MethodName)) ∈ lw_all := lw_g (lw_at lw_m9 14 rfl) rfl
theorem q1987 : (Jvm.Cond.interfaceEntry "ColumnarPress$Pages" (102 : Nat)) ∈ lw_tbl := lw_at lw_m9 15 rfl
theorem q1988 : (Jvm.Cond.methodLink "ColumnarPress$Pages" (102 : Nat) ({ cls := "java/util/Iterator", name := "hasNext", desc := "()Z" } : Jvm.MethodName)) ∈ lw_all := lw_g (lw_at lw_m9 16 rfl) rfl
theorem q1989 : (Jvm.Cond.interfaceEntry "ColumnarPress$Pages" (107 : Nat)) ∈ lw_tbl := lw_at lw_m9 17 rfl
theorem q1990 : (Jvm.Cond.methodLink "ColumnarPress$Pages" (107 : Nat) ({ cls := "java/util/Iterator", name := "next", desc := "()Ljava/lang/Object;" } : Jvm.MethodName)) ∈ lw_all := lw_g (lw_at lw_m9 18 rfl) rfl
theorem q1991 : (Jvm.Cond.methodLink "ColumnarPress$Pages" (111 : Nat) ({ cls := "ColumnarPress$Box", name := "isInFlow", desc := "()Z" } : Jvm.MethodName)) ∈ lw_all := lw_g (lw_at lw_m9 19 rfl) rfl
theorem q1992 : (Jvm.Cond.fieldLink "ColumnarPress$Pages" (34 : Nat) "ColumnarPress$Pages" "height" "I") ∈ lw_all := lw_g (lw_at lw_m9 20 rfl) rfl
theorem q1993 : (Jvm.Cond.fieldLink "ColumnarPress$Pages" (18 : Nat) "ColumnarPress$Pages" "units" "Ljava/util/List;") ∈ lw_all := lw_g (lw_at lw_m9 21 rfl) rfl
theorem q1995 : (Jvm.Cond.fieldLink "ColumnarPress$Pages" (22 : Nat) "ColumnarPress$Pages" "isBegun" "[Z") ∈ lw_all := lw_g (lw_at lw_m9 23 rfl) rfl
theorem q1996 : (Jvm.Cond.fieldLink "ColumnarPress$Pages" (26 : Nat) "ColumnarPress$Pages" "page" "I") ∈ lw_all := lw_g (lw_at lw_m9 24 rfl) rfl
theorem q1998 : (Jvm.Cond.fieldLink "ColumnarPress$Pages" (52 : Nat) "ColumnarPress$Pages" "top" "I") ∈ lw_all := lw_g (lw_at lw_m9 26 rfl) rfl
theorem q1999 : (Jvm.Cond.fieldLink "ColumnarPress$Pages" (30 : Nat) "ColumnarPress$Pages" "isFirst" "Z") ∈ lw_all := lw_g (lw_at lw_m9 27 rfl) rfl
theorem q2000 : (Jvm.Cond.fieldLink "ColumnarPress$Pages" (3 : Nat) "ColumnarPress$Pages" "this$0" "LColumnarPress;") ∈ lw_all := lw_g (lw_at lw_m9 28 rfl) rfl
theorem q2001 : (Jvm.Cond.laysFinal "ColumnarPress$Pages" "ColumnarPress$Pages" "height" "I") ∈ lw_all := lw_g (lw_at lw_m9 29 rfl) rfl
theorem q2002 : (Jvm.Cond.soleField "ColumnarPress$Pages" "height") ∈ lw_all := lw_g (lw_at lw_m9 30 rfl) rfl
theorem q2003 : (Jvm.Cond.laysFinal "ColumnarPress$Pages" "ColumnarPress$Pages" "units" "Ljava/util/List;") ∈ lw_all := lw_g (lw_at lw_m9 31 rfl) rfl
theorem q2004 : (Jvm.Cond.soleField "ColumnarPress$Pages" "units") ∈ lw_all := lw_g (lw_at lw_m9 32 rfl) rfl
theorem q2005 : (Jvm.Cond.laysFinal "ColumnarPress$Pages" "ColumnarPress$Pages" "isBegun" "[Z") ∈ lw_all := lw_g (lw_at lw_m9 33 rfl) rfl
theorem q2006 : (Jvm.Cond.soleField "ColumnarPress$Pages" "isBegun") ∈ lw_all := lw_g (lw_at lw_m9 34 rfl) rfl
theorem q2007 : (Jvm.Cond.lays "ColumnarPress$Pages" "ColumnarPress$Pages" "page" "I") ∈ lw_all := lw_g (lw_at lw_m9 35 rfl) rfl
theorem q2008 : (Jvm.Cond.soleField "ColumnarPress$Pages" "page") ∈ lw_all := lw_g (lw_at lw_m9 36 rfl) rfl
theorem q2009 : (Jvm.Cond.lays "ColumnarPress$Pages" "ColumnarPress$Pages" "top" "I") ∈ lw_all := lw_g (lw_at lw_m9 37 rfl) rfl
theorem q2010 : (Jvm.Cond.soleField "ColumnarPress$Pages" "top") ∈ lw_all := lw_g (lw_at lw_m9 38 rfl) rfl
theorem q2011 : (Jvm.Cond.lays "ColumnarPress$Pages" "ColumnarPress$Pages" "isFirst" "Z") ∈ lw_all := lw_g (lw_at lw_m9 39 rfl) rfl
theorem q2012 : (Jvm.Cond.soleField "ColumnarPress$Pages" "isFirst") ∈ lw_all := lw_g (lw_at lw_m9 40 rfl) rfl
theorem q2013 : (Jvm.Cond.laysFinal "ColumnarPress$Pages" "ColumnarPress$Pages" "this$0" "LColumnarPress;") ∈ lw_all := lw_g (lw_at lw_m9 41 rfl) rfl
theorem q2014 : (Jvm.Cond.soleField "ColumnarPress$Pages" "this$0") ∈ lw_all := lw_g (lw_at lw_m9 42 rfl) rfl
theorem q2015 : (Jvm.Cond.superclass "ColumnarPress$Pages" "java/lang/Object") ∈ lw_all := lw_g (lw_at lw_m9 43 rfl) rfl
theorem q2707 : (Jvm.Cond.selects "ColumnarPress$Pages" ({ cls := "java/lang/Object", name := "equals", desc := "(Ljava/lang/Object;)Z" } : Jvm.MethodName) ({ cls := "java/lang/Object", name := "equals", desc := "(Ljava/lang/Object;)Z" } : Jvm.MethodName)) ∈ lw_all := lw_g (lw_at lw_m12 15 rfl) rfl
theorem q2875 : (Jvm.Cond.castable "ColumnarPress$Pages" "java/lang/Object") ∈ lw_tbl := lw_at lw_m12 183 rfl
theorem in_X16 : ∀ w ∈ wsX160, w ∈ lw_all := lw_in wsX160 [2001, 2003, 2005, 2007, 2009, 2011, 2013] (by decide +kernel) (by decide +kernel)
