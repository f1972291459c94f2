/-! ColumnarPressLaw -/
set_option maxRecDepth 100000
def RX0 : String := "ColumnarPressLaw"
abbrev cX0_add : ByteArray := method_3_code
def yX0_add : MethodName := ⟨RX0, "add", "(LColumnarPress;IC[J)I"⟩
def dkwX0_add_1 : List UInt8 := [172, 58, 4, 7, 172, 3, 172]
abbrev dktX0_add_1 : List UInt8 := dkwX0_add_1 ++ []
def dkwX0_add_0 : List UInt8 := [45, 3, 42, 27, 28, 182, 0, 7, 133, 80, 167, 0, 19, 58, 4, 4, 172, 58, 4, 5, 172, 58, 4, 6]
abbrev dktX0_add_0 : List UInt8 := dkwX0_add_0 ++ dktX0_add_1
theorem dksX0_add_0 : cX0_add.data.toList.drop 0 = dktX0_add_0 := by decide +kernel
theorem dksX0_add_1 : cX0_add.data.toList.drop 24 = dktX0_add_1 := dk_seg dksX0_add_0 24 rfl rfl
theorem dX0_add_0 : decode cX0_add 0 = .ok (.aload_n 3, 1) := dk_45 (dk_at dksX0_add_0 0 rfl rfl)
theorem dX0_add_1 : decode cX0_add 1 = .ok (.iconst 0, 1) := dk_3 (dk_at dksX0_add_0 1 rfl rfl)
theorem dX0_add_2 : decode cX0_add 2 = .ok (.aload_n 0, 1) := dk_42 (dk_at dksX0_add_0 2 rfl rfl)
theorem dX0_add_3 : decode cX0_add 3 = .ok (.iload_n 1, 1) := dk_27 (dk_at dksX0_add_0 3 rfl rfl)
theorem dX0_add_4 : decode cX0_add 4 = .ok (.iload_n 2, 1) := dk_28 (dk_at dksX0_add_0 4 rfl rfl)
theorem dX0_add_5 : decode cX0_add 5 = .ok (.invokevirtual 7, 3) := dk_182 0 7 (dk_at dksX0_add_0 5 rfl rfl)
theorem dX0_add_8 : decode cX0_add 8 = .ok (.i2l, 1) := dk_133 (dk_at dksX0_add_0 8 rfl rfl)
theorem dX0_add_9 : decode cX0_add 9 = .ok (.lastore, 1) := dk_80 (dk_at dksX0_add_0 9 rfl rfl)
theorem dX0_add_10 : decode cX0_add 10 = .ok (.goto 19, 3) := dk_167 0 19 (dk_at dksX0_add_0 10 rfl rfl)
theorem dX0_add_13 : decode cX0_add 13 = .ok (.astore 4, 2) := dk_58 4 (dk_at dksX0_add_0 13 rfl rfl)
theorem dX0_add_15 : decode cX0_add 15 = .ok (.iconst 1, 1) := dk_4 (dk_at dksX0_add_0 15 rfl rfl)
theorem dX0_add_16 : decode cX0_add 16 = .ok (.ireturn, 1) := dk_172 (dk_at dksX0_add_0 16 rfl rfl)
theorem dX0_add_17 : decode cX0_add 17 = .ok (.astore 4, 2) := dk_58 4 (dk_at dksX0_add_0 17 rfl rfl)
theorem dX0_add_19 : decode cX0_add 19 = .ok (.iconst 2, 1) := dk_5 (dk_at dksX0_add_0 19 rfl rfl)
theorem dX0_add_20 : decode cX0_add 20 = .ok (.ireturn, 1) := dk_172 (dk_at dksX0_add_0 20 rfl rfl)
theorem dX0_add_21 : decode cX0_add 21 = .ok (.astore 4, 2) := dk_58 4 (dk_at dksX0_add_0 21 rfl rfl)
theorem dX0_add_23 : decode cX0_add 23 = .ok (.iconst 3, 1) := dk_6 (dk_at dksX0_add_0 23 rfl rfl)
theorem dX0_add_24 : decode cX0_add 24 = .ok (.ireturn, 1) := dk_172 (dk_at dksX0_add_1 0 rfl rfl)
theorem dX0_add_25 : decode cX0_add 25 = .ok (.astore 4, 2) := dk_58 4 (dk_at dksX0_add_1 1 rfl rfl)
theorem dX0_add_27 : decode cX0_add 27 = .ok (.iconst 4, 1) := dk_7 (dk_at dksX0_add_1 3 rfl rfl)
theorem dX0_add_28 : decode cX0_add 28 = .ok (.ireturn, 1) := dk_172 (dk_at dksX0_add_1 4 rfl rfl)
theorem dX0_add_29 : decode cX0_add 29 = .ok (.iconst 0, 1) := dk_3 (dk_at dksX0_add_1 5 rfl rfl)
theorem dX0_add_30 : decode cX0_add 30 = .ok (.ireturn, 1) := dk_172 (dk_at dksX0_add_1 6 rfl rfl)
abbrev cX0_addWord : ByteArray := method_4_code
def yX0_addWord : MethodName := ⟨RX0, "addWord", "(LColumnarPress;II[J)I"⟩
def dkwX0_addWord_1 : List UInt8 := [172, 58, 4, 7, 172, 3, 172]
abbrev dktX0_addWord_1 : List UInt8 := dkwX0_addWord_1 ++ []
def dkwX0_addWord_0 : List UInt8 := [45, 3, 42, 27, 28, 182, 0, 21, 133, 80, 167, 0, 19, 58, 4, 4, 172, 58, 4, 5, 172, 58, 4, 6]
abbrev dktX0_addWord_0 : List UInt8 := dkwX0_addWord_0 ++ dktX0_addWord_1
theorem dksX0_addWord_0 : cX0_addWord.data.toList.drop 0 = dktX0_addWord_0 := by decide +kernel
theorem dksX0_addWord_1 : cX0_addWord.data.toList.drop 24 = dktX0_addWord_1 := dk_seg dksX0_addWord_0 24 rfl rfl
theorem dX0_addWord_0 : decode cX0_addWord 0 = .ok (.aload_n 3, 1) := dk_45 (dk_at dksX0_addWord_0 0 rfl rfl)
theorem dX0_addWord_1 : decode cX0_addWord 1 = .ok (.iconst 0, 1) := dk_3 (dk_at dksX0_addWord_0 1 rfl rfl)
theorem dX0_addWord_2 : decode cX0_addWord 2 = .ok (.aload_n 0, 1) := dk_42 (dk_at dksX0_addWord_0 2 rfl rfl)
theorem dX0_addWord_3 : decode cX0_addWord 3 = .ok (.iload_n 1, 1) := dk_27 (dk_at dksX0_addWord_0 3 rfl rfl)
theorem dX0_addWord_4 : decode cX0_addWord 4 = .ok (.iload_n 2, 1) := dk_28 (dk_at dksX0_addWord_0 4 rfl rfl)
theorem dX0_addWord_5 : decode cX0_addWord 5 = .ok (.invokevirtual 21, 3) := dk_182 0 21 (dk_at dksX0_addWord_0 5 rfl rfl)
theorem dX0_addWord_8 : decode cX0_addWord 8 = .ok (.i2l, 1) := dk_133 (dk_at dksX0_addWord_0 8 rfl rfl)
theorem dX0_addWord_9 : decode cX0_addWord 9 = .ok (.lastore, 1) := dk_80 (dk_at dksX0_addWord_0 9 rfl rfl)
theorem dX0_addWord_10 : decode cX0_addWord 10 = .ok (.goto 19, 3) := dk_167 0 19 (dk_at dksX0_addWord_0 10 rfl rfl)
theorem dX0_addWord_13 : decode cX0_addWord 13 = .ok (.astore 4, 2) := dk_58 4 (dk_at dksX0_addWord_0 13 rfl rfl)
theorem dX0_addWord_15 : decode cX0_addWord 15 = .ok (.iconst 1, 1) := dk_4 (dk_at dksX0_addWord_0 15 rfl rfl)
theorem dX0_addWord_16 : decode cX0_addWord 16 = .ok (.ireturn, 1) := dk_172 (dk_at dksX0_addWord_0 16 rfl rfl)
theorem dX0_addWord_17 : decode cX0_addWord 17 = .ok (.astore 4, 2) := dk_58 4 (dk_at dksX0_addWord_0 17 rfl rfl)
theorem dX0_addWord_19 : decode cX0_addWord 19 = .ok (.iconst 2, 1) := dk_5 (dk_at dksX0_addWord_0 19 rfl rfl)
theorem dX0_addWord_20 : decode cX0_addWord 20 = .ok (.ireturn, 1) := dk_172 (dk_at dksX0_addWord_0 20 rfl rfl)
theorem dX0_addWord_21 : decode cX0_addWord 21 = .ok (.astore 4, 2) := dk_58 4 (dk_at dksX0_addWord_0 21 rfl rfl)
theorem dX0_addWord_23 : decode cX0_addWord 23 = .ok (.iconst 3, 1) := dk_6 (dk_at dksX0_addWord_0 23 rfl rfl)
theorem dX0_addWord_24 : decode cX0_addWord 24 = .ok (.ireturn, 1) := dk_172 (dk_at dksX0_addWord_1 0 rfl rfl)
theorem dX0_addWord_25 : decode cX0_addWord 25 = .ok (.astore 4, 2) := dk_58 4 (dk_at dksX0_addWord_1 1 rfl rfl)
theorem dX0_addWord_27 : decode cX0_addWord 27 = .ok (.iconst 4, 1) := dk_7 (dk_at dksX0_addWord_1 3 rfl rfl)
theorem dX0_addWord_28 : decode cX0_addWord 28 = .ok (.ireturn, 1) := dk_172 (dk_at dksX0_addWord_1 4 rfl rfl)
theorem dX0_addWord_29 : decode cX0_addWord 29 = .ok (.iconst 0, 1) := dk_3 (dk_at dksX0_addWord_1 5 rfl rfl)
theorem dX0_addWord_30 : decode cX0_addWord 30 = .ok (.ireturn, 1) := dk_172 (dk_at dksX0_addWord_1 6 rfl rfl)
abbrev cX0_setSize : ByteArray := method_5_code
def yX0_setSize : MethodName := ⟨RX0, "setSize", "(LColumnarPress;III[J)I"⟩
def dkwX0_setSize_1 : List UInt8 := [172]
abbrev dktX0_setSize_1 : List UInt8 := dkwX0_setSize_1 ++ []
def dkwX0_setSize_0 : List UInt8 := [25, 4, 3, 42, 27, 28, 29, 182, 0, 25, 133, 80, 167, 0, 11, 58, 5, 4, 172, 58, 5, 5, 172, 3]
abbrev dktX0_setSize_0 : List UInt8 := dkwX0_setSize_0 ++ dktX0_setSize_1
theorem dksX0_setSize_0 : cX0_setSize.data.toList.drop 0 = dktX0_setSize_0 := by decide +kernel
theorem dksX0_setSize_1 : cX0_setSize.data.toList.drop 24 = dktX0_setSize_1 := dk_seg dksX0_setSize_0 24 rfl rfl
theorem dX0_setSize_0 : decode cX0_setSize 0 = .ok (.aload 4, 2) := dk_25 4 (dk_at dksX0_setSize_0 0 rfl rfl)
theorem dX0_setSize_2 : decode cX0_setSize 2 = .ok (.iconst 0, 1) := dk_3 (dk_at dksX0_setSize_0 2 rfl rfl)
theorem dX0_setSize_3 : decode cX0_setSize 3 = .ok (.aload_n 0, 1) := dk_42 (dk_at dksX0_setSize_0 3 rfl rfl)
theorem dX0_setSize_4 : decode cX0_setSize 4 = .ok (.iload_n 1, 1) := dk_27 (dk_at dksX0_setSize_0 4 rfl rfl)
theorem dX0_setSize_5 : decode cX0_setSize 5 = .ok (.iload_n 2, 1) := dk_28 (dk_at dksX0_setSize_0 5 rfl rfl)
theorem dX0_setSize_6 : decode cX0_setSize 6 = .ok (.iload_n 3, 1) := dk_29 (dk_at dksX0_setSize_0 6 rfl rfl)
theorem dX0_setSize_7 : decode cX0_setSize 7 = .ok (.invokevirtual 25, 3) := dk_182 0 25 (dk_at dksX0_setSize_0 7 rfl rfl)
theorem dX0_setSize_10 : decode cX0_setSize 10 = .ok (.i2l, 1) := dk_133 (dk_at dksX0_setSize_0 10 rfl rfl)
theorem dX0_setSize_11 : decode cX0_setSize 11 = .ok (.lastore, 1) := dk_80 (dk_at dksX0_setSize_0 11 rfl rfl)
theorem dX0_setSize_12 : decode cX0_setSize 12 = .ok (.goto 11, 3) := dk_167 0 11 (dk_at dksX0_setSize_0 12 rfl rfl)
theorem dX0_setSize_15 : decode cX0_setSize 15 = .ok (.astore 5, 2) := dk_58 5 (dk_at dksX0_setSize_0 15 rfl rfl)
theorem dX0_setSize_17 : decode cX0_setSize 17 = .ok (.iconst 1, 1) := dk_4 (dk_at dksX0_setSize_0 17 rfl rfl)
theorem dX0_setSize_18 : decode cX0_setSize 18 = .ok (.ireturn, 1) := dk_172 (dk_at dksX0_setSize_0 18 rfl rfl)
theorem dX0_setSize_19 : decode cX0_setSize 19 = .ok (.astore 5, 2) := dk_58 5 (dk_at dksX0_setSize_0 19 rfl rfl)
theorem dX0_setSize_21 : decode cX0_setSize 21 = .ok (.iconst 2, 1) := dk_5 (dk_at dksX0_setSize_0 21 rfl rfl)
theorem dX0_setSize_22 : decode cX0_setSize 22 = .ok (.ireturn, 1) := dk_172 (dk_at dksX0_setSize_0 22 rfl rfl)
theorem dX0_setSize_23 : decode cX0_setSize 23 = .ok (.iconst 0, 1) := dk_3 (dk_at dksX0_setSize_0 23 rfl rfl)
theorem dX0_setSize_24 : decode cX0_setSize 24 = .ok (.ireturn, 1) := dk_172 (dk_at dksX0_setSize_1 0 rfl rfl)
abbrev cX0_setMargins : ByteArray := method_6_code
def yX0_setMargins : MethodName := ⟨RX0, "setMargins", "(LColumnarPress;IIIII[J)I"⟩
def dkwX0_setMargins_1 : List UInt8 := [58, 7, 5, 172, 3, 172]
abbrev dktX0_setMargins_1 : List UInt8 := dkwX0_setMargins_1 ++ []
def dkwX0_setMargins_0 : List UInt8 := [25, 6, 3, 42, 27, 28, 29, 21, 4, 21, 5, 182, 0, 29, 133, 80, 167, 0, 11, 58, 7, 4, 172]
abbrev dktX0_setMargins_0 : List UInt8 := dkwX0_setMargins_0 ++ dktX0_setMargins_1
theorem dksX0_setMargins_0 : cX0_setMargins.data.toList.drop 0 = dktX0_setMargins_0 := by decide +kernel
theorem dksX0_setMargins_1 : cX0_setMargins.data.toList.drop 23 = dktX0_setMargins_1 := dk_seg dksX0_setMargins_0 23 rfl rfl
theorem dX0_setMargins_0 : decode cX0_setMargins 0 = .ok (.aload 6, 2) := dk_25 6 (dk_at dksX0_setMargins_0 0 rfl rfl)
theorem dX0_setMargins_2 : decode cX0_setMargins 2 = .ok (.iconst 0, 1) := dk_3 (dk_at dksX0_setMargins_0 2 rfl rfl)
theorem dX0_setMargins_3 : decode cX0_setMargins 3 = .ok (.aload_n 0, 1) := dk_42 (dk_at dksX0_setMargins_0 3 rfl rfl)
theorem dX0_setMargins_4 : decode cX0_setMargins 4 = .ok (.iload_n 1, 1) := dk_27 (dk_at dksX0_setMargins_0 4 rfl rfl)
theorem dX0_setMargins_5 : decode cX0_setMargins 5 = .ok (.iload_n 2, 1) := dk_28 (dk_at dksX0_setMargins_0 5 rfl rfl)
theorem dX0_setMargins_6 : decode cX0_setMargins 6 = .ok (.iload_n 3, 1) := dk_29 (dk_at dksX0_setMargins_0 6 rfl rfl)
theorem dX0_setMargins_7 : decode cX0_setMargins 7 = .ok (.iload 4, 2) := dk_21 4 (dk_at dksX0_setMargins_0 7 rfl rfl)
theorem dX0_setMargins_9 : decode cX0_setMargins 9 = .ok (.iload 5, 2) := dk_21 5 (dk_at dksX0_setMargins_0 9 rfl rfl)
theorem dX0_setMargins_11 : decode cX0_setMargins 11 = .ok (.invokevirtual 29, 3) := dk_182 0 29 (dk_at dksX0_setMargins_0 11 rfl rfl)
theorem dX0_setMargins_14 : decode cX0_setMargins 14 = .ok (.i2l, 1) := dk_133 (dk_at dksX0_setMargins_0 14 rfl rfl)
theorem dX0_setMargins_15 : decode cX0_setMargins 15 = .ok (.lastore, 1) := dk_80 (dk_at dksX0_setMargins_0 15 rfl rfl)
theorem dX0_setMargins_16 : decode cX0_setMargins 16 = .ok (.goto 11, 3) := dk_167 0 11 (dk_at dksX0_setMargins_0 16 rfl rfl)
theorem dX0_setMargins_19 : decode cX0_setMargins 19 = .ok (.astore 7, 2) := dk_58 7 (dk_at dksX0_setMargins_0 19 rfl rfl)
theorem dX0_setMargins_21 : decode cX0_setMargins 21 = .ok (.iconst 1, 1) := dk_4 (dk_at dksX0_setMargins_0 21 rfl rfl)
theorem dX0_setMargins_22 : decode cX0_setMargins 22 = .ok (.ireturn, 1) := dk_172 (dk_at dksX0_setMargins_0 22 rfl rfl)
theorem dX0_setMargins_23 : decode cX0_setMargins 23 = .ok (.astore 7, 2) := dk_58 7 (dk_at dksX0_setMargins_1 0 rfl rfl)
theorem dX0_setMargins_25 : decode cX0_setMargins 25 = .ok (.iconst 2, 1) := dk_5 (dk_at dksX0_setMargins_1 2 rfl rfl)
theorem dX0_setMargins_26 : decode cX0_setMargins 26 = .ok (.ireturn, 1) := dk_172 (dk_at dksX0_setMargins_1 3 rfl rfl)
theorem dX0_setMargins_27 : decode cX0_setMargins 27 = .ok (.iconst 0, 1) := dk_3 (dk_at dksX0_setMargins_1 4 rfl rfl)
theorem dX0_setMargins_28 : decode cX0_setMargins 28 = .ok (.ireturn, 1) := dk_172 (dk_at dksX0_setMargins_1 5 rfl rfl)
abbrev cX0_setPadding : ByteArray := method_7_code
def yX0_setPadding : MethodName := ⟨RX0, "setPadding", "(LColumnarPress;II[J)I"⟩
def dkwX0_setPadding_0 : List UInt8 := [45, 3, 42, 27, 28, 182, 0, 33, 133, 80, 167, 0, 11, 58, 4, 4, 172, 58, 4, 5, 172, 3, 172]
abbrev dktX0_setPadding_0 : List UInt8 := dkwX0_setPadding_0 ++ []
theorem dksX0_setPadding_0 : cX0_setPadding.data.toList.drop 0 = dktX0_setPadding_0 := by decide +kernel
theorem dX0_setPadding_0 : decode cX0_setPadding 0 = .ok (.aload_n 3, 1) := dk_45 (dk_at dksX0_setPadding_0 0 rfl rfl)
theorem dX0_setPadding_1 : decode cX0_setPadding 1 = .ok (.iconst 0, 1) := dk_3 (dk_at dksX0_setPadding_0 1 rfl rfl)
theorem dX0_setPadding_2 : decode cX0_setPadding 2 = .ok (.aload_n 0, 1) := dk_42 (dk_at dksX0_setPadding_0 2 rfl rfl)
theorem dX0_setPadding_3 : decode cX0_setPadding 3 = .ok (.iload_n 1, 1) := dk_27 (dk_at dksX0_setPadding_0 3 rfl rfl)
theorem dX0_setPadding_4 : decode cX0_setPadding 4 = .ok (.iload_n 2, 1) := dk_28 (dk_at dksX0_setPadding_0 4 rfl rfl)
theorem dX0_setPadding_5 : decode cX0_setPadding 5 = .ok (.invokevirtual 33, 3) := dk_182 0 33 (dk_at dksX0_setPadding_0 5 rfl rfl)
theorem dX0_setPadding_8 : decode cX0_setPadding 8 = .ok (.i2l, 1) := dk_133 (dk_at dksX0_setPadding_0 8 rfl rfl)
theorem dX0_setPadding_9 : decode cX0_setPadding 9 = .ok (.lastore, 1) := dk_80 (dk_at dksX0_setPadding_0 9 rfl rfl)
theorem dX0_setPadding_10 : decode cX0_setPadding 10 = .ok (.goto 11, 3) := dk_167 0 11 (dk_at dksX0_setPadding_0 10 rfl rfl)
theorem dX0_setPadding_13 : decode cX0_setPadding 13 = .ok (.astore 4, 2) := dk_58 4 (dk_at dksX0_setPadding_0 13 rfl rfl)
theorem dX0_setPadding_15 : decode cX0_setPadding 15 = .ok (.iconst 1, 1) := dk_4 (dk_at dksX0_setPadding_0 15 rfl rfl)
theorem dX0_setPadding_16 : decode cX0_setPadding 16 = .ok (.ireturn, 1) := dk_172 (dk_at dksX0_setPadding_0 16 rfl rfl)
theorem dX0_setPadding_17 : decode cX0_setPadding 17 = .ok (.astore 4, 2) := dk_58 4 (dk_at dksX0_setPadding_0 17 rfl rfl)
theorem dX0_setPadding_19 : decode cX0_setPadding 19 = .ok (.iconst 2, 1) := dk_5 (dk_at dksX0_setPadding_0 19 rfl rfl)
theorem dX0_setPadding_20 : decode cX0_setPadding 20 = .ok (.ireturn, 1) := dk_172 (dk_at dksX0_setPadding_0 20 rfl rfl)
theorem dX0_setPadding_21 : decode cX0_setPadding 21 = .ok (.iconst 0, 1) := dk_3 (dk_at dksX0_setPadding_0 21 rfl rfl)
theorem dX0_setPadding_22 : decode cX0_setPadding 22 = .ok (.ireturn, 1) := dk_172 (dk_at dksX0_setPadding_0 22 rfl rfl)
abbrev cX0_setFactors : ByteArray := method_8_code
def yX0_setFactors : MethodName := ⟨RX0, "setFactors", "(LColumnarPress;III[J)I"⟩
def dkwX0_setFactors_1 : List UInt8 := [172]
abbrev dktX0_setFactors_1 : List UInt8 := dkwX0_setFactors_1 ++ []
def dkwX0_setFactors_0 : List UInt8 := [25, 4, 3, 42, 27, 28, 29, 182, 0, 36, 133, 80, 167, 0, 11, 58, 5, 4, 172, 58, 5, 5, 172, 3]
abbrev dktX0_setFactors_0 : List UInt8 := dkwX0_setFactors_0 ++ dktX0_setFactors_1
theorem dksX0_setFactors_0 : cX0_setFactors.data.toList.drop 0 = dktX0_setFactors_0 := by decide +kernel
theorem dksX0_setFactors_1 : cX0_setFactors.data.toList.drop 24 = dktX0_setFactors_1 := dk_seg dksX0_setFactors_0 24 rfl rfl
theorem dX0_setFactors_0 : decode cX0_setFactors 0 = .ok (.aload 4, 2) := dk_25 4 (dk_at dksX0_setFactors_0 0 rfl rfl)
theorem dX0_setFactors_2 : decode cX0_setFactors 2 = .ok (.iconst 0, 1) := dk_3 (dk_at dksX0_setFactors_0 2 rfl rfl)
theorem dX0_setFactors_3 : decode cX0_setFactors 3 = .ok (.aload_n 0, 1) := dk_42 (dk_at dksX0_setFactors_0 3 rfl rfl)
theorem dX0_setFactors_4 : decode cX0_setFactors 4 = .ok (.iload_n 1, 1) := dk_27 (dk_at dksX0_setFactors_0 4 rfl rfl)
theorem dX0_setFactors_5 : decode cX0_setFactors 5 = .ok (.iload_n 2, 1) := dk_28 (dk_at dksX0_setFactors_0 5 rfl rfl)
theorem dX0_setFactors_6 : decode cX0_setFactors 6 = .ok (.iload_n 3, 1) := dk_29 (dk_at dksX0_setFactors_0 6 rfl rfl)
theorem dX0_setFactors_7 : decode cX0_setFactors 7 = .ok (.invokevirtual 36, 3) := dk_182 0 36 (dk_at dksX0_setFactors_0 7 rfl rfl)
theorem dX0_setFactors_10 : decode cX0_setFactors 10 = .ok (.i2l, 1) := dk_133 (dk_at dksX0_setFactors_0 10 rfl rfl)
theorem dX0_setFactors_11 : decode cX0_setFactors 11 = .ok (.lastore, 1) := dk_80 (dk_at dksX0_setFactors_0 11 rfl rfl)
theorem dX0_setFactors_12 : decode cX0_setFactors 12 = .ok (.goto 11, 3) := dk_167 0 11 (dk_at dksX0_setFactors_0 12 rfl rfl)
theorem dX0_setFactors_15 : decode cX0_setFactors 15 = .ok (.astore 5, 2) := dk_58 5 (dk_at dksX0_setFactors_0 15 rfl rfl)
theorem dX0_setFactors_17 : decode cX0_setFactors 17 = .ok (.iconst 1, 1) := dk_4 (dk_at dksX0_setFactors_0 17 rfl rfl)
theorem dX0_setFactors_18 : decode cX0_setFactors 18 = .ok (.ireturn, 1) := dk_172 (dk_at dksX0_setFactors_0 18 rfl rfl)
theorem dX0_setFactors_19 : decode cX0_setFactors 19 = .ok (.astore 5, 2) := dk_58 5 (dk_at dksX0_setFactors_0 19 rfl rfl)
theorem dX0_setFactors_21 : decode cX0_setFactors 21 = .ok (.iconst 2, 1) := dk_5 (dk_at dksX0_setFactors_0 21 rfl rfl)
theorem dX0_setFactors_22 : decode cX0_setFactors 22 = .ok (.ireturn, 1) := dk_172 (dk_at dksX0_setFactors_0 22 rfl rfl)
theorem dX0_setFactors_23 : decode cX0_setFactors 23 = .ok (.iconst 0, 1) := dk_3 (dk_at dksX0_setFactors_0 23 rfl rfl)
theorem dX0_setFactors_24 : decode cX0_setFactors 24 = .ok (.ireturn, 1) := dk_172 (dk_at dksX0_setFactors_1 0 rfl rfl)
abbrev cX0_setColumns : ByteArray := method_9_code
def yX0_setColumns : MethodName := ⟨RX0, "setColumns", "(LColumnarPress;II[J)I"⟩
def dkwX0_setColumns_0 : List UInt8 := [45, 3, 42, 27, 28, 182, 0, 39, 133, 80, 167, 0, 11, 58, 4, 4, 172, 58, 4, 5, 172, 3, 172]
abbrev dktX0_setColumns_0 : List UInt8 := dkwX0_setColumns_0 ++ []
theorem dksX0_setColumns_0 : cX0_setColumns.data.toList.drop 0 = dktX0_setColumns_0 := by decide +kernel
theorem dX0_setColumns_0 : decode cX0_setColumns 0 = .ok (.aload_n 3, 1) := dk_45 (dk_at dksX0_setColumns_0 0 rfl rfl)
theorem dX0_setColumns_1 : decode cX0_setColumns 1 = .ok (.iconst 0, 1) := dk_3 (dk_at dksX0_setColumns_0 1 rfl rfl)
theorem dX0_setColumns_2 : decode cX0_setColumns 2 = .ok (.aload_n 0, 1) := dk_42 (dk_at dksX0_setColumns_0 2 rfl rfl)
theorem dX0_setColumns_3 : decode cX0_setColumns 3 = .ok (.iload_n 1, 1) := dk_27 (dk_at dksX0_setColumns_0 3 rfl rfl)
theorem dX0_setColumns_4 : decode cX0_setColumns 4 = .ok (.iload_n 2, 1) := dk_28 (dk_at dksX0_setColumns_0 4 rfl rfl)
theorem dX0_setColumns_5 : decode cX0_setColumns 5 = .ok (.invokevirtual 39, 3) := dk_182 0 39 (dk_at dksX0_setColumns_0 5 rfl rfl)
theorem dX0_setColumns_8 : decode cX0_setColumns 8 = .ok (.i2l, 1) := dk_133 (dk_at dksX0_setColumns_0 8 rfl rfl)
theorem dX0_setColumns_9 : decode cX0_setColumns 9 = .ok (.lastore, 1) := dk_80 (dk_at dksX0_setColumns_0 9 rfl rfl)
theorem dX0_setColumns_10 : decode cX0_setColumns 10 = .ok (.goto 11, 3) := dk_167 0 11 (dk_at dksX0_setColumns_0 10 rfl rfl)
theorem dX0_setColumns_13 : decode cX0_setColumns 13 = .ok (.astore 4, 2) := dk_58 4 (dk_at dksX0_setColumns_0 13 rfl rfl)
theorem dX0_setColumns_15 : decode cX0_setColumns 15 = .ok (.iconst 1, 1) := dk_4 (dk_at dksX0_setColumns_0 15 rfl rfl)
theorem dX0_setColumns_16 : decode cX0_setColumns 16 = .ok (.ireturn, 1) := dk_172 (dk_at dksX0_setColumns_0 16 rfl rfl)
theorem dX0_setColumns_17 : decode cX0_setColumns 17 = .ok (.astore 4, 2) := dk_58 4 (dk_at dksX0_setColumns_0 17 rfl rfl)
theorem dX0_setColumns_19 : decode cX0_setColumns 19 = .ok (.iconst 2, 1) := dk_5 (dk_at dksX0_setColumns_0 19 rfl rfl)
theorem dX0_setColumns_20 : decode cX0_setColumns 20 = .ok (.ireturn, 1) := dk_172 (dk_at dksX0_setColumns_0 20 rfl rfl)
theorem dX0_setColumns_21 : decode cX0_setColumns 21 = .ok (.iconst 0, 1) := dk_3 (dk_at dksX0_setColumns_0 21 rfl rfl)
theorem dX0_setColumns_22 : decode cX0_setColumns 22 = .ok (.ireturn, 1) := dk_172 (dk_at dksX0_setColumns_0 22 rfl rfl)
abbrev cX0_setFloat : ByteArray := method_10_code
def yX0_setFloat : MethodName := ⟨RX0, "setFloat", "(LColumnarPress;IC[J)I"⟩
def dkwX0_setFloat_0 : List UInt8 := [45, 3, 42, 27, 28, 182, 0, 42, 133, 80, 167, 0, 11, 58, 4, 4, 172, 58, 4, 5, 172, 3, 172]
abbrev dktX0_setFloat_0 : List UInt8 := dkwX0_setFloat_0 ++ []
theorem dksX0_setFloat_0 : cX0_setFloat.data.toList.drop 0 = dktX0_setFloat_0 := by decide +kernel
theorem dX0_setFloat_0 : decode cX0_setFloat 0 = .ok (.aload_n 3, 1) := dk_45 (dk_at dksX0_setFloat_0 0 rfl rfl)
theorem dX0_setFloat_1 : decode cX0_setFloat 1 = .ok (.iconst 0, 1) := dk_3 (dk_at dksX0_setFloat_0 1 rfl rfl)
theorem dX0_setFloat_2 : decode cX0_setFloat 2 = .ok (.aload_n 0, 1) := dk_42 (dk_at dksX0_setFloat_0 2 rfl rfl)
theorem dX0_setFloat_3 : decode cX0_setFloat 3 = .ok (.iload_n 1, 1) := dk_27 (dk_at dksX0_setFloat_0 3 rfl rfl)
theorem dX0_setFloat_4 : decode cX0_setFloat 4 = .ok (.iload_n 2, 1) := dk_28 (dk_at dksX0_setFloat_0 4 rfl rfl)
theorem dX0_setFloat_5 : decode cX0_setFloat 5 = .ok (.invokevirtual 42, 3) := dk_182 0 42 (dk_at dksX0_setFloat_0 5 rfl rfl)
theorem dX0_setFloat_8 : decode cX0_setFloat 8 = .ok (.i2l, 1) := dk_133 (dk_at dksX0_setFloat_0 8 rfl rfl)
theorem dX0_setFloat_9 : decode cX0_setFloat 9 = .ok (.lastore, 1) := dk_80 (dk_at dksX0_setFloat_0 9 rfl rfl)
theorem dX0_setFloat_10 : decode cX0_setFloat 10 = .ok (.goto 11, 3) := dk_167 0 11 (dk_at dksX0_setFloat_0 10 rfl rfl)
theorem dX0_setFloat_13 : decode cX0_setFloat 13 = .ok (.astore 4, 2) := dk_58 4 (dk_at dksX0_setFloat_0 13 rfl rfl)
theorem dX0_setFloat_15 : decode cX0_setFloat 15 = .ok (.iconst 1, 1) := dk_4 (dk_at dksX0_setFloat_0 15 rfl rfl)
theorem dX0_setFloat_16 : decode cX0_setFloat 16 = .ok (.ireturn, 1) := dk_172 (dk_at dksX0_setFloat_0 16 rfl rfl)
theorem dX0_setFloat_17 : decode cX0_setFloat 17 = .ok (.astore 4, 2) := dk_58 4 (dk_at dksX0_setFloat_0 17 rfl rfl)
theorem dX0_setFloat_19 : decode cX0_setFloat 19 = .ok (.iconst 2, 1) := dk_5 (dk_at dksX0_setFloat_0 19 rfl rfl)
theorem dX0_setFloat_20 : decode cX0_setFloat 20 = .ok (.ireturn, 1) := dk_172 (dk_at dksX0_setFloat_0 20 rfl rfl)
theorem dX0_setFloat_21 : decode cX0_setFloat 21 = .ok (.iconst 0, 1) := dk_3 (dk_at dksX0_setFloat_0 21 rfl rfl)
theorem dX0_setFloat_22 : decode cX0_setFloat 22 = .ok (.ireturn, 1) := dk_172 (dk_at dksX0_setFloat_0 22 rfl rfl)
abbrev cX0_setPlace : ByteArray := method_11_code
def yX0_setPlace : MethodName := ⟨RX0, "setPlace", "(LColumnarPress;ICII[J)I"⟩
def dkwX0_setPlace_1 : List UInt8 := [172, 3, 172]
abbrev dktX0_setPlace_1 : List UInt8 := dkwX0_setPlace_1 ++ []
def dkwX0_setPlace_0 : List UInt8 := [25, 5, 3, 42, 27, 28, 29, 21, 4, 182, 0, 46, 133, 80, 167, 0, 11, 58, 6, 4, 172, 58, 6, 5]
abbrev dktX0_setPlace_0 : List UInt8 := dkwX0_setPlace_0 ++ dktX0_setPlace_1
theorem dksX0_setPlace_0 : cX0_setPlace.data.toList.drop 0 = dktX0_setPlace_0 := by decide +kernel
theorem dksX0_setPlace_1 : cX0_setPlace.data.toList.drop 24 = dktX0_setPlace_1 := dk_seg dksX0_setPlace_0 24 rfl rfl
theorem dX0_setPlace_0 : decode cX0_setPlace 0 = .ok (.aload 5, 2) := dk_25 5 (dk_at dksX0_setPlace_0 0 rfl rfl)
theorem dX0_setPlace_2 : decode cX0_setPlace 2 = .ok (.iconst 0, 1) := dk_3 (dk_at dksX0_setPlace_0 2 rfl rfl)
theorem dX0_setPlace_3 : decode cX0_setPlace 3 = .ok (.aload_n 0, 1) := dk_42 (dk_at dksX0_setPlace_0 3 rfl rfl)
theorem dX0_setPlace_4 : decode cX0_setPlace 4 = .ok (.iload_n 1, 1) := dk_27 (dk_at dksX0_setPlace_0 4 rfl rfl)
theorem dX0_setPlace_5 : decode cX0_setPlace 5 = .ok (.iload_n 2, 1) := dk_28 (dk_at dksX0_setPlace_0 5 rfl rfl)
theorem dX0_setPlace_6 : decode cX0_setPlace 6 = .ok (.iload_n 3, 1) := dk_29 (dk_at dksX0_setPlace_0 6 rfl rfl)
theorem dX0_setPlace_7 : decode cX0_setPlace 7 = .ok (.iload 4, 2) := dk_21 4 (dk_at dksX0_setPlace_0 7 rfl rfl)
theorem dX0_setPlace_9 : decode cX0_setPlace 9 = .ok (.invokevirtual 46, 3) := dk_182 0 46 (dk_at dksX0_setPlace_0 9 rfl rfl)
theorem dX0_setPlace_12 : decode cX0_setPlace 12 = .ok (.i2l, 1) := dk_133 (dk_at dksX0_setPlace_0 12 rfl rfl)
theorem dX0_setPlace_13 : decode cX0_setPlace 13 = .ok (.lastore, 1) := dk_80 (dk_at dksX0_setPlace_0 13 rfl rfl)
theorem dX0_setPlace_14 : decode cX0_setPlace 14 = .ok (.goto 11, 3) := dk_167 0 11 (dk_at dksX0_setPlace_0 14 rfl rfl)
theorem dX0_setPlace_17 : decode cX0_setPlace 17 = .ok (.astore 6, 2) := dk_58 6 (dk_at dksX0_setPlace_0 17 rfl rfl)
theorem dX0_setPlace_19 : decode cX0_setPlace 19 = .ok (.iconst 1, 1) := dk_4 (dk_at dksX0_setPlace_0 19 rfl rfl)
theorem dX0_setPlace_20 : decode cX0_setPlace 20 = .ok (.ireturn, 1) := dk_172 (dk_at dksX0_setPlace_0 20 rfl rfl)
theorem dX0_setPlace_21 : decode cX0_setPlace 21 = .ok (.astore 6, 2) := dk_58 6 (dk_at dksX0_setPlace_0 21 rfl rfl)
theorem dX0_setPlace_23 : decode cX0_setPlace 23 = .ok (.iconst 2, 1) := dk_5 (dk_at dksX0_setPlace_0 23 rfl rfl)
theorem dX0_setPlace_24 : decode cX0_setPlace 24 = .ok (.ireturn, 1) := dk_172 (dk_at dksX0_setPlace_1 0 rfl rfl)
theorem dX0_setPlace_25 : decode cX0_setPlace 25 = .ok (.iconst 0, 1) := dk_3 (dk_at dksX0_setPlace_1 1 rfl rfl)
theorem dX0_setPlace_26 : decode cX0_setPlace 26 = .ok (.ireturn, 1) := dk_172 (dk_at dksX0_setPlace_1 2 rfl rfl)
abbrev cX0_setDepth : ByteArray := method_12_code
def yX0_setDepth : MethodName := ⟨RX0, "setDepth", "(LColumnarPress;II[J)I"⟩
def dkwX0_setDepth_0 : List UInt8 := [45, 3, 42, 27, 28, 182, 0, 50, 133, 80, 167, 0, 11, 58, 4, 4, 172, 58, 4, 5, 172, 3, 172]
abbrev dktX0_setDepth_0 : List UInt8 := dkwX0_setDepth_0 ++ []
theorem dksX0_setDepth_0 : cX0_setDepth.data.toList.drop 0 = dktX0_setDepth_0 := by decide +kernel
theorem dX0_setDepth_0 : decode cX0_setDepth 0 = .ok (.aload_n 3, 1) := dk_45 (dk_at dksX0_setDepth_0 0 rfl rfl)
theorem dX0_setDepth_1 : decode cX0_setDepth 1 = .ok (.iconst 0, 1) := dk_3 (dk_at dksX0_setDepth_0 1 rfl rfl)
theorem dX0_setDepth_2 : decode cX0_setDepth 2 = .ok (.aload_n 0, 1) := dk_42 (dk_at dksX0_setDepth_0 2 rfl rfl)
theorem dX0_setDepth_3 : decode cX0_setDepth 3 = .ok (.iload_n 1, 1) := dk_27 (dk_at dksX0_setDepth_0 3 rfl rfl)
theorem dX0_setDepth_4 : decode cX0_setDepth 4 = .ok (.iload_n 2, 1) := dk_28 (dk_at dksX0_setDepth_0 4 rfl rfl)
theorem dX0_setDepth_5 : decode cX0_setDepth 5 = .ok (.invokevirtual 50, 3) := dk_182 0 50 (dk_at dksX0_setDepth_0 5 rfl rfl)
theorem dX0_setDepth_8 : decode cX0_setDepth 8 = .ok (.i2l, 1) := dk_133 (dk_at dksX0_setDepth_0 8 rfl rfl)
theorem dX0_setDepth_9 : decode cX0_setDepth 9 = .ok (.lastore, 1) := dk_80 (dk_at dksX0_setDepth_0 9 rfl rfl)
theorem dX0_setDepth_10 : decode cX0_setDepth 10 = .ok (.goto 11, 3) := dk_167 0 11 (dk_at dksX0_setDepth_0 10 rfl rfl)
theorem dX0_setDepth_13 : decode cX0_setDepth 13 = .ok (.astore 4, 2) := dk_58 4 (dk_at dksX0_setDepth_0 13 rfl rfl)
theorem dX0_setDepth_15 : decode cX0_setDepth 15 = .ok (.iconst 1, 1) := dk_4 (dk_at dksX0_setDepth_0 15 rfl rfl)
theorem dX0_setDepth_16 : decode cX0_setDepth 16 = .ok (.ireturn, 1) := dk_172 (dk_at dksX0_setDepth_0 16 rfl rfl)
theorem dX0_setDepth_17 : decode cX0_setDepth 17 = .ok (.astore 4, 2) := dk_58 4 (dk_at dksX0_setDepth_0 17 rfl rfl)
theorem dX0_setDepth_19 : decode cX0_setDepth 19 = .ok (.iconst 2, 1) := dk_5 (dk_at dksX0_setDepth_0 19 rfl rfl)
theorem dX0_setDepth_20 : decode cX0_setDepth 20 = .ok (.ireturn, 1) := dk_172 (dk_at dksX0_setDepth_0 20 rfl rfl)
theorem dX0_setDepth_21 : decode cX0_setDepth 21 = .ok (.iconst 0, 1) := dk_3 (dk_at dksX0_setDepth_0 21 rfl rfl)
theorem dX0_setDepth_22 : decode cX0_setDepth 22 = .ok (.ireturn, 1) := dk_172 (dk_at dksX0_setDepth_0 22 rfl rfl)
abbrev cX0_setClear : ByteArray := method_13_code
def yX0_setClear : MethodName := ⟨RX0, "setClear", "(LColumnarPress;IZ[J)I"⟩
def dkwX0_setClear_1 : List UInt8 := [3, 172]
abbrev dktX0_setClear_1 : List UInt8 := dkwX0_setClear_1 ++ []
def dkwX0_setClear_0 : List UInt8 := [45, 3, 42, 27, 28, 182, 0, 53, 153, 0, 7, 10, 167, 0, 4, 9, 80, 167, 0, 7, 58, 4, 4, 172]
abbrev dktX0_setClear_0 : List UInt8 := dkwX0_setClear_0 ++ dktX0_setClear_1
theorem dksX0_setClear_0 : cX0_setClear.data.toList.drop 0 = dktX0_setClear_0 := by decide +kernel
theorem dksX0_setClear_1 : cX0_setClear.data.toList.drop 24 = dktX0_setClear_1 := dk_seg dksX0_setClear_0 24 rfl rfl
theorem dX0_setClear_0 : decode cX0_setClear 0 = .ok (.aload_n 3, 1) := dk_45 (dk_at dksX0_setClear_0 0 rfl rfl)
theorem dX0_setClear_1 : decode cX0_setClear 1 = .ok (.iconst 0, 1) := dk_3 (dk_at dksX0_setClear_0 1 rfl rfl)
theorem dX0_setClear_2 : decode cX0_setClear 2 = .ok (.aload_n 0, 1) := dk_42 (dk_at dksX0_setClear_0 2 rfl rfl)
theorem dX0_setClear_3 : decode cX0_setClear 3 = .ok (.iload_n 1, 1) := dk_27 (dk_at dksX0_setClear_0 3 rfl rfl)
theorem dX0_setClear_4 : decode cX0_setClear 4 = .ok (.iload_n 2, 1) := dk_28 (dk_at dksX0_setClear_0 4 rfl rfl)
theorem dX0_setClear_5 : decode cX0_setClear 5 = .ok (.invokevirtual 53, 3) := dk_182 0 53 (dk_at dksX0_setClear_0 5 rfl rfl)
theorem dX0_setClear_8 : decode cX0_setClear 8 = .ok (.ifCond .eq 7, 3) := dk_153 0 7 (dk_at dksX0_setClear_0 8 rfl rfl)
theorem dX0_setClear_11 : decode cX0_setClear 11 = .ok (.lconst 1, 1) := dk_10 (dk_at dksX0_setClear_0 11 rfl rfl)
theorem dX0_setClear_12 : decode cX0_setClear 12 = .ok (.goto 4, 3) := dk_167 0 4 (dk_at dksX0_setClear_0 12 rfl rfl)
theorem dX0_setClear_15 : decode cX0_setClear 15 = .ok (.lconst 0, 1) := dk_9 (dk_at dksX0_setClear_0 15 rfl rfl)
theorem dX0_setClear_16 : decode cX0_setClear 16 = .ok (.lastore, 1) := dk_80 (dk_at dksX0_setClear_0 16 rfl rfl)
theorem dX0_setClear_17 : decode cX0_setClear 17 = .ok (.goto 7, 3) := dk_167 0 7 (dk_at dksX0_setClear_0 17 rfl rfl)
theorem dX0_setClear_20 : decode cX0_setClear 20 = .ok (.astore 4, 2) := dk_58 4 (dk_at dksX0_setClear_0 20 rfl rfl)
theorem dX0_setClear_22 : decode cX0_setClear 22 = .ok (.iconst 1, 1) := dk_4 (dk_at dksX0_setClear_0 22 rfl rfl)
theorem dX0_setClear_23 : decode cX0_setClear 23 = .ok (.ireturn, 1) := dk_172 (dk_at dksX0_setClear_0 23 rfl rfl)
theorem dX0_setClear_24 : decode cX0_setClear 24 = .ok (.iconst 0, 1) := dk_3 (dk_at dksX0_setClear_1 0 rfl rfl)
theorem dX0_setClear_25 : decode cX0_setClear 25 = .ok (.ireturn, 1) := dk_172 (dk_at dksX0_setClear_1 1 rfl rfl)
abbrev cX0_setBreak : ByteArray := method_14_code
def yX0_setBreak : MethodName := ⟨RX0, "setBreak", "(LColumnarPress;IC[J)I"⟩
def dkwX0_setBreak_0 : List UInt8 := [45, 3, 42, 27, 28, 182, 0, 57, 133, 80, 167, 0, 11, 58, 4, 4, 172, 58, 4, 5, 172, 3, 172]
abbrev dktX0_setBreak_0 : List UInt8 := dkwX0_setBreak_0 ++ []
theorem dksX0_setBreak_0 : cX0_setBreak.data.toList.drop 0 = dktX0_setBreak_0 := by decide +kernel
theorem dX0_setBreak_0 : decode cX0_setBreak 0 = .ok (.aload_n 3, 1) := dk_45 (dk_at dksX0_setBreak_0 0 rfl rfl)
theorem dX0_setBreak_1 : decode cX0_setBreak 1 = .ok (.iconst 0, 1) := dk_3 (dk_at dksX0_setBreak_0 1 rfl rfl)
theorem dX0_setBreak_2 : decode cX0_setBreak 2 = .ok (.aload_n 0, 1) := dk_42 (dk_at dksX0_setBreak_0 2 rfl rfl)
theorem dX0_setBreak_3 : decode cX0_setBreak 3 = .ok (.iload_n 1, 1) := dk_27 (dk_at dksX0_setBreak_0 3 rfl rfl)
theorem dX0_setBreak_4 : decode cX0_setBreak 4 = .ok (.iload_n 2, 1) := dk_28 (dk_at dksX0_setBreak_0 4 rfl rfl)
theorem dX0_setBreak_5 : decode cX0_setBreak 5 = .ok (.invokevirtual 57, 3) := dk_182 0 57 (dk_at dksX0_setBreak_0 5 rfl rfl)
theorem dX0_setBreak_8 : decode cX0_setBreak 8 = .ok (.i2l, 1) := dk_133 (dk_at dksX0_setBreak_0 8 rfl rfl)
theorem dX0_setBreak_9 : decode cX0_setBreak 9 = .ok (.lastore, 1) := dk_80 (dk_at dksX0_setBreak_0 9 rfl rfl)
theorem dX0_setBreak_10 : decode cX0_setBreak 10 = .ok (.goto 11, 3) := dk_167 0 11 (dk_at dksX0_setBreak_0 10 rfl rfl)
theorem dX0_setBreak_13 : decode cX0_setBreak 13 = .ok (.astore 4, 2) := dk_58 4 (dk_at dksX0_setBreak_0 13 rfl rfl)
theorem dX0_setBreak_15 : decode cX0_setBreak 15 = .ok (.iconst 1, 1) := dk_4 (dk_at dksX0_setBreak_0 15 rfl rfl)
theorem dX0_setBreak_16 : decode cX0_setBreak 16 = .ok (.ireturn, 1) := dk_172 (dk_at dksX0_setBreak_0 16 rfl rfl)
theorem dX0_setBreak_17 : decode cX0_setBreak 17 = .ok (.astore 4, 2) := dk_58 4 (dk_at dksX0_setBreak_0 17 rfl rfl)
theorem dX0_setBreak_19 : decode cX0_setBreak 19 = .ok (.iconst 2, 1) := dk_5 (dk_at dksX0_setBreak_0 19 rfl rfl)
theorem dX0_setBreak_20 : decode cX0_setBreak 20 = .ok (.ireturn, 1) := dk_172 (dk_at dksX0_setBreak_0 20 rfl rfl)
theorem dX0_setBreak_21 : decode cX0_setBreak 21 = .ok (.iconst 0, 1) := dk_3 (dk_at dksX0_setBreak_0 21 rfl rfl)
theorem dX0_setBreak_22 : decode cX0_setBreak 22 = .ok (.ireturn, 1) := dk_172 (dk_at dksX0_setBreak_0 22 rfl rfl)
abbrev cX0_setAlignment : ByteArray := method_15_code
def yX0_setAlignment : MethodName := ⟨RX0, "setAlignment", "(LColumnarPress;IC[J)I"⟩
def dkwX0_setAlignment_0 : List UInt8 := [45, 3, 42, 27, 28, 182, 0, 60, 133, 80, 167, 0, 11, 58, 4, 4, 172, 58, 4, 5, 172, 3, 172]
abbrev dktX0_setAlignment_0 : List UInt8 := dkwX0_setAlignment_0 ++ []
theorem dksX0_setAlignment_0 : cX0_setAlignment.data.toList.drop 0 = dktX0_setAlignment_0 := by decide +kernel
theorem dX0_setAlignment_0 : decode cX0_setAlignment 0 = .ok (.aload_n 3, 1) := dk_45 (dk_at dksX0_setAlignment_0 0 rfl rfl)
theorem dX0_setAlignment_1 : decode cX0_setAlignment 1 = .ok (.iconst 0, 1) := dk_3 (dk_at dksX0_setAlignment_0 1 rfl rfl)
theorem dX0_setAlignment_2 : decode cX0_setAlignment 2 = .ok (.aload_n 0, 1) := dk_42 (dk_at dksX0_setAlignment_0 2 rfl rfl)
theorem dX0_setAlignment_3 : decode cX0_setAlignment 3 = .ok (.iload_n 1, 1) := dk_27 (dk_at dksX0_setAlignment_0 3 rfl rfl)
theorem dX0_setAlignment_4 : decode cX0_setAlignment 4 = .ok (.iload_n 2, 1) := dk_28 (dk_at dksX0_setAlignment_0 4 rfl rfl)
theorem dX0_setAlignment_5 : decode cX0_setAlignment 5 = .ok (.invokevirtual 60, 3) := dk_182 0 60 (dk_at dksX0_setAlignment_0 5 rfl rfl)
theorem dX0_setAlignment_8 : decode cX0_setAlignment 8 = .ok (.i2l, 1) := dk_133 (dk_at dksX0_setAlignment_0 8 rfl rfl)
theorem dX0_setAlignment_9 : decode cX0_setAlignment 9 = .ok (.lastore, 1) := dk_80 (dk_at dksX0_setAlignment_0 9 rfl rfl)
theorem dX0_setAlignment_10 : decode cX0_setAlignment 10 = .ok (.goto 11, 3) := dk_167 0 11 (dk_at dksX0_setAlignment_0 10 rfl rfl)
theorem dX0_setAlignment_13 : decode cX0_setAlignment 13 = .ok (.astore 4, 2) := dk_58 4 (dk_at dksX0_setAlignment_0 13 rfl rfl)
theorem dX0_setAlignment_15 : decode cX0_setAlignment 15 = .ok (.iconst 1, 1) := dk_4 (dk_at dksX0_setAlignment_0 15 rfl rfl)
theorem dX0_setAlignment_16 : decode cX0_setAlignment 16 = .ok (.ireturn, 1) := dk_172 (dk_at dksX0_setAlignment_0 16 rfl rfl)
theorem dX0_setAlignment_17 : decode cX0_setAlignment 17 = .ok (.astore 4, 2) := dk_58 4 (dk_at dksX0_setAlignment_0 17 rfl rfl)
theorem dX0_setAlignment_19 : decode cX0_setAlignment 19 = .ok (.iconst 2, 1) := dk_5 (dk_at dksX0_setAlignment_0 19 rfl rfl)
theorem dX0_setAlignment_20 : decode cX0_setAlignment 20 = .ok (.ireturn, 1) := dk_172 (dk_at dksX0_setAlignment_0 20 rfl rfl)
theorem dX0_setAlignment_21 : decode cX0_setAlignment 21 = .ok (.iconst 0, 1) := dk_3 (dk_at dksX0_setAlignment_0 21 rfl rfl)
theorem dX0_setAlignment_22 : decode cX0_setAlignment 22 = .ok (.ireturn, 1) := dk_172 (dk_at dksX0_setAlignment_0 22 rfl rfl)
abbrev cX0_layOut : ByteArray := method_16_code
def yX0_layOut : MethodName := ⟨RX0, "layOut", "(LColumnarPress;I[J)I"⟩
def dkwX0_layOut_0 : List UInt8 := [44, 3, 42, 27, 182, 0, 63, 133, 80, 167, 0, 6, 78, 4, 172, 3, 172]
abbrev dktX0_layOut_0 : List UInt8 := dkwX0_layOut_0 ++ []
theorem dksX0_layOut_0 : cX0_layOut.data.toList.drop 0 = dktX0_layOut_0 := by decide +kernel
theorem dX0_layOut_0 : decode cX0_layOut 0 = .ok (.aload_n 2, 1) := dk_44 (dk_at dksX0_layOut_0 0 rfl rfl)
theorem dX0_layOut_1 : decode cX0_layOut 1 = .ok (.iconst 0, 1) := dk_3 (dk_at dksX0_layOut_0 1 rfl rfl)
theorem dX0_layOut_2 : decode cX0_layOut 2 = .ok (.aload_n 0, 1) := dk_42 (dk_at dksX0_layOut_0 2 rfl rfl)
theorem dX0_layOut_3 : decode cX0_layOut 3 = .ok (.iload_n 1, 1) := dk_27 (dk_at dksX0_layOut_0 3 rfl rfl)
theorem dX0_layOut_4 : decode cX0_layOut 4 = .ok (.invokevirtual 63, 3) := dk_182 0 63 (dk_at dksX0_layOut_0 4 rfl rfl)
theorem dX0_layOut_7 : decode cX0_layOut 7 = .ok (.i2l, 1) := dk_133 (dk_at dksX0_layOut_0 7 rfl rfl)
theorem dX0_layOut_8 : decode cX0_layOut 8 = .ok (.lastore, 1) := dk_80 (dk_at dksX0_layOut_0 8 rfl rfl)
theorem dX0_layOut_9 : decode cX0_layOut 9 = .ok (.goto 6, 3) := dk_167 0 6 (dk_at dksX0_layOut_0 9 rfl rfl)
theorem dX0_layOut_12 : decode cX0_layOut 12 = .ok (.astore_n 3, 1) := dk_78 (dk_at dksX0_layOut_0 12 rfl rfl)
theorem dX0_layOut_13 : decode cX0_layOut 13 = .ok (.iconst 1, 1) := dk_4 (dk_at dksX0_layOut_0 13 rfl rfl)
theorem dX0_layOut_14 : decode cX0_layOut 14 = .ok (.ireturn, 1) := dk_172 (dk_at dksX0_layOut_0 14 rfl rfl)
theorem dX0_layOut_15 : decode cX0_layOut 15 = .ok (.iconst 0, 1) := dk_3 (dk_at dksX0_layOut_0 15 rfl rfl)
theorem dX0_layOut_16 : decode cX0_layOut 16 = .ok (.ireturn, 1) := dk_172 (dk_at dksX0_layOut_0 16 rfl rfl)
abbrev cX0_xOf : ByteArray := method_17_code
def yX0_xOf : MethodName := ⟨RX0, "xOf", "(LColumnarPress;I[J)I"⟩
def dkwX0_xOf_0 : List UInt8 := [44, 3, 42, 27, 182, 0, 67, 133, 80, 167, 0, 9, 78, 4, 172, 78, 5, 172, 3, 172]
abbrev dktX0_xOf_0 : List UInt8 := dkwX0_xOf_0 ++ []
theorem dksX0_xOf_0 : cX0_xOf.data.toList.drop 0 = dktX0_xOf_0 := by decide +kernel
theorem dX0_xOf_0 : decode cX0_xOf 0 = .ok (.aload_n 2, 1) := dk_44 (dk_at dksX0_xOf_0 0 rfl rfl)
theorem dX0_xOf_1 : decode cX0_xOf 1 = .ok (.iconst 0, 1) := dk_3 (dk_at dksX0_xOf_0 1 rfl rfl)
theorem dX0_xOf_2 : decode cX0_xOf 2 = .ok (.aload_n 0, 1) := dk_42 (dk_at dksX0_xOf_0 2 rfl rfl)
theorem dX0_xOf_3 : decode cX0_xOf 3 = .ok (.iload_n 1, 1) := dk_27 (dk_at dksX0_xOf_0 3 rfl rfl)
theorem dX0_xOf_4 : decode cX0_xOf 4 = .ok (.invokevirtual 67, 3) := dk_182 0 67 (dk_at dksX0_xOf_0 4 rfl rfl)
theorem dX0_xOf_7 : decode cX0_xOf 7 = .ok (.i2l, 1) := dk_133 (dk_at dksX0_xOf_0 7 rfl rfl)
theorem dX0_xOf_8 : decode cX0_xOf 8 = .ok (.lastore, 1) := dk_80 (dk_at dksX0_xOf_0 8 rfl rfl)
theorem dX0_xOf_9 : decode cX0_xOf 9 = .ok (.goto 9, 3) := dk_167 0 9 (dk_at dksX0_xOf_0 9 rfl rfl)
theorem dX0_xOf_12 : decode cX0_xOf 12 = .ok (.astore_n 3, 1) := dk_78 (dk_at dksX0_xOf_0 12 rfl rfl)
theorem dX0_xOf_13 : decode cX0_xOf 13 = .ok (.iconst 1, 1) := dk_4 (dk_at dksX0_xOf_0 13 rfl rfl)
theorem dX0_xOf_14 : decode cX0_xOf 14 = .ok (.ireturn, 1) := dk_172 (dk_at dksX0_xOf_0 14 rfl rfl)
theorem dX0_xOf_15 : decode cX0_xOf 15 = .ok (.astore_n 3, 1) := dk_78 (dk_at dksX0_xOf_0 15 rfl rfl)
theorem dX0_xOf_16 : decode cX0_xOf 16 = .ok (.iconst 2, 1) := dk_5 (dk_at dksX0_xOf_0 16 rfl rfl)
theorem dX0_xOf_17 : decode cX0_xOf 17 = .ok (.ireturn, 1) := dk_172 (dk_at dksX0_xOf_0 17 rfl rfl)
theorem dX0_xOf_18 : decode cX0_xOf 18 = .ok (.iconst 0, 1) := dk_3 (dk_at dksX0_xOf_0 18 rfl rfl)
theorem dX0_xOf_19 : decode cX0_xOf 19 = .ok (.ireturn, 1) := dk_172 (dk_at dksX0_xOf_0 19 rfl rfl)
abbrev cX0_yOf : ByteArray := method_18_code
def yX0_yOf : MethodName := ⟨RX0, "yOf", "(LColumnarPress;I[J)I"⟩
def dkwX0_yOf_0 : List UInt8 := [44, 3, 42, 27, 182, 0, 70, 133, 80, 167, 0, 9, 78, 4, 172, 78, 5, 172, 3, 172]
abbrev dktX0_yOf_0 : List UInt8 := dkwX0_yOf_0 ++ []
theorem dksX0_yOf_0 : cX0_yOf.data.toList.drop 0 = dktX0_yOf_0 := by decide +kernel
theorem dX0_yOf_0 : decode cX0_yOf 0 = .ok (.aload_n 2, 1) := dk_44 (dk_at dksX0_yOf_0 0 rfl rfl)
theorem dX0_yOf_1 : decode cX0_yOf 1 = .ok (.iconst 0, 1) := dk_3 (dk_at dksX0_yOf_0 1 rfl rfl)
theorem dX0_yOf_2 : decode cX0_yOf 2 = .ok (.aload_n 0, 1) := dk_42 (dk_at dksX0_yOf_0 2 rfl rfl)
theorem dX0_yOf_3 : decode cX0_yOf 3 = .ok (.iload_n 1, 1) := dk_27 (dk_at dksX0_yOf_0 3 rfl rfl)
theorem dX0_yOf_4 : decode cX0_yOf 4 = .ok (.invokevirtual 70, 3) := dk_182 0 70 (dk_at dksX0_yOf_0 4 rfl rfl)
theorem dX0_yOf_7 : decode cX0_yOf 7 = .ok (.i2l, 1) := dk_133 (dk_at dksX0_yOf_0 7 rfl rfl)
theorem dX0_yOf_8 : decode cX0_yOf 8 = .ok (.lastore, 1) := dk_80 (dk_at dksX0_yOf_0 8 rfl rfl)
theorem dX0_yOf_9 : decode cX0_yOf 9 = .ok (.goto 9, 3) := dk_167 0 9 (dk_at dksX0_yOf_0 9 rfl rfl)
theorem dX0_yOf_12 : decode cX0_yOf 12 = .ok (.astore_n 3, 1) := dk_78 (dk_at dksX0_yOf_0 12 rfl rfl)
theorem dX0_yOf_13 : decode cX0_yOf 13 = .ok (.iconst 1, 1) := dk_4 (dk_at dksX0_yOf_0 13 rfl rfl)
theorem dX0_yOf_14 : decode cX0_yOf 14 = .ok (.ireturn, 1) := dk_172 (dk_at dksX0_yOf_0 14 rfl rfl)
theorem dX0_yOf_15 : decode cX0_yOf 15 = .ok (.astore_n 3, 1) := dk_78 (dk_at dksX0_yOf_0 15 rfl rfl)
theorem dX0_yOf_16 : decode cX0_yOf 16 = .ok (.iconst 2, 1) := dk_5 (dk_at dksX0_yOf_0 16 rfl rfl)
theorem dX0_yOf_17 : decode cX0_yOf 17 = .ok (.ireturn, 1) := dk_172 (dk_at dksX0_yOf_0 17 rfl rfl)
theorem dX0_yOf_18 : decode cX0_yOf 18 = .ok (.iconst 0, 1) := dk_3 (dk_at dksX0_yOf_0 18 rfl rfl)
theorem dX0_yOf_19 : decode cX0_yOf 19 = .ok (.ireturn, 1) := dk_172 (dk_at dksX0_yOf_0 19 rfl rfl)
abbrev cX0_widthOf : ByteArray := method_19_code
def yX0_widthOf : MethodName := ⟨RX0, "widthOf", "(LColumnarPress;I[J)I"⟩
def dkwX0_widthOf_0 : List UInt8 := [44, 3, 42, 27, 182, 0, 73, 133, 80, 167, 0, 9, 78, 4, 172, 78, 5, 172, 3, 172]
abbrev dktX0_widthOf_0 : List UInt8 := dkwX0_widthOf_0 ++ []
theorem dksX0_widthOf_0 : cX0_widthOf.data.toList.drop 0 = dktX0_widthOf_0 := by decide +kernel
theorem dX0_widthOf_0 : decode cX0_widthOf 0 = .ok (.aload_n 2, 1) := dk_44 (dk_at dksX0_widthOf_0 0 rfl rfl)
theorem dX0_widthOf_1 : decode cX0_widthOf 1 = .ok (.iconst 0, 1) := dk_3 (dk_at dksX0_widthOf_0 1 rfl rfl)
theorem dX0_widthOf_2 : decode cX0_widthOf 2 = .ok (.aload_n 0, 1) := dk_42 (dk_at dksX0_widthOf_0 2 rfl rfl)
theorem dX0_widthOf_3 : decode cX0_widthOf 3 = .ok (.iload_n 1, 1) := dk_27 (dk_at dksX0_widthOf_0 3 rfl rfl)
theorem dX0_widthOf_4 : decode cX0_widthOf 4 = .ok (.invokevirtual 73, 3) := dk_182 0 73 (dk_at dksX0_widthOf_0 4 rfl rfl)
theorem dX0_widthOf_7 : decode cX0_widthOf 7 = .ok (.i2l, 1) := dk_133 (dk_at dksX0_widthOf_0 7 rfl rfl)
theorem dX0_widthOf_8 : decode cX0_widthOf 8 = .ok (.lastore, 1) := dk_80 (dk_at dksX0_widthOf_0 8 rfl rfl)
theorem dX0_widthOf_9 : decode cX0_widthOf 9 = .ok (.goto 9, 3) := dk_167 0 9 (dk_at dksX0_widthOf_0 9 rfl rfl)
theorem dX0_widthOf_12 : decode cX0_widthOf 12 = .ok (.astore_n 3, 1) := dk_78 (dk_at dksX0_widthOf_0 12 rfl rfl)
theorem dX0_widthOf_13 : decode cX0_widthOf 13 = .ok (.iconst 1, 1) := dk_4 (dk_at dksX0_widthOf_0 13 rfl rfl)
theorem dX0_widthOf_14 : decode cX0_widthOf 14 = .ok (.ireturn, 1) := dk_172 (dk_at dksX0_widthOf_0 14 rfl rfl)
theorem dX0_widthOf_15 : decode cX0_widthOf 15 = .ok (.astore_n 3, 1) := dk_78 (dk_at dksX0_widthOf_0 15 rfl rfl)
theorem dX0_widthOf_16 : decode cX0_widthOf 16 = .ok (.iconst 2, 1) := dk_5 (dk_at dksX0_widthOf_0 16 rfl rfl)
theorem dX0_widthOf_17 : decode cX0_widthOf 17 = .ok (.ireturn, 1) := dk_172 (dk_at dksX0_widthOf_0 17 rfl rfl)
theorem dX0_widthOf_18 : decode cX0_widthOf 18 = .ok (.iconst 0, 1) := dk_3 (dk_at dksX0_widthOf_0 18 rfl rfl)
theorem dX0_widthOf_19 : decode cX0_widthOf 19 = .ok (.ireturn, 1) := dk_172 (dk_at dksX0_widthOf_0 19 rfl rfl)
abbrev cX0_heightOf : ByteArray := method_20_code
def yX0_heightOf : MethodName := ⟨RX0, "heightOf", "(LColumnarPress;I[J)I"⟩
def dkwX0_heightOf_0 : List UInt8 := [44, 3, 42, 27, 182, 0, 76, 133, 80, 167, 0, 9, 78, 4, 172, 78, 5, 172, 3, 172]
abbrev dktX0_heightOf_0 : List UInt8 := dkwX0_heightOf_0 ++ []
theorem dksX0_heightOf_0 : cX0_heightOf.data.toList.drop 0 = dktX0_heightOf_0 := by decide +kernel
theorem dX0_heightOf_0 : decode cX0_heightOf 0 = .ok (.aload_n 2, 1) := dk_44 (dk_at dksX0_heightOf_0 0 rfl rfl)
theorem dX0_heightOf_1 : decode cX0_heightOf 1 = .ok (.iconst 0, 1) := dk_3 (dk_at dksX0_heightOf_0 1 rfl rfl)
theorem dX0_heightOf_2 : decode cX0_heightOf 2 = .ok (.aload_n 0, 1) := dk_42 (dk_at dksX0_heightOf_0 2 rfl rfl)
theorem dX0_heightOf_3 : decode cX0_heightOf 3 = .ok (.iload_n 1, 1) := dk_27 (dk_at dksX0_heightOf_0 3 rfl rfl)
theorem dX0_heightOf_4 : decode cX0_heightOf 4 = .ok (.invokevirtual 76, 3) := dk_182 0 76 (dk_at dksX0_heightOf_0 4 rfl rfl)
theorem dX0_heightOf_7 : decode cX0_heightOf 7 = .ok (.i2l, 1) := dk_133 (dk_at dksX0_heightOf_0 7 rfl rfl)
theorem dX0_heightOf_8 : decode cX0_heightOf 8 = .ok (.lastore, 1) := dk_80 (dk_at dksX0_heightOf_0 8 rfl rfl)
theorem dX0_heightOf_9 : decode cX0_heightOf 9 = .ok (.goto 9, 3) := dk_167 0 9 (dk_at dksX0_heightOf_0 9 rfl rfl)
theorem dX0_heightOf_12 : decode cX0_heightOf 12 = .ok (.astore_n 3, 1) := dk_78 (dk_at dksX0_heightOf_0 12 rfl rfl)
theorem dX0_heightOf_13 : decode cX0_heightOf 13 = .ok (.iconst 1, 1) := dk_4 (dk_at dksX0_heightOf_0 13 rfl rfl)
theorem dX0_heightOf_14 : decode cX0_heightOf 14 = .ok (.ireturn, 1) := dk_172 (dk_at dksX0_heightOf_0 14 rfl rfl)
theorem dX0_heightOf_15 : decode cX0_heightOf 15 = .ok (.astore_n 3, 1) := dk_78 (dk_at dksX0_heightOf_0 15 rfl rfl)
theorem dX0_heightOf_16 : decode cX0_heightOf 16 = .ok (.iconst 2, 1) := dk_5 (dk_at dksX0_heightOf_0 16 rfl rfl)
theorem dX0_heightOf_17 : decode cX0_heightOf 17 = .ok (.ireturn, 1) := dk_172 (dk_at dksX0_heightOf_0 17 rfl rfl)
theorem dX0_heightOf_18 : decode cX0_heightOf 18 = .ok (.iconst 0, 1) := dk_3 (dk_at dksX0_heightOf_0 18 rfl rfl)
theorem dX0_heightOf_19 : decode cX0_heightOf 19 = .ok (.ireturn, 1) := dk_172 (dk_at dksX0_heightOf_0 19 rfl rfl)
abbrev cX0_lines : ByteArray := method_21_code
def yX0_lines : MethodName := ⟨RX0, "lines", "(LColumnarPress;I[J)I"⟩
def dkwX0_lines_0 : List UInt8 := [44, 3, 42, 27, 182, 0, 79, 133, 80, 167, 0, 12, 78, 4, 172, 78, 5, 172, 78, 6, 172, 3, 172]
abbrev dktX0_lines_0 : List UInt8 := dkwX0_lines_0 ++ []
theorem dksX0_lines_0 : cX0_lines.data.toList.drop 0 = dktX0_lines_0 := by decide +kernel
theorem dX0_lines_0 : decode cX0_lines 0 = .ok (.aload_n 2, 1) := dk_44 (dk_at dksX0_lines_0 0 rfl rfl)
theorem dX0_lines_1 : decode cX0_lines 1 = .ok (.iconst 0, 1) := dk_3 (dk_at dksX0_lines_0 1 rfl rfl)
theorem dX0_lines_2 : decode cX0_lines 2 = .ok (.aload_n 0, 1) := dk_42 (dk_at dksX0_lines_0 2 rfl rfl)
theorem dX0_lines_3 : decode cX0_lines 3 = .ok (.iload_n 1, 1) := dk_27 (dk_at dksX0_lines_0 3 rfl rfl)
theorem dX0_lines_4 : decode cX0_lines 4 = .ok (.invokevirtual 79, 3) := dk_182 0 79 (dk_at dksX0_lines_0 4 rfl rfl)
theorem dX0_lines_7 : decode cX0_lines 7 = .ok (.i2l, 1) := dk_133 (dk_at dksX0_lines_0 7 rfl rfl)
theorem dX0_lines_8 : decode cX0_lines 8 = .ok (.lastore, 1) := dk_80 (dk_at dksX0_lines_0 8 rfl rfl)
theorem dX0_lines_9 : decode cX0_lines 9 = .ok (.goto 12, 3) := dk_167 0 12 (dk_at dksX0_lines_0 9 rfl rfl)
theorem dX0_lines_12 : decode cX0_lines 12 = .ok (.astore_n 3, 1) := dk_78 (dk_at dksX0_lines_0 12 rfl rfl)
theorem dX0_lines_13 : decode cX0_lines 13 = .ok (.iconst 1, 1) := dk_4 (dk_at dksX0_lines_0 13 rfl rfl)
theorem dX0_lines_14 : decode cX0_lines 14 = .ok (.ireturn, 1) := dk_172 (dk_at dksX0_lines_0 14 rfl rfl)
theorem dX0_lines_15 : decode cX0_lines 15 = .ok (.astore_n 3, 1) := dk_78 (dk_at dksX0_lines_0 15 rfl rfl)
theorem dX0_lines_16 : decode cX0_lines 16 = .ok (.iconst 2, 1) := dk_5 (dk_at dksX0_lines_0 16 rfl rfl)
theorem dX0_lines_17 : decode cX0_lines 17 = .ok (.ireturn, 1) := dk_172 (dk_at dksX0_lines_0 17 rfl rfl)
theorem dX0_lines_18 : decode cX0_lines 18 = .ok (.astore_n 3, 1) := dk_78 (dk_at dksX0_lines_0 18 rfl rfl)
theorem dX0_lines_19 : decode cX0_lines 19 = .ok (.iconst 3, 1) := dk_6 (dk_at dksX0_lines_0 19 rfl rfl)
theorem dX0_lines_20 : decode cX0_lines 20 = .ok (.ireturn, 1) := dk_172 (dk_at dksX0_lines_0 20 rfl rfl)
theorem dX0_lines_21 : decode cX0_lines 21 = .ok (.iconst 0, 1) := dk_3 (dk_at dksX0_lines_0 21 rfl rfl)
theorem dX0_lines_22 : decode cX0_lines 22 = .ok (.ireturn, 1) := dk_172 (dk_at dksX0_lines_0 22 rfl rfl)
abbrev cX0_wordsIn : ByteArray := method_22_code
def yX0_wordsIn : MethodName := ⟨RX0, "wordsIn", "(LColumnarPress;II[J)I"⟩
def dkwX0_wordsIn_1 : List UInt8 := [172, 58, 4, 7, 172, 3, 172]
abbrev dktX0_wordsIn_1 : List UInt8 := dkwX0_wordsIn_1 ++ []
def dkwX0_wordsIn_0 : List UInt8 := [45, 3, 42, 27, 28, 182, 0, 82, 133, 80, 167, 0, 19, 58, 4, 4, 172, 58, 4, 5, 172, 58, 4, 6]
abbrev dktX0_wordsIn_0 : List UInt8 := dkwX0_wordsIn_0 ++ dktX0_wordsIn_1
theorem dksX0_wordsIn_0 : cX0_wordsIn.data.toList.drop 0 = dktX0_wordsIn_0 := by decide +kernel
theorem dksX0_wordsIn_1 : cX0_wordsIn.data.toList.drop 24 = dktX0_wordsIn_1 := dk_seg dksX0_wordsIn_0 24 rfl rfl
theorem dX0_wordsIn_0 : decode cX0_wordsIn 0 = .ok (.aload_n 3, 1) := dk_45 (dk_at dksX0_wordsIn_0 0 rfl rfl)
theorem dX0_wordsIn_1 : decode cX0_wordsIn 1 = .ok (.iconst 0, 1) := dk_3 (dk_at dksX0_wordsIn_0 1 rfl rfl)
theorem dX0_wordsIn_2 : decode cX0_wordsIn 2 = .ok (.aload_n 0, 1) := dk_42 (dk_at dksX0_wordsIn_0 2 rfl rfl)
theorem dX0_wordsIn_3 : decode cX0_wordsIn 3 = .ok (.iload_n 1, 1) := dk_27 (dk_at dksX0_wordsIn_0 3 rfl rfl)
theorem dX0_wordsIn_4 : decode cX0_wordsIn 4 = .ok (.iload_n 2, 1) := dk_28 (dk_at dksX0_wordsIn_0 4 rfl rfl)
theorem dX0_wordsIn_5 : decode cX0_wordsIn 5 = .ok (.invokevirtual 82, 3) := dk_182 0 82 (dk_at dksX0_wordsIn_0 5 rfl rfl)
theorem dX0_wordsIn_8 : decode cX0_wordsIn 8 = .ok (.i2l, 1) := dk_133 (dk_at dksX0_wordsIn_0 8 rfl rfl)
theorem dX0_wordsIn_9 : decode cX0_wordsIn 9 = .ok (.lastore, 1) := dk_80 (dk_at dksX0_wordsIn_0 9 rfl rfl)
theorem dX0_wordsIn_10 : decode cX0_wordsIn 10 = .ok (.goto 19, 3) := dk_167 0 19 (dk_at dksX0_wordsIn_0 10 rfl rfl)
theorem dX0_wordsIn_13 : decode cX0_wordsIn 13 = .ok (.astore 4, 2) := dk_58 4 (dk_at dksX0_wordsIn_0 13 rfl rfl)
theorem dX0_wordsIn_15 : decode cX0_wordsIn 15 = .ok (.iconst 1, 1) := dk_4 (dk_at dksX0_wordsIn_0 15 rfl rfl)
theorem dX0_wordsIn_16 : decode cX0_wordsIn 16 = .ok (.ireturn, 1) := dk_172 (dk_at dksX0_wordsIn_0 16 rfl rfl)
theorem dX0_wordsIn_17 : decode cX0_wordsIn 17 = .ok (.astore 4, 2) := dk_58 4 (dk_at dksX0_wordsIn_0 17 rfl rfl)
theorem dX0_wordsIn_19 : decode cX0_wordsIn 19 = .ok (.iconst 2, 1) := dk_5 (dk_at dksX0_wordsIn_0 19 rfl rfl)
theorem dX0_wordsIn_20 : decode cX0_wordsIn 20 = .ok (.ireturn, 1) := dk_172 (dk_at dksX0_wordsIn_0 20 rfl rfl)
theorem dX0_wordsIn_21 : decode cX0_wordsIn 21 = .ok (.astore 4, 2) := dk_58 4 (dk_at dksX0_wordsIn_0 21 rfl rfl)
theorem dX0_wordsIn_23 : decode cX0_wordsIn 23 = .ok (.iconst 3, 1) := dk_6 (dk_at dksX0_wordsIn_0 23 rfl rfl)
theorem dX0_wordsIn_24 : decode cX0_wordsIn 24 = .ok (.ireturn, 1) := dk_172 (dk_at dksX0_wordsIn_1 0 rfl rfl)
theorem dX0_wordsIn_25 : decode cX0_wordsIn 25 = .ok (.astore 4, 2) := dk_58 4 (dk_at dksX0_wordsIn_1 1 rfl rfl)
theorem dX0_wordsIn_27 : decode cX0_wordsIn 27 = .ok (.iconst 4, 1) := dk_7 (dk_at dksX0_wordsIn_1 3 rfl rfl)
theorem dX0_wordsIn_28 : decode cX0_wordsIn 28 = .ok (.ireturn, 1) := dk_172 (dk_at dksX0_wordsIn_1 4 rfl rfl)
theorem dX0_wordsIn_29 : decode cX0_wordsIn 29 = .ok (.iconst 0, 1) := dk_3 (dk_at dksX0_wordsIn_1 5 rfl rfl)
theorem dX0_wordsIn_30 : decode cX0_wordsIn 30 = .ok (.ireturn, 1) := dk_172 (dk_at dksX0_wordsIn_1 6 rfl rfl)
abbrev cX0_lineX : ByteArray := method_23_code
def yX0_lineX : MethodName := ⟨RX0, "lineX", "(LColumnarPress;II[J)I"⟩
def dkwX0_lineX_1 : List UInt8 := [172, 58, 4, 7, 172, 3, 172]
abbrev dktX0_lineX_1 : List UInt8 := dkwX0_lineX_1 ++ []
def dkwX0_lineX_0 : List UInt8 := [45, 3, 42, 27, 28, 182, 0, 87, 133, 80, 167, 0, 19, 58, 4, 4, 172, 58, 4, 5, 172, 58, 4, 6]
abbrev dktX0_lineX_0 : List UInt8 := dkwX0_lineX_0 ++ dktX0_lineX_1
theorem dksX0_lineX_0 : cX0_lineX.data.toList.drop 0 = dktX0_lineX_0 := by decide +kernel
theorem dksX0_lineX_1 : cX0_lineX.data.toList.drop 24 = dktX0_lineX_1 := dk_seg dksX0_lineX_0 24 rfl rfl
theorem dX0_lineX_0 : decode cX0_lineX 0 = .ok (.aload_n 3, 1) := dk_45 (dk_at dksX0_lineX_0 0 rfl rfl)
theorem dX0_lineX_1 : decode cX0_lineX 1 = .ok (.iconst 0, 1) := dk_3 (dk_at dksX0_lineX_0 1 rfl rfl)
theorem dX0_lineX_2 : decode cX0_lineX 2 = .ok (.aload_n 0, 1) := dk_42 (dk_at dksX0_lineX_0 2 rfl rfl)
theorem dX0_lineX_3 : decode cX0_lineX 3 = .ok (.iload_n 1, 1) := dk_27 (dk_at dksX0_lineX_0 3 rfl rfl)
theorem dX0_lineX_4 : decode cX0_lineX 4 = .ok (.iload_n 2, 1) := dk_28 (dk_at dksX0_lineX_0 4 rfl rfl)
theorem dX0_lineX_5 : decode cX0_lineX 5 = .ok (.invokevirtual 87, 3) := dk_182 0 87 (dk_at dksX0_lineX_0 5 rfl rfl)
theorem dX0_lineX_8 : decode cX0_lineX 8 = .ok (.i2l, 1) := dk_133 (dk_at dksX0_lineX_0 8 rfl rfl)
theorem dX0_lineX_9 : decode cX0_lineX 9 = .ok (.lastore, 1) := dk_80 (dk_at dksX0_lineX_0 9 rfl rfl)
theorem dX0_lineX_10 : decode cX0_lineX 10 = .ok (.goto 19, 3) := dk_167 0 19 (dk_at dksX0_lineX_0 10 rfl rfl)
theorem dX0_lineX_13 : decode cX0_lineX 13 = .ok (.astore 4, 2) := dk_58 4 (dk_at dksX0_lineX_0 13 rfl rfl)
theorem dX0_lineX_15 : decode cX0_lineX 15 = .ok (.iconst 1, 1) := dk_4 (dk_at dksX0_lineX_0 15 rfl rfl)
theorem dX0_lineX_16 : decode cX0_lineX 16 = .ok (.ireturn, 1) := dk_172 (dk_at dksX0_lineX_0 16 rfl rfl)
theorem dX0_lineX_17 : decode cX0_lineX 17 = .ok (.astore 4, 2) := dk_58 4 (dk_at dksX0_lineX_0 17 rfl rfl)
theorem dX0_lineX_19 : decode cX0_lineX 19 = .ok (.iconst 2, 1) := dk_5 (dk_at dksX0_lineX_0 19 rfl rfl)
theorem dX0_lineX_20 : decode cX0_lineX 20 = .ok (.ireturn, 1) := dk_172 (dk_at dksX0_lineX_0 20 rfl rfl)
theorem dX0_lineX_21 : decode cX0_lineX 21 = .ok (.astore 4, 2) := dk_58 4 (dk_at dksX0_lineX_0 21 rfl rfl)
theorem dX0_lineX_23 : decode cX0_lineX 23 = .ok (.iconst 3, 1) := dk_6 (dk_at dksX0_lineX_0 23 rfl rfl)
theorem dX0_lineX_24 : decode cX0_lineX 24 = .ok (.ireturn, 1) := dk_172 (dk_at dksX0_lineX_1 0 rfl rfl)
theorem dX0_lineX_25 : decode cX0_lineX 25 = .ok (.astore 4, 2) := dk_58 4 (dk_at dksX0_lineX_1 1 rfl rfl)
theorem dX0_lineX_27 : decode cX0_lineX 27 = .ok (.iconst 4, 1) := dk_7 (dk_at dksX0_lineX_1 3 rfl rfl)
theorem dX0_lineX_28 : decode cX0_lineX 28 = .ok (.ireturn, 1) := dk_172 (dk_at dksX0_lineX_1 4 rfl rfl)
theorem dX0_lineX_29 : decode cX0_lineX 29 = .ok (.iconst 0, 1) := dk_3 (dk_at dksX0_lineX_1 5 rfl rfl)
theorem dX0_lineX_30 : decode cX0_lineX 30 = .ok (.ireturn, 1) := dk_172 (dk_at dksX0_lineX_1 6 rfl rfl)
abbrev cX0_lineY : ByteArray := method_24_code
def yX0_lineY : MethodName := ⟨RX0, "lineY", "(LColumnarPress;II[J)I"⟩
def dkwX0_lineY_1 : List UInt8 := [172, 58, 4, 7, 172, 3, 172]
abbrev dktX0_lineY_1 : List UInt8 := dkwX0_lineY_1 ++ []
def dkwX0_lineY_0 : List UInt8 := [45, 3, 42, 27, 28, 182, 0, 90, 133, 80, 167, 0, 19, 58, 4, 4, 172, 58, 4, 5, 172, 58, 4, 6]
abbrev dktX0_lineY_0 : List UInt8 := dkwX0_lineY_0 ++ dktX0_lineY_1
theorem dksX0_lineY_0 : cX0_lineY.data.toList.drop 0 = dktX0_lineY_0 := by decide +kernel
theorem dksX0_lineY_1 : cX0_lineY.data.toList.drop 24 = dktX0_lineY_1 := dk_seg dksX0_lineY_0 24 rfl rfl
theorem dX0_lineY_0 : decode cX0_lineY 0 = .ok (.aload_n 3, 1) := dk_45 (dk_at dksX0_lineY_0 0 rfl rfl)
theorem dX0_lineY_1 : decode cX0_lineY 1 = .ok (.iconst 0, 1) := dk_3 (dk_at dksX0_lineY_0 1 rfl rfl)
theorem dX0_lineY_2 : decode cX0_lineY 2 = .ok (.aload_n 0, 1) := dk_42 (dk_at dksX0_lineY_0 2 rfl rfl)
theorem dX0_lineY_3 : decode cX0_lineY 3 = .ok (.iload_n 1, 1) := dk_27 (dk_at dksX0_lineY_0 3 rfl rfl)
theorem dX0_lineY_4 : decode cX0_lineY 4 = .ok (.iload_n 2, 1) := dk_28 (dk_at dksX0_lineY_0 4 rfl rfl)
theorem dX0_lineY_5 : decode cX0_lineY 5 = .ok (.invokevirtual 90, 3) := dk_182 0 90 (dk_at dksX0_lineY_0 5 rfl rfl)
theorem dX0_lineY_8 : decode cX0_lineY 8 = .ok (.i2l, 1) := dk_133 (dk_at dksX0_lineY_0 8 rfl rfl)
theorem dX0_lineY_9 : decode cX0_lineY 9 = .ok (.lastore, 1) := dk_80 (dk_at dksX0_lineY_0 9 rfl rfl)
theorem dX0_lineY_10 : decode cX0_lineY 10 = .ok (.goto 19, 3) := dk_167 0 19 (dk_at dksX0_lineY_0 10 rfl rfl)
theorem dX0_lineY_13 : decode cX0_lineY 13 = .ok (.astore 4, 2) := dk_58 4 (dk_at dksX0_lineY_0 13 rfl rfl)
theorem dX0_lineY_15 : decode cX0_lineY 15 = .ok (.iconst 1, 1) := dk_4 (dk_at dksX0_lineY_0 15 rfl rfl)
theorem dX0_lineY_16 : decode cX0_lineY 16 = .ok (.ireturn, 1) := dk_172 (dk_at dksX0_lineY_0 16 rfl rfl)
theorem dX0_lineY_17 : decode cX0_lineY 17 = .ok (.astore 4, 2) := dk_58 4 (dk_at dksX0_lineY_0 17 rfl rfl)
theorem dX0_lineY_19 : decode cX0_lineY 19 = .ok (.iconst 2, 1) := dk_5 (dk_at dksX0_lineY_0 19 rfl rfl)
theorem dX0_lineY_20 : decode cX0_lineY 20 = .ok (.ireturn, 1) := dk_172 (dk_at dksX0_lineY_0 20 rfl rfl)
theorem dX0_lineY_21 : decode cX0_lineY 21 = .ok (.astore 4, 2) := dk_58 4 (dk_at dksX0_lineY_0 21 rfl rfl)
theorem dX0_lineY_23 : decode cX0_lineY 23 = .ok (.iconst 3, 1) := dk_6 (dk_at dksX0_lineY_0 23 rfl rfl)
theorem dX0_lineY_24 : decode cX0_lineY 24 = .ok (.ireturn, 1) := dk_172 (dk_at dksX0_lineY_1 0 rfl rfl)
theorem dX0_lineY_25 : decode cX0_lineY 25 = .ok (.astore 4, 2) := dk_58 4 (dk_at dksX0_lineY_1 1 rfl rfl)
theorem dX0_lineY_27 : decode cX0_lineY 27 = .ok (.iconst 4, 1) := dk_7 (dk_at dksX0_lineY_1 3 rfl rfl)
theorem dX0_lineY_28 : decode cX0_lineY 28 = .ok (.ireturn, 1) := dk_172 (dk_at dksX0_lineY_1 4 rfl rfl)
theorem dX0_lineY_29 : decode cX0_lineY 29 = .ok (.iconst 0, 1) := dk_3 (dk_at dksX0_lineY_1 5 rfl rfl)
theorem dX0_lineY_30 : decode cX0_lineY 30 = .ok (.ireturn, 1) := dk_172 (dk_at dksX0_lineY_1 6 rfl rfl)
abbrev cX0_leastWidth : ByteArray := method_25_code
def yX0_leastWidth : MethodName := ⟨RX0, "leastWidth", "(LColumnarPress;I[J)I"⟩
def dkwX0_leastWidth_0 : List UInt8 := [44, 3, 42, 27, 182, 0, 93, 133, 80, 167, 0, 6, 78, 4, 172, 3, 172]
abbrev dktX0_leastWidth_0 : List UInt8 := dkwX0_leastWidth_0 ++ []
theorem dksX0_leastWidth_0 : cX0_leastWidth.data.toList.drop 0 = dktX0_leastWidth_0 := by decide +kernel
theorem dX0_leastWidth_0 : decode cX0_leastWidth 0 = .ok (.aload_n 2, 1) := dk_44 (dk_at dksX0_leastWidth_0 0 rfl rfl)
theorem dX0_leastWidth_1 : decode cX0_leastWidth 1 = .ok (.iconst 0, 1) := dk_3 (dk_at dksX0_leastWidth_0 1 rfl rfl)
theorem dX0_leastWidth_2 : decode cX0_leastWidth 2 = .ok (.aload_n 0, 1) := dk_42 (dk_at dksX0_leastWidth_0 2 rfl rfl)
theorem dX0_leastWidth_3 : decode cX0_leastWidth 3 = .ok (.iload_n 1, 1) := dk_27 (dk_at dksX0_leastWidth_0 3 rfl rfl)
theorem dX0_leastWidth_4 : decode cX0_leastWidth 4 = .ok (.invokevirtual 93, 3) := dk_182 0 93 (dk_at dksX0_leastWidth_0 4 rfl rfl)
theorem dX0_leastWidth_7 : decode cX0_leastWidth 7 = .ok (.i2l, 1) := dk_133 (dk_at dksX0_leastWidth_0 7 rfl rfl)
theorem dX0_leastWidth_8 : decode cX0_leastWidth 8 = .ok (.lastore, 1) := dk_80 (dk_at dksX0_leastWidth_0 8 rfl rfl)
theorem dX0_leastWidth_9 : decode cX0_leastWidth 9 = .ok (.goto 6, 3) := dk_167 0 6 (dk_at dksX0_leastWidth_0 9 rfl rfl)
theorem dX0_leastWidth_12 : decode cX0_leastWidth 12 = .ok (.astore_n 3, 1) := dk_78 (dk_at dksX0_leastWidth_0 12 rfl rfl)
theorem dX0_leastWidth_13 : decode cX0_leastWidth 13 = .ok (.iconst 1, 1) := dk_4 (dk_at dksX0_leastWidth_0 13 rfl rfl)
theorem dX0_leastWidth_14 : decode cX0_leastWidth 14 = .ok (.ireturn, 1) := dk_172 (dk_at dksX0_leastWidth_0 14 rfl rfl)
theorem dX0_leastWidth_15 : decode cX0_leastWidth 15 = .ok (.iconst 0, 1) := dk_3 (dk_at dksX0_leastWidth_0 15 rfl rfl)
theorem dX0_leastWidth_16 : decode cX0_leastWidth 16 = .ok (.ireturn, 1) := dk_172 (dk_at dksX0_leastWidth_0 16 rfl rfl)
abbrev cX0_greatestWidth : ByteArray := method_26_code
def yX0_greatestWidth : MethodName := ⟨RX0, "greatestWidth", "(LColumnarPress;I[J)I"⟩
def dkwX0_greatestWidth_0 : List UInt8 := [44, 3, 42, 27, 182, 0, 96, 133, 80, 167, 0, 6, 78, 4, 172, 3, 172]
abbrev dktX0_greatestWidth_0 : List UInt8 := dkwX0_greatestWidth_0 ++ []
theorem dksX0_greatestWidth_0 : cX0_greatestWidth.data.toList.drop 0 = dktX0_greatestWidth_0 := by decide +kernel
theorem dX0_greatestWidth_0 : decode cX0_greatestWidth 0 = .ok (.aload_n 2, 1) := dk_44 (dk_at dksX0_greatestWidth_0 0 rfl rfl)
theorem dX0_greatestWidth_1 : decode cX0_greatestWidth 1 = .ok (.iconst 0, 1) := dk_3 (dk_at dksX0_greatestWidth_0 1 rfl rfl)
theorem dX0_greatestWidth_2 : decode cX0_greatestWidth 2 = .ok (.aload_n 0, 1) := dk_42 (dk_at dksX0_greatestWidth_0 2 rfl rfl)
theorem dX0_greatestWidth_3 : decode cX0_greatestWidth 3 = .ok (.iload_n 1, 1) := dk_27 (dk_at dksX0_greatestWidth_0 3 rfl rfl)
theorem dX0_greatestWidth_4 : decode cX0_greatestWidth 4 = .ok (.invokevirtual 96, 3) := dk_182 0 96 (dk_at dksX0_greatestWidth_0 4 rfl rfl)
theorem dX0_greatestWidth_7 : decode cX0_greatestWidth 7 = .ok (.i2l, 1) := dk_133 (dk_at dksX0_greatestWidth_0 7 rfl rfl)
theorem dX0_greatestWidth_8 : decode cX0_greatestWidth 8 = .ok (.lastore, 1) := dk_80 (dk_at dksX0_greatestWidth_0 8 rfl rfl)
theorem dX0_greatestWidth_9 : decode cX0_greatestWidth 9 = .ok (.goto 6, 3) := dk_167 0 6 (dk_at dksX0_greatestWidth_0 9 rfl rfl)
theorem dX0_greatestWidth_12 : decode cX0_greatestWidth 12 = .ok (.astore_n 3, 1) := dk_78 (dk_at dksX0_greatestWidth_0 12 rfl rfl)
theorem dX0_greatestWidth_13 : decode cX0_greatestWidth 13 = .ok (.iconst 1, 1) := dk_4 (dk_at dksX0_greatestWidth_0 13 rfl rfl)
theorem dX0_greatestWidth_14 : decode cX0_greatestWidth 14 = .ok (.ireturn, 1) := dk_172 (dk_at dksX0_greatestWidth_0 14 rfl rfl)
theorem dX0_greatestWidth_15 : decode cX0_greatestWidth 15 = .ok (.iconst 0, 1) := dk_3 (dk_at dksX0_greatestWidth_0 15 rfl rfl)
theorem dX0_greatestWidth_16 : decode cX0_greatestWidth 16 = .ok (.ireturn, 1) := dk_172 (dk_at dksX0_greatestWidth_0 16 rfl rfl)
abbrev cX0_hit : ByteArray := method_27_code
def yX0_hit : MethodName := ⟨RX0, "hit", "(LColumnarPress;II[J)I"⟩
def dkwX0_hit_0 : List UInt8 := [45, 3, 42, 27, 28, 182, 0, 99, 133, 80, 167, 0, 11, 58, 4, 4, 172, 58, 4, 5, 172, 3, 172]
abbrev dktX0_hit_0 : List UInt8 := dkwX0_hit_0 ++ []
theorem dksX0_hit_0 : cX0_hit.data.toList.drop 0 = dktX0_hit_0 := by decide +kernel
theorem dX0_hit_0 : decode cX0_hit 0 = .ok (.aload_n 3, 1) := dk_45 (dk_at dksX0_hit_0 0 rfl rfl)
theorem dX0_hit_1 : decode cX0_hit 1 = .ok (.iconst 0, 1) := dk_3 (dk_at dksX0_hit_0 1 rfl rfl)
theorem dX0_hit_2 : decode cX0_hit 2 = .ok (.aload_n 0, 1) := dk_42 (dk_at dksX0_hit_0 2 rfl rfl)
theorem dX0_hit_3 : decode cX0_hit 3 = .ok (.iload_n 1, 1) := dk_27 (dk_at dksX0_hit_0 3 rfl rfl)
theorem dX0_hit_4 : decode cX0_hit 4 = .ok (.iload_n 2, 1) := dk_28 (dk_at dksX0_hit_0 4 rfl rfl)
theorem dX0_hit_5 : decode cX0_hit 5 = .ok (.invokevirtual 99, 3) := dk_182 0 99 (dk_at dksX0_hit_0 5 rfl rfl)
theorem dX0_hit_8 : decode cX0_hit 8 = .ok (.i2l, 1) := dk_133 (dk_at dksX0_hit_0 8 rfl rfl)
theorem dX0_hit_9 : decode cX0_hit 9 = .ok (.lastore, 1) := dk_80 (dk_at dksX0_hit_0 9 rfl rfl)
theorem dX0_hit_10 : decode cX0_hit 10 = .ok (.goto 11, 3) := dk_167 0 11 (dk_at dksX0_hit_0 10 rfl rfl)
theorem dX0_hit_13 : decode cX0_hit 13 = .ok (.astore 4, 2) := dk_58 4 (dk_at dksX0_hit_0 13 rfl rfl)
theorem dX0_hit_15 : decode cX0_hit 15 = .ok (.iconst 1, 1) := dk_4 (dk_at dksX0_hit_0 15 rfl rfl)
theorem dX0_hit_16 : decode cX0_hit 16 = .ok (.ireturn, 1) := dk_172 (dk_at dksX0_hit_0 16 rfl rfl)
theorem dX0_hit_17 : decode cX0_hit 17 = .ok (.astore 4, 2) := dk_58 4 (dk_at dksX0_hit_0 17 rfl rfl)
theorem dX0_hit_19 : decode cX0_hit 19 = .ok (.iconst 2, 1) := dk_5 (dk_at dksX0_hit_0 19 rfl rfl)
theorem dX0_hit_20 : decode cX0_hit 20 = .ok (.ireturn, 1) := dk_172 (dk_at dksX0_hit_0 20 rfl rfl)
theorem dX0_hit_21 : decode cX0_hit 21 = .ok (.iconst 0, 1) := dk_3 (dk_at dksX0_hit_0 21 rfl rfl)
theorem dX0_hit_22 : decode cX0_hit 22 = .ok (.ireturn, 1) := dk_172 (dk_at dksX0_hit_0 22 rfl rfl)
abbrev cX0_pages : ByteArray := method_28_code
def yX0_pages : MethodName := ⟨RX0, "pages", "(LColumnarPress;I[J)I"⟩
def dkwX0_pages_0 : List UInt8 := [44, 3, 42, 27, 182, 0, 102, 133, 80, 167, 0, 9, 78, 4, 172, 78, 5, 172, 3, 172]
abbrev dktX0_pages_0 : List UInt8 := dkwX0_pages_0 ++ []
theorem dksX0_pages_0 : cX0_pages.data.toList.drop 0 = dktX0_pages_0 := by decide +kernel
theorem dX0_pages_0 : decode cX0_pages 0 = .ok (.aload_n 2, 1) := dk_44 (dk_at dksX0_pages_0 0 rfl rfl)
theorem dX0_pages_1 : decode cX0_pages 1 = .ok (.iconst 0, 1) := dk_3 (dk_at dksX0_pages_0 1 rfl rfl)
theorem dX0_pages_2 : decode cX0_pages 2 = .ok (.aload_n 0, 1) := dk_42 (dk_at dksX0_pages_0 2 rfl rfl)
theorem dX0_pages_3 : decode cX0_pages 3 = .ok (.iload_n 1, 1) := dk_27 (dk_at dksX0_pages_0 3 rfl rfl)
theorem dX0_pages_4 : decode cX0_pages 4 = .ok (.invokevirtual 102, 3) := dk_182 0 102 (dk_at dksX0_pages_0 4 rfl rfl)
theorem dX0_pages_7 : decode cX0_pages 7 = .ok (.i2l, 1) := dk_133 (dk_at dksX0_pages_0 7 rfl rfl)
theorem dX0_pages_8 : decode cX0_pages 8 = .ok (.lastore, 1) := dk_80 (dk_at dksX0_pages_0 8 rfl rfl)
theorem dX0_pages_9 : decode cX0_pages 9 = .ok (.goto 9, 3) := dk_167 0 9 (dk_at dksX0_pages_0 9 rfl rfl)
theorem dX0_pages_12 : decode cX0_pages 12 = .ok (.astore_n 3, 1) := dk_78 (dk_at dksX0_pages_0 12 rfl rfl)
theorem dX0_pages_13 : decode cX0_pages 13 = .ok (.iconst 1, 1) := dk_4 (dk_at dksX0_pages_0 13 rfl rfl)
theorem dX0_pages_14 : decode cX0_pages 14 = .ok (.ireturn, 1) := dk_172 (dk_at dksX0_pages_0 14 rfl rfl)
theorem dX0_pages_15 : decode cX0_pages 15 = .ok (.astore_n 3, 1) := dk_78 (dk_at dksX0_pages_0 15 rfl rfl)
theorem dX0_pages_16 : decode cX0_pages 16 = .ok (.iconst 2, 1) := dk_5 (dk_at dksX0_pages_0 16 rfl rfl)
theorem dX0_pages_17 : decode cX0_pages 17 = .ok (.ireturn, 1) := dk_172 (dk_at dksX0_pages_0 17 rfl rfl)
theorem dX0_pages_18 : decode cX0_pages 18 = .ok (.iconst 0, 1) := dk_3 (dk_at dksX0_pages_0 18 rfl rfl)
theorem dX0_pages_19 : decode cX0_pages 19 = .ok (.ireturn, 1) := dk_172 (dk_at dksX0_pages_0 19 rfl rfl)
abbrev cX0_pageOf : ByteArray := method_29_code
def yX0_pageOf : MethodName := ⟨RX0, "pageOf", "(LColumnarPress;III[J)I"⟩
def dkwX0_pageOf_1 : List UInt8 := [58, 5, 6, 172, 58, 5, 7, 172, 3, 172]
abbrev dktX0_pageOf_1 : List UInt8 := dkwX0_pageOf_1 ++ []
def dkwX0_pageOf_0 : List UInt8 := [25, 4, 3, 42, 27, 28, 29, 182, 0, 105, 133, 80, 167, 0, 19, 58, 5, 4, 172, 58, 5, 5, 172]
abbrev dktX0_pageOf_0 : List UInt8 := dkwX0_pageOf_0 ++ dktX0_pageOf_1
theorem dksX0_pageOf_0 : cX0_pageOf.data.toList.drop 0 = dktX0_pageOf_0 := by decide +kernel
theorem dksX0_pageOf_1 : cX0_pageOf.data.toList.drop 23 = dktX0_pageOf_1 := dk_seg dksX0_pageOf_0 23 rfl rfl
theorem dX0_pageOf_0 : decode cX0_pageOf 0 = .ok (.aload 4, 2) := dk_25 4 (dk_at dksX0_pageOf_0 0 rfl rfl)
theorem dX0_pageOf_2 : decode cX0_pageOf 2 = .ok (.iconst 0, 1) := dk_3 (dk_at dksX0_pageOf_0 2 rfl rfl)
theorem dX0_pageOf_3 : decode cX0_pageOf 3 = .ok (.aload_n 0, 1) := dk_42 (dk_at dksX0_pageOf_0 3 rfl rfl)
theorem dX0_pageOf_4 : decode cX0_pageOf 4 = .ok (.iload_n 1, 1) := dk_27 (dk_at dksX0_pageOf_0 4 rfl rfl)
theorem dX0_pageOf_5 : decode cX0_pageOf 5 = .ok (.iload_n 2, 1) := dk_28 (dk_at dksX0_pageOf_0 5 rfl rfl)
theorem dX0_pageOf_6 : decode cX0_pageOf 6 = .ok (.iload_n 3, 1) := dk_29 (dk_at dksX0_pageOf_0 6 rfl rfl)
theorem dX0_pageOf_7 : decode cX0_pageOf 7 = .ok (.invokevirtual 105, 3) := dk_182 0 105 (dk_at dksX0_pageOf_0 7 rfl rfl)
theorem dX0_pageOf_10 : decode cX0_pageOf 10 = .ok (.i2l, 1) := dk_133 (dk_at dksX0_pageOf_0 10 rfl rfl)
theorem dX0_pageOf_11 : decode cX0_pageOf 11 = .ok (.lastore, 1) := dk_80 (dk_at dksX0_pageOf_0 11 rfl rfl)
theorem dX0_pageOf_12 : decode cX0_pageOf 12 = .ok (.goto 19, 3) := dk_167 0 19 (dk_at dksX0_pageOf_0 12 rfl rfl)
theorem dX0_pageOf_15 : decode cX0_pageOf 15 = .ok (.astore 5, 2) := dk_58 5 (dk_at dksX0_pageOf_0 15 rfl rfl)
theorem dX0_pageOf_17 : decode cX0_pageOf 17 = .ok (.iconst 1, 1) := dk_4 (dk_at dksX0_pageOf_0 17 rfl rfl)
theorem dX0_pageOf_18 : decode cX0_pageOf 18 = .ok (.ireturn, 1) := dk_172 (dk_at dksX0_pageOf_0 18 rfl rfl)
theorem dX0_pageOf_19 : decode cX0_pageOf 19 = .ok (.astore 5, 2) := dk_58 5 (dk_at dksX0_pageOf_0 19 rfl rfl)
theorem dX0_pageOf_21 : decode cX0_pageOf 21 = .ok (.iconst 2, 1) := dk_5 (dk_at dksX0_pageOf_0 21 rfl rfl)
theorem dX0_pageOf_22 : decode cX0_pageOf 22 = .ok (.ireturn, 1) := dk_172 (dk_at dksX0_pageOf_0 22 rfl rfl)
theorem dX0_pageOf_23 : decode cX0_pageOf 23 = .ok (.astore 5, 2) := dk_58 5 (dk_at dksX0_pageOf_1 0 rfl rfl)
theorem dX0_pageOf_25 : decode cX0_pageOf 25 = .ok (.iconst 3, 1) := dk_6 (dk_at dksX0_pageOf_1 2 rfl rfl)
theorem dX0_pageOf_26 : decode cX0_pageOf 26 = .ok (.ireturn, 1) := dk_172 (dk_at dksX0_pageOf_1 3 rfl rfl)
theorem dX0_pageOf_27 : decode cX0_pageOf 27 = .ok (.astore 5, 2) := dk_58 5 (dk_at dksX0_pageOf_1 4 rfl rfl)
theorem dX0_pageOf_29 : decode cX0_pageOf 29 = .ok (.iconst 4, 1) := dk_7 (dk_at dksX0_pageOf_1 6 rfl rfl)
theorem dX0_pageOf_30 : decode cX0_pageOf 30 = .ok (.ireturn, 1) := dk_172 (dk_at dksX0_pageOf_1 7 rfl rfl)
theorem dX0_pageOf_31 : decode cX0_pageOf 31 = .ok (.iconst 0, 1) := dk_3 (dk_at dksX0_pageOf_1 8 rfl rfl)
theorem dX0_pageOf_32 : decode cX0_pageOf 32 = .ok (.ireturn, 1) := dk_172 (dk_at dksX0_pageOf_1 9 rfl rfl)
abbrev cX0_area : ByteArray := method_30_code
def yX0_area : MethodName := ⟨RX0, "area", "(LColumnarPress;[J)I"⟩
def dkwX0_area_0 : List UInt8 := [43, 3, 42, 182, 0, 108, 80, 167, 0, 6, 77, 4, 172, 3, 172]
abbrev dktX0_area_0 : List UInt8 := dkwX0_area_0 ++ []
theorem dksX0_area_0 : cX0_area.data.toList.drop 0 = dktX0_area_0 := by decide +kernel
theorem dX0_area_0 : decode cX0_area 0 = .ok (.aload_n 1, 1) := dk_43 (dk_at dksX0_area_0 0 rfl rfl)
theorem dX0_area_1 : decode cX0_area 1 = .ok (.iconst 0, 1) := dk_3 (dk_at dksX0_area_0 1 rfl rfl)
theorem dX0_area_2 : decode cX0_area 2 = .ok (.aload_n 0, 1) := dk_42 (dk_at dksX0_area_0 2 rfl rfl)
theorem dX0_area_3 : decode cX0_area 3 = .ok (.invokevirtual 108, 3) := dk_182 0 108 (dk_at dksX0_area_0 3 rfl rfl)
theorem dX0_area_6 : decode cX0_area 6 = .ok (.lastore, 1) := dk_80 (dk_at dksX0_area_0 6 rfl rfl)
theorem dX0_area_7 : decode cX0_area 7 = .ok (.goto 6, 3) := dk_167 0 6 (dk_at dksX0_area_0 7 rfl rfl)
theorem dX0_area_10 : decode cX0_area 10 = .ok (.astore_n 2, 1) := dk_77 (dk_at dksX0_area_0 10 rfl rfl)
theorem dX0_area_11 : decode cX0_area 11 = .ok (.iconst 1, 1) := dk_4 (dk_at dksX0_area_0 11 rfl rfl)
theorem dX0_area_12 : decode cX0_area 12 = .ok (.ireturn, 1) := dk_172 (dk_at dksX0_area_0 12 rfl rfl)
theorem dX0_area_13 : decode cX0_area 13 = .ok (.iconst 0, 1) := dk_3 (dk_at dksX0_area_0 13 rfl rfl)
theorem dX0_area_14 : decode cX0_area 14 = .ok (.ireturn, 1) := dk_172 (dk_at dksX0_area_0 14 rfl rfl)
abbrev cX0_filled : ByteArray := method_31_code
def yX0_filled : MethodName := ⟨RX0, "filled", "(LColumnarPress;[D)I"⟩
def dkwX0_filled_0 : List UInt8 := [43, 3, 42, 182, 0, 112, 141, 82, 167, 0, 9, 77, 4, 172, 77, 5, 172, 3, 172]
abbrev dktX0_filled_0 : List UInt8 := dkwX0_filled_0 ++ []
theorem dksX0_filled_0 : cX0_filled.data.toList.drop 0 = dktX0_filled_0 := by decide +kernel
theorem dX0_filled_0 : decode cX0_filled 0 = .ok (.aload_n 1, 1) := dk_43 (dk_at dksX0_filled_0 0 rfl rfl)
theorem dX0_filled_1 : decode cX0_filled 1 = .ok (.iconst 0, 1) := dk_3 (dk_at dksX0_filled_0 1 rfl rfl)
theorem dX0_filled_2 : decode cX0_filled 2 = .ok (.aload_n 0, 1) := dk_42 (dk_at dksX0_filled_0 2 rfl rfl)
theorem dX0_filled_3 : decode cX0_filled 3 = .ok (.invokevirtual 112, 3) := dk_182 0 112 (dk_at dksX0_filled_0 3 rfl rfl)
theorem dX0_filled_6 : decode cX0_filled 6 = .ok (.f2d, 1) := dk_141 (dk_at dksX0_filled_0 6 rfl rfl)
theorem dX0_filled_7 : decode cX0_filled 7 = .ok (.dastore, 1) := dk_82 (dk_at dksX0_filled_0 7 rfl rfl)
theorem dX0_filled_8 : decode cX0_filled 8 = .ok (.goto 9, 3) := dk_167 0 9 (dk_at dksX0_filled_0 8 rfl rfl)
theorem dX0_filled_11 : decode cX0_filled 11 = .ok (.astore_n 2, 1) := dk_77 (dk_at dksX0_filled_0 11 rfl rfl)
theorem dX0_filled_12 : decode cX0_filled 12 = .ok (.iconst 1, 1) := dk_4 (dk_at dksX0_filled_0 12 rfl rfl)
theorem dX0_filled_13 : decode cX0_filled 13 = .ok (.ireturn, 1) := dk_172 (dk_at dksX0_filled_0 13 rfl rfl)
theorem dX0_filled_14 : decode cX0_filled 14 = .ok (.astore_n 2, 1) := dk_77 (dk_at dksX0_filled_0 14 rfl rfl)
theorem dX0_filled_15 : decode cX0_filled 15 = .ok (.iconst 2, 1) := dk_5 (dk_at dksX0_filled_0 15 rfl rfl)
theorem dX0_filled_16 : decode cX0_filled 16 = .ok (.ireturn, 1) := dk_172 (dk_at dksX0_filled_0 16 rfl rfl)
theorem dX0_filled_17 : decode cX0_filled 17 = .ok (.iconst 0, 1) := dk_3 (dk_at dksX0_filled_0 17 rfl rfl)
theorem dX0_filled_18 : decode cX0_filled 18 = .ok (.ireturn, 1) := dk_172 (dk_at dksX0_filled_0 18 rfl rfl)
abbrev cX0_meanLine : ByteArray := method_32_code
def yX0_meanLine : MethodName := ⟨RX0, "meanLine", "(LColumnarPress;[D)I"⟩
def dkwX0_meanLine_0 : List UInt8 := [43, 3, 42, 182, 0, 118, 82, 167, 0, 9, 77, 4, 172, 77, 5, 172, 3, 172]
abbrev dktX0_meanLine_0 : List UInt8 := dkwX0_meanLine_0 ++ []
theorem dksX0_meanLine_0 : cX0_meanLine.data.toList.drop 0 = dktX0_meanLine_0 := by decide +kernel
theorem dX0_meanLine_0 : decode cX0_meanLine 0 = .ok (.aload_n 1, 1) := dk_43 (dk_at dksX0_meanLine_0 0 rfl rfl)
theorem dX0_meanLine_1 : decode cX0_meanLine 1 = .ok (.iconst 0, 1) := dk_3 (dk_at dksX0_meanLine_0 1 rfl rfl)
theorem dX0_meanLine_2 : decode cX0_meanLine 2 = .ok (.aload_n 0, 1) := dk_42 (dk_at dksX0_meanLine_0 2 rfl rfl)
theorem dX0_meanLine_3 : decode cX0_meanLine 3 = .ok (.invokevirtual 118, 3) := dk_182 0 118 (dk_at dksX0_meanLine_0 3 rfl rfl)
theorem dX0_meanLine_6 : decode cX0_meanLine 6 = .ok (.dastore, 1) := dk_82 (dk_at dksX0_meanLine_0 6 rfl rfl)
theorem dX0_meanLine_7 : decode cX0_meanLine 7 = .ok (.goto 9, 3) := dk_167 0 9 (dk_at dksX0_meanLine_0 7 rfl rfl)
theorem dX0_meanLine_10 : decode cX0_meanLine 10 = .ok (.astore_n 2, 1) := dk_77 (dk_at dksX0_meanLine_0 10 rfl rfl)
theorem dX0_meanLine_11 : decode cX0_meanLine 11 = .ok (.iconst 1, 1) := dk_4 (dk_at dksX0_meanLine_0 11 rfl rfl)
theorem dX0_meanLine_12 : decode cX0_meanLine 12 = .ok (.ireturn, 1) := dk_172 (dk_at dksX0_meanLine_0 12 rfl rfl)
theorem dX0_meanLine_13 : decode cX0_meanLine 13 = .ok (.astore_n 2, 1) := dk_77 (dk_at dksX0_meanLine_0 13 rfl rfl)
theorem dX0_meanLine_14 : decode cX0_meanLine 14 = .ok (.iconst 2, 1) := dk_5 (dk_at dksX0_meanLine_0 14 rfl rfl)
theorem dX0_meanLine_15 : decode cX0_meanLine 15 = .ok (.ireturn, 1) := dk_172 (dk_at dksX0_meanLine_0 15 rfl rfl)
theorem dX0_meanLine_16 : decode cX0_meanLine 16 = .ok (.iconst 0, 1) := dk_3 (dk_at dksX0_meanLine_0 16 rfl rfl)
theorem dX0_meanLine_17 : decode cX0_meanLine 17 = .ok (.ireturn, 1) := dk_172 (dk_at dksX0_meanLine_0 17 rfl rfl)
theorem q52 : (Jvm.Cond.initialized "ColumnarPressLaw") ∈ lw_all := lw_g (lw_at lw_m1 0 rfl) rfl
theorem q106 : (Jvm.Cond.classLink "ColumnarPressLaw" (8 : Nat) "ColumnarPress") ∈ lw_all := lw_g (lw_at lw_m1 54 rfl) rfl
theorem q108 : (Jvm.Cond.methodLink "ColumnarPressLaw" (122 : Nat) ({ cls := "ColumnarPress", name := "<init>", desc := "()V" } : Jvm.MethodName)) ∈ lw_all := lw_g (lw_at lw_m1 56 rfl) rfl
theorem q820 : (Jvm.Cond.methodLink "ColumnarPressLaw" (220 : Nat) ({ cls := "ColumnarPress", name := "contexts", desc := "()I" } : Jvm.MethodName)) ∈ lw_all := lw_g (lw_at lw_m4 48 rfl) rfl
theorem q824 : (Jvm.Cond.methodLink "ColumnarPressLaw" (235 : Nat) ({ cls := "ColumnarPress", name := "isConsistent", desc := "()Z" } : Jvm.MethodName)) ∈ lw_all := lw_g (lw_at lw_m4 52 rfl) rfl
theorem q1603 : (Jvm.Cond.methodLink "ColumnarPressLaw" (126 : Nat) ({ cls := "ColumnarPressLaw", name := "add", desc := "(LColumnarPress;IC[J)I" } : Jvm.MethodName)) ∈ lw_all := lw_g (lw_at lw_m7 111 rfl) rfl
theorem q1604 : (Jvm.Cond.static ({ cls := "ColumnarPressLaw", name := "add", desc := "(LColumnarPress;IC[J)I" } : Jvm.MethodName)) ∈ lw_all := lw_g (lw_at lw_m7 112 rfl) rfl
theorem q1605 : (Jvm.Cond.codeWith ({ cls := "ColumnarPressLaw", name := "add", desc := "(LColumnarPress;IC[J)I" } : Jvm.MethodName) method_3_code (5 : Nat) (Option.some Jvm.ClassFile.FieldType.int) [((0 : Nat), (10 : Nat), (13 : Nat), (13 : Nat)), ((0 : Nat), (10 : Nat), (17 : Nat), (15 : Nat)), ((0 : Nat), (10 : Nat), (21 : Nat), (17 : Nat)), ((0 : Nat), (10 : Nat), (25 : Nat), (19 : Nat))]) ∈ lw_all := lw_g (lw_at lw_m7 113 rfl) rfl
theorem q1606 : (Jvm.Cond.classLink "ColumnarPressLaw" (13 : Nat) "java/lang/IndexOutOfBoundsException") ∈ lw_all := lw_g (lw_at lw_m7 114 rfl) rfl
theorem q1622 : (Jvm.Cond.classLink "ColumnarPressLaw" (15 : Nat) "java/lang/IllegalArgumentException") ∈ lw_all := lw_g (lw_at lw_m7 130 rfl) rfl
theorem q1623 : (Jvm.Cond.classLink "ColumnarPressLaw" (17 : Nat) "java/lang/IllegalStateException") ∈ lw_all := lw_g (lw_at lw_m7 131 rfl) rfl
theorem q1624 : (Jvm.Cond.classLink "ColumnarPressLaw" (19 : Nat) "java/lang/UnsupportedOperationException") ∈ lw_all := lw_g (lw_at lw_m7 132 rfl) rfl
theorem q1625 : (Jvm.Cond.methodLink "ColumnarPressLaw" (7 : Nat) ({ cls := "ColumnarPress", name := "add", desc := "(IC)I" } : Jvm.MethodName)) ∈ lw_all := lw_g (lw_at lw_m7 133 rfl) rfl
theorem q1692 : (Jvm.Cond.methodLink "ColumnarPressLaw" (136 : Nat) ({ cls := "ColumnarPressLaw", name := "addWord", desc := "(LColumnarPress;II[J)I" } : Jvm.MethodName)) ∈ lw_all := lw_g (lw_at lw_m7 200 rfl) rfl
theorem q1693 : (Jvm.Cond.static ({ cls := "ColumnarPressLaw", name := "addWord", desc := "(LColumnarPress;II[J)I" } : Jvm.MethodName)) ∈ lw_all := lw_g (lw_at lw_m7 201 rfl) rfl
theorem q1694 : (Jvm.Cond.codeWith ({ cls := "ColumnarPressLaw", name := "addWord", desc := "(LColumnarPress;II[J)I" } : Jvm.MethodName) method_4_code (5 : Nat) (Option.some Jvm.ClassFile.FieldType.int) [((0 : Nat), (10 : Nat), (13 : Nat), (13 : Nat)), ((0 : Nat), (10 : Nat), (17 : Nat), (15 : Nat)), ((0 : Nat), (10 : Nat), (21 : Nat), (19 : Nat)), ((0 : Nat), (10 : Nat), (25 : Nat), (17 : Nat))]) ∈ lw_all := lw_g (lw_at lw_m7 202 rfl) rfl
theorem q1695 : (Jvm.Cond.methodLink "ColumnarPressLaw" (21 : Nat) ({ cls := "ColumnarPress", name := "addWord", desc := "(II)I" } : Jvm.MethodName)) ∈ lw_all := lw_g (lw_at lw_m7 203 rfl) rfl
theorem q1719 : (Jvm.Cond.methodLink "ColumnarPressLaw" (140 : Nat) ({ cls := "ColumnarPressLaw", name := "setSize", desc := "(LColumnarPress;III[J)I" } : Jvm.MethodName)) ∈ lw_all := lw_g (lw_at lw_m7 227 rfl) rfl
theorem q1720 : (Jvm.Cond.static ({ cls := "ColumnarPressLaw", name := "setSize", desc := "(LColumnarPress;III[J)I" } : Jvm.MethodName)) ∈ lw_all := lw_g (lw_at lw_m7 228 rfl) rfl
theorem q1721 : (Jvm.Cond.codeWith ({ cls := "ColumnarPressLaw", name := "setSize", desc := "(LColumnarPress;III[J)I" } : Jvm.MethodName) method_5_code (6 : Nat) (Option.some Jvm.ClassFile.FieldType.int) [((0 : Nat), (12 : Nat), (15 : Nat), (13 : Nat)), ((0 : Nat), (12 : Nat), (19 : Nat), (15 : Nat))]) ∈ lw_all := lw_g (lw_at lw_m7 229 rfl) rfl
theorem q1722 : (Jvm.Cond.methodLink "ColumnarPressLaw" (25 : Nat) ({ cls := "ColumnarPress", name := "setSize", desc := "(III)I" } : Jvm.MethodName)) ∈ lw_all := lw_g (lw_at lw_m7 230 rfl) rfl
theorem q1726 : (Jvm.Cond.methodLink "ColumnarPressLaw" (144 : Nat) ({ cls := "ColumnarPressLaw", name := "setMargins", desc := "(LColumnarPress;IIIII[J)I" } : Jvm.MethodName)) ∈ lw_all := lw_g (lw_at lw_m7 234 rfl) rfl
theorem q1727 : (Jvm.Cond.static ({ cls := "ColumnarPressLaw", name := "setMargins", desc := "(LColumnarPress;IIIII[J)I" } : Jvm.MethodName)) ∈ lw_all := lw_g (lw_at lw_m7 235 rfl) rfl
theorem q1728 : (Jvm.Cond.codeWith ({ cls := "ColumnarPressLaw", name := "setMargins", desc := "(LColumnarPress;IIIII[J)I" } : Jvm.MethodName) method_6_code (8 : Nat) (Option.some Jvm.ClassFile.FieldType.int) [((0 : Nat), (16 : Nat), (19 : Nat), (13 : Nat)), ((0 : Nat), (16 : Nat), (23 : Nat), (15 : Nat))]) ∈ lw_all := lw_g (lw_at lw_m7 236 rfl) rfl
theorem q1729 : (Jvm.Cond.methodLink "ColumnarPressLaw" (29 : Nat) ({ cls := "ColumnarPress", name := "setMargins", desc := "(IIIII)I" } : Jvm.MethodName)) ∈ lw_all := lw_g (lw_at lw_m7 237 rfl) rfl
theorem q1736 : (Jvm.Cond.methodLink "ColumnarPressLaw" (148 : Nat) ({ cls := "ColumnarPressLaw", name := "setPadding", desc := "(LColumnarPress;II[J)I" } : Jvm.MethodName)) ∈ lw_all := lw_g (lw_at lw_m8 4 rfl) rfl
theorem q1737 : (Jvm.Cond.static ({ cls := "ColumnarPressLaw", name := "setPadding", desc := "(LColumnarPress;II[J)I" } : Jvm.MethodName)) ∈ lw_all := lw_g (lw_at lw_m8 5 rfl) rfl
theorem q1738 : (Jvm.Cond.codeWith ({ cls := "ColumnarPressLaw", name := "setPadding", desc := "(LColumnarPress;II[J)I" } : Jvm.MethodName) method_7_code (5 : Nat) (Option.some Jvm.ClassFile.FieldType.int) [((0 : Nat), (10 : Nat), (13 : Nat), (13 : Nat)), ((0 : Nat), (10 : Nat), (17 : Nat), (15 : Nat))]) ∈ lw_all := lw_g (lw_at lw_m8 6 rfl) rfl
theorem q1739 : (Jvm.Cond.methodLink "ColumnarPressLaw" (33 : Nat) ({ cls := "ColumnarPress", name := "setPadding", desc := "(II)I" } : Jvm.MethodName)) ∈ lw_all := lw_g (lw_at lw_m8 7 rfl) rfl
theorem q1743 : (Jvm.Cond.methodLink "ColumnarPressLaw" (151 : Nat) ({ cls := "ColumnarPressLaw", name := "setFactors", desc := "(LColumnarPress;III[J)I" } : Jvm.MethodName)) ∈ lw_all := lw_g (lw_at lw_m8 11 rfl) rfl
theorem q1744 : (Jvm.Cond.static ({ cls := "ColumnarPressLaw", name := "setFactors", desc := "(LColumnarPress;III[J)I" } : Jvm.MethodName)) ∈ lw_all := lw_g (lw_at lw_m8 12 rfl) rfl
theorem q1745 : (Jvm.Cond.codeWith ({ cls := "ColumnarPressLaw", name := "setFactors", desc := "(LColumnarPress;III[J)I" } : Jvm.MethodName) method_8_code (6 : Nat) (Option.some Jvm.ClassFile.FieldType.int) [((0 : Nat), (12 : Nat), (15 : Nat), (13 : Nat)), ((0 : Nat), (12 : Nat), (19 : Nat), (15 : Nat))]) ∈ lw_all := lw_g (lw_at lw_m8 13 rfl) rfl
theorem q1746 : (Jvm.Cond.methodLink "ColumnarPressLaw" (36 : Nat) ({ cls := "ColumnarPress", name := "setFactors", desc := "(III)I" } : Jvm.MethodName)) ∈ lw_all := lw_g (lw_at lw_m8 14 rfl) rfl
theorem q1750 : (Jvm.Cond.methodLink "ColumnarPressLaw" (154 : Nat) ({ cls := "ColumnarPressLaw", name := "setColumns", desc := "(LColumnarPress;II[J)I" } : Jvm.MethodName)) ∈ lw_all := lw_g (lw_at lw_m8 18 rfl) rfl
theorem q1751 : (Jvm.Cond.static ({ cls := "ColumnarPressLaw", name := "setColumns", desc := "(LColumnarPress;II[J)I" } : Jvm.MethodName)) ∈ lw_all := lw_g (lw_at lw_m8 19 rfl) rfl
theorem q1752 : (Jvm.Cond.codeWith ({ cls := "ColumnarPressLaw", name := "setColumns", desc := "(LColumnarPress;II[J)I" } : Jvm.MethodName) method_9_code (5 : Nat) (Option.some Jvm.ClassFile.FieldType.int) [((0 : Nat), (10 : Nat), (13 : Nat), (13 : Nat)), ((0 : Nat), (10 : Nat), (17 : Nat), (15 : Nat))]) ∈ lw_all := lw_g (lw_at lw_m8 20 rfl) rfl
theorem q1753 : (Jvm.Cond.methodLink "ColumnarPressLaw" (39 : Nat) ({ cls := "ColumnarPress", name := "setColumns", desc := "(II)I" } : Jvm.MethodName)) ∈ lw_all := lw_g (lw_at lw_m8 21 rfl) rfl
theorem q1757 : (Jvm.Cond.methodLink "ColumnarPressLaw" (157 : Nat) ({ cls := "ColumnarPressLaw", name := "setFloat", desc := "(LColumnarPress;IC[J)I" } : Jvm.MethodName)) ∈ lw_all := lw_g (lw_at lw_m8 25 rfl) rfl
theorem q1758 : (Jvm.Cond.static ({ cls := "ColumnarPressLaw", name := "setFloat", desc := "(LColumnarPress;IC[J)I" } : Jvm.MethodName)) ∈ lw_all := lw_g (lw_at lw_m8 26 rfl) rfl
theorem q1759 : (Jvm.Cond.codeWith ({ cls := "ColumnarPressLaw", name := "setFloat", desc := "(LColumnarPress;IC[J)I" } : Jvm.MethodName) method_10_code (5 : Nat) (Option.some Jvm.ClassFile.FieldType.int) [((0 : Nat), (10 : Nat), (13 : Nat), (13 : Nat)), ((0 : Nat), (10 : Nat), (17 : Nat), (15 : Nat))]) ∈ lw_all := lw_g (lw_at lw_m8 27 rfl) rfl
theorem q1760 : (Jvm.Cond.methodLink "ColumnarPressLaw" (42 : Nat) ({ cls := "ColumnarPress", name := "setFloat", desc := "(IC)C" } : Jvm.MethodName)) ∈ lw_all := lw_g (lw_at lw_m8 28 rfl) rfl
theorem q1764 : (Jvm.Cond.methodLink "ColumnarPressLaw" (160 : Nat) ({ cls := "ColumnarPressLaw", name := "setPlace", desc := "(LColumnarPress;ICII[J)I" } : Jvm.MethodName)) ∈ lw_all := lw_g (lw_at lw_m8 32 rfl) rfl
theorem q1765 : (Jvm.Cond.static ({ cls := "ColumnarPressLaw", name := "setPlace", desc := "(LColumnarPress;ICII[J)I" } : Jvm.MethodName)) ∈ lw_all := lw_g (lw_at lw_m8 33 rfl) rfl
theorem q1766 : (Jvm.Cond.codeWith ({ cls := "ColumnarPressLaw", name := "setPlace", desc := "(LColumnarPress;ICII[J)I" } : Jvm.MethodName) method_11_code (7 : Nat) (Option.some Jvm.ClassFile.FieldType.int) [((0 : Nat), (14 : Nat), (17 : Nat), (13 : Nat)), ((0 : Nat), (14 : Nat), (21 : Nat), (15 : Nat))]) ∈ lw_all := lw_g (lw_at lw_m8 34 rfl) rfl
theorem q1767 : (Jvm.Cond.methodLink "ColumnarPressLaw" (46 : Nat) ({ cls := "ColumnarPress", name := "setPlace", desc := "(ICII)C" } : Jvm.MethodName)) ∈ lw_all := lw_g (lw_at lw_m8 35 rfl) rfl
theorem q1774 : (Jvm.Cond.methodLink "ColumnarPressLaw" (164 : Nat) ({ cls := "ColumnarPressLaw", name := "setDepth", desc := "(LColumnarPress;II[J)I" } : Jvm.MethodName)) ∈ lw_all := lw_g (lw_at lw_m8 42 rfl) rfl
theorem q1775 : (Jvm.Cond.static ({ cls := "ColumnarPressLaw", name := "setDepth", desc := "(LColumnarPress;II[J)I" } : Jvm.MethodName)) ∈ lw_all := lw_g (lw_at lw_m8 43 rfl) rfl
theorem q1776 : (Jvm.Cond.codeWith ({ cls := "ColumnarPressLaw", name := "setDepth", desc := "(LColumnarPress;II[J)I" } : Jvm.MethodName) method_12_code (5 : Nat) (Option.some Jvm.ClassFile.FieldType.int) [((0 : Nat), (10 : Nat), (13 : Nat), (13 : Nat)), ((0 : Nat), (10 : Nat), (17 : Nat), (15 : Nat))]) ∈ lw_all := lw_g (lw_at lw_m8 44 rfl) rfl
theorem q1777 : (Jvm.Cond.methodLink "ColumnarPressLaw" (50 : Nat) ({ cls := "ColumnarPress", name := "setDepth", desc := "(II)I" } : Jvm.MethodName)) ∈ lw_all := lw_g (lw_at lw_m8 45 rfl) rfl
theorem q1781 : (Jvm.Cond.methodLink "ColumnarPressLaw" (167 : Nat) ({ cls := "ColumnarPressLaw", name := "setClear", desc := "(LColumnarPress;IZ[J)I" } : Jvm.MethodName)) ∈ lw_all := lw_g (lw_at lw_m8 49 rfl) rfl
theorem q1782 : (Jvm.Cond.static ({ cls := "ColumnarPressLaw", name := "setClear", desc := "(LColumnarPress;IZ[J)I" } : Jvm.MethodName)) ∈ lw_all := lw_g (lw_at lw_m8 50 rfl) rfl
theorem q1783 : (Jvm.Cond.codeWith ({ cls := "ColumnarPressLaw", name := "setClear", desc := "(LColumnarPress;IZ[J)I" } : Jvm.MethodName) method_13_code (5 : Nat) (Option.some Jvm.ClassFile.FieldType.int) [((0 : Nat), (17 : Nat), (20 : Nat), (13 : Nat))]) ∈ lw_all := lw_g (lw_at lw_m8 51 rfl) rfl
theorem q1784 : (Jvm.Cond.methodLink "ColumnarPressLaw" (53 : Nat) ({ cls := "ColumnarPress", name := "setClear", desc := "(IZ)Z" } : Jvm.MethodName)) ∈ lw_all := lw_g (lw_at lw_m8 52 rfl) rfl
theorem q1788 : (Jvm.Cond.methodLink "ColumnarPressLaw" (171 : Nat) ({ cls := "ColumnarPressLaw", name := "setBreak", desc := "(LColumnarPress;IC[J)I" } : Jvm.MethodName)) ∈ lw_all := lw_g (lw_at lw_m8 56 rfl) rfl
theorem q1789 : (Jvm.Cond.static ({ cls := "ColumnarPressLaw", name := "setBreak", desc := "(LColumnarPress;IC[J)I" } : Jvm.MethodName)) ∈ lw_all := lw_g (lw_at lw_m8 57 rfl) rfl
theorem q1790 : (Jvm.Cond.codeWith ({ cls := "ColumnarPressLaw", name := "setBreak", desc := "(LColumnarPress;IC[J)I" } : Jvm.MethodName) method_14_code (5 : Nat) (Option.some Jvm.ClassFile.FieldType.int) [((0 : Nat), (10 : Nat), (13 : Nat), (13 : Nat)), ((0 : Nat), (10 : Nat), (17 : Nat), (15 : Nat))]) ∈ lw_all := lw_g (lw_at lw_m8 58 rfl) rfl
theorem q1791 : (Jvm.Cond.methodLink "ColumnarPressLaw" (57 : Nat) ({ cls := "ColumnarPress", name := "setBreak", desc := "(IC)C" } : Jvm.MethodName)) ∈ lw_all := lw_g (lw_at lw_m8 59 rfl) rfl
theorem q1795 : (Jvm.Cond.methodLink "ColumnarPressLaw" (174 : Nat) ({ cls := "ColumnarPressLaw", name := "setAlignment", desc := "(LColumnarPress;IC[J)I" } : Jvm.MethodName)) ∈ lw_all := lw_g (lw_at lw_m8 63 rfl) rfl
theorem q1796 : (Jvm.Cond.static ({ cls := "ColumnarPressLaw", name := "setAlignment", desc := "(LColumnarPress;IC[J)I" } : Jvm.MethodName)) ∈ lw_all := lw_g (lw_at lw_m8 64 rfl) rfl
theorem q1797 : (Jvm.Cond.codeWith ({ cls := "ColumnarPressLaw", name := "setAlignment", desc := "(LColumnarPress;IC[J)I" } : Jvm.MethodName) method_15_code (5 : Nat) (Option.some Jvm.ClassFile.FieldType.int) [((0 : Nat), (10 : Nat), (13 : Nat), (13 : Nat)), ((0 : Nat), (10 : Nat), (17 : Nat), (15 : Nat))]) ∈ lw_all := lw_g (lw_at lw_m8 65 rfl) rfl
theorem q1798 : (Jvm.Cond.methodLink "ColumnarPressLaw" (60 : Nat) ({ cls := "ColumnarPress", name := "setAlignment", desc := "(IC)C" } : Jvm.MethodName)) ∈ lw_all := lw_g (lw_at lw_m8 66 rfl) rfl
theorem q1802 : (Jvm.Cond.methodLink "ColumnarPressLaw" (177 : Nat) ({ cls := "ColumnarPressLaw", name := "layOut", desc := "(LColumnarPress;I[J)I" } : Jvm.MethodName)) ∈ lw_all := lw_g (lw_at lw_m8 70 rfl) rfl
theorem q1803 : (Jvm.Cond.static ({ cls := "ColumnarPressLaw", name := "layOut", desc := "(LColumnarPress;I[J)I" } : Jvm.MethodName)) ∈ lw_all := lw_g (lw_at lw_m8 71 rfl) rfl
theorem q1804 : (Jvm.Cond.codeWith ({ cls := "ColumnarPressLaw", name := "layOut", desc := "(LColumnarPress;I[J)I" } : Jvm.MethodName) method_16_code (4 : Nat) (Option.some Jvm.ClassFile.FieldType.int) [((0 : Nat), (9 : Nat), (12 : Nat), (15 : Nat))]) ∈ lw_all := lw_g (lw_at lw_m8 72 rfl) rfl
theorem q1805 : (Jvm.Cond.methodLink "ColumnarPressLaw" (63 : Nat) ({ cls := "ColumnarPress", name := "layOut", desc := "(I)I" } : Jvm.MethodName)) ∈ lw_all := lw_g (lw_at lw_m8 73 rfl) rfl
theorem q1809 : (Jvm.Cond.methodLink "ColumnarPressLaw" (181 : Nat) ({ cls := "ColumnarPressLaw", name := "xOf", desc := "(LColumnarPress;I[J)I" } : Jvm.MethodName)) ∈ lw_all := lw_g (lw_at lw_m8 77 rfl) rfl
theorem q1810 : (Jvm.Cond.static ({ cls := "ColumnarPressLaw", name := "xOf", desc := "(LColumnarPress;I[J)I" } : Jvm.MethodName)) ∈ lw_all := lw_g (lw_at lw_m8 78 rfl) rfl
theorem q1811 : (Jvm.Cond.codeWith ({ cls := "ColumnarPressLaw", name := "xOf", desc := "(LColumnarPress;I[J)I" } : Jvm.MethodName) method_17_code (4 : Nat) (Option.some Jvm.ClassFile.FieldType.int) [((0 : Nat), (9 : Nat), (12 : Nat), (13 : Nat)), ((0 : Nat), (9 : Nat), (15 : Nat), (17 : Nat))]) ∈ lw_all := lw_g (lw_at lw_m8 79 rfl) rfl
theorem q1812 : (Jvm.Cond.methodLink "ColumnarPressLaw" (67 : Nat) ({ cls := "ColumnarPress", name := "xOf", desc := "(I)I" } : Jvm.MethodName)) ∈ lw_all := lw_g (lw_at lw_m8 80 rfl) rfl
theorem q1830 : (Jvm.Cond.methodLink "ColumnarPressLaw" (184 : Nat) ({ cls := "ColumnarPressLaw", name := "yOf", desc := "(LColumnarPress;I[J)I" } : Jvm.MethodName)) ∈ lw_all := lw_g (lw_at lw_m8 98 rfl) rfl
theorem q1831 : (Jvm.Cond.static ({ cls := "ColumnarPressLaw", name := "yOf", desc := "(LColumnarPress;I[J)I" } : Jvm.MethodName)) ∈ lw_all := lw_g (lw_at lw_m8 99 rfl) rfl
theorem q1832 : (Jvm.Cond.codeWith ({ cls := "ColumnarPressLaw", name := "yOf", desc := "(LColumnarPress;I[J)I" } : Jvm.MethodName) method_18_code (4 : Nat) (Option.some Jvm.ClassFile.FieldType.int) [((0 : Nat), (9 : Nat), (12 : Nat), (13 : Nat)), ((0 : Nat), (9 : Nat), (15 : Nat), (17 : Nat))]) ∈ lw_all := lw_g (lw_at lw_m8 100 rfl) rfl
theorem q1833 : (Jvm.Cond.methodLink "ColumnarPressLaw" (70 : Nat) ({ cls := "ColumnarPress", name := "yOf", desc := "(I)I" } : Jvm.MethodName)) ∈ lw_all := lw_g (lw_at lw_m8 101 rfl) rfl
theorem q1842 : (Jvm.Cond.methodLink "ColumnarPressLaw" (187 : Nat) ({ cls := "ColumnarPressLaw", name := "widthOf", desc := "(LColumnarPress;I[J)I" } : Jvm.MethodName)) ∈ lw_all := lw_g (lw_at lw_m8 110 rfl) rfl
theorem q1843 : (Jvm.Cond.static ({ cls := "ColumnarPressLaw", name := "widthOf", desc := "(LColumnarPress;I[J)I" } : Jvm.MethodName)) ∈ lw_all := lw_g (lw_at lw_m8 111 rfl) rfl
theorem q1844 : (Jvm.Cond.codeWith ({ cls := "ColumnarPressLaw", name := "widthOf", desc := "(LColumnarPress;I[J)I" } : Jvm.MethodName) method_19_code (4 : Nat) (Option.some Jvm.ClassFile.FieldType.int) [((0 : Nat), (9 : Nat), (12 : Nat), (13 : Nat)), ((0 : Nat), (9 : Nat), (15 : Nat), (17 : Nat))]) ∈ lw_all := lw_g (lw_at lw_m8 112 rfl) rfl
theorem q1845 : (Jvm.Cond.methodLink "ColumnarPressLaw" (73 : Nat) ({ cls := "ColumnarPress", name := "widthOf", desc := "(I)I" } : Jvm.MethodName)) ∈ lw_all := lw_g (lw_at lw_m8 113 rfl) rfl
theorem q1849 : (Jvm.Cond.methodLink "ColumnarPressLaw" (190 : Nat) ({ cls := "ColumnarPressLaw", name := "heightOf", desc := "(LColumnarPress;I[J)I" } : Jvm.MethodName)) ∈ lw_all := lw_g (lw_at lw_m8 117 rfl) rfl
theorem q1850 : (Jvm.Cond.static ({ cls := "ColumnarPressLaw", name := "heightOf", desc := "(LColumnarPress;I[J)I" } : Jvm.MethodName)) ∈ lw_all := lw_g (lw_at lw_m8 118 rfl) rfl
theorem q1851 : (Jvm.Cond.codeWith ({ cls := "ColumnarPressLaw", name := "heightOf", desc := "(LColumnarPress;I[J)I" } : Jvm.MethodName) method_20_code (4 : Nat) (Option.some Jvm.ClassFile.FieldType.int) [((0 : Nat), (9 : Nat), (12 : Nat), (13 : Nat)), ((0 : Nat), (9 : Nat), (15 : Nat), (17 : Nat))]) ∈ lw_all := lw_g (lw_at lw_m8 119 rfl) rfl
theorem q1852 : (Jvm.Cond.methodLink "ColumnarPressLaw" (76 : Nat) ({ cls := "ColumnarPress", name := "heightOf", desc := "(I)I" } : Jvm.MethodName)) ∈ lw_all := lw_g (lw_at lw_m8 120 rfl) rfl
theorem q1856 : (Jvm.Cond.methodLink "ColumnarPressLaw" (193 : Nat) ({ cls := "ColumnarPressLaw", name := "lines", desc := "(LColumnarPress;I[J)I" } : Jvm.MethodName)) ∈ lw_all := lw_g (lw_at lw_m8 124 rfl) rfl
theorem q1857 : (Jvm.Cond.static ({ cls := "ColumnarPressLaw", name := "lines", desc := "(LColumnarPress;I[J)I" } : Jvm.MethodName)) ∈ lw_all := lw_g (lw_at lw_m8 125 rfl) rfl
theorem q1858 : (Jvm.Cond.codeWith ({ cls := "ColumnarPressLaw", name := "lines", desc := "(LColumnarPress;I[J)I" } : Jvm.MethodName) method_21_code (4 : Nat) (Option.some Jvm.ClassFile.FieldType.int) [((0 : Nat), (9 : Nat), (12 : Nat), (13 : Nat)), ((0 : Nat), (9 : Nat), (15 : Nat), (17 : Nat)), ((0 : Nat), (9 : Nat), (18 : Nat), (19 : Nat))]) ∈ lw_all := lw_g (lw_at lw_m8 126 rfl) rfl
theorem q1859 : (Jvm.Cond.methodLink "ColumnarPressLaw" (79 : Nat) ({ cls := "ColumnarPress", name := "lines", desc := "(I)I" } : Jvm.MethodName)) ∈ lw_all := lw_g (lw_at lw_m8 127 rfl) rfl
theorem q1867 : (Jvm.Cond.methodLink "ColumnarPressLaw" (196 : Nat) ({ cls := "ColumnarPressLaw", name := "wordsIn", desc := "(LColumnarPress;II[J)I" } : Jvm.MethodName)) ∈ lw_all := lw_g (lw_at lw_m8 135 rfl) rfl
theorem q1868 : (Jvm.Cond.static ({ cls := "ColumnarPressLaw", name := "wordsIn", desc := "(LColumnarPress;II[J)I" } : Jvm.MethodName)) ∈ lw_all := lw_g (lw_at lw_m8 136 rfl) rfl
theorem q1869 : (Jvm.Cond.codeWith ({ cls := "ColumnarPressLaw", name := "wordsIn", desc := "(LColumnarPress;II[J)I" } : Jvm.MethodName) method_22_code (5 : Nat) (Option.some Jvm.ClassFile.FieldType.int) [((0 : Nat), (10 : Nat), (13 : Nat), (13 : Nat)), ((0 : Nat), (10 : Nat), (17 : Nat), (17 : Nat)), ((0 : Nat), (10 : Nat), (21 : Nat), (19 : Nat)), ((0 : Nat), (10 : Nat), (25 : Nat), (85 : Nat))]) ∈ lw_all := lw_g (lw_at lw_m8 137 rfl) rfl
theorem q1870 : (Jvm.Cond.classLink "ColumnarPressLaw" (85 : Nat) "java/util/NoSuchElementException") ∈ lw_all := lw_g (lw_at lw_m8 138 rfl) rfl
theorem q1871 : (Jvm.Cond.methodLink "ColumnarPressLaw" (82 : Nat) ({ cls := "ColumnarPress", name := "wordsIn", desc := "(II)I" } : Jvm.MethodName)) ∈ lw_all := lw_g (lw_at lw_m8 139 rfl) rfl
theorem q1884 : (Jvm.Cond.methodLink "ColumnarPressLaw" (199 : Nat) ({ cls := "ColumnarPressLaw", name := "lineX", desc := "(LColumnarPress;II[J)I" } : Jvm.MethodName)) ∈ lw_all := lw_g (lw_at lw_m8 152 rfl) rfl
theorem q1885 : (Jvm.Cond.static ({ cls := "ColumnarPressLaw", name := "lineX", desc := "(LColumnarPress;II[J)I" } : Jvm.MethodName)) ∈ lw_all := lw_g (lw_at lw_m8 153 rfl) rfl
theorem q1886 : (Jvm.Cond.codeWith ({ cls := "ColumnarPressLaw", name := "lineX", desc := "(LColumnarPress;II[J)I" } : Jvm.MethodName) method_23_code (5 : Nat) (Option.some Jvm.ClassFile.FieldType.int) [((0 : Nat), (10 : Nat), (13 : Nat), (13 : Nat)), ((0 : Nat), (10 : Nat), (17 : Nat), (17 : Nat)), ((0 : Nat), (10 : Nat), (21 : Nat), (19 : Nat)), ((0 : Nat), (10 : Nat), (25 : Nat), (85 : Nat))]) ∈ lw_all := lw_g (lw_at lw_m8 154 rfl) rfl
theorem q1887 : (Jvm.Cond.methodLink "ColumnarPressLaw" (87 : Nat) ({ cls := "ColumnarPress", name := "lineX", desc := "(II)I" } : Jvm.MethodName)) ∈ lw_all := lw_g (lw_at lw_m8 155 rfl) rfl
theorem q1892 : (Jvm.Cond.methodLink "ColumnarPressLaw" (202 : Nat) ({ cls := "ColumnarPressLaw", name := "lineY", desc := "(LColumnarPress;II[J)I" } : Jvm.MethodName)) ∈ lw_all := lw_g (lw_at lw_m8 160 rfl) rfl
theorem q1893 : (Jvm.Cond.static ({ cls := "ColumnarPressLaw", name := "lineY", desc := "(LColumnarPress;II[J)I" } : Jvm.MethodName)) ∈ lw_all := lw_g (lw_at lw_m8 161 rfl) rfl
theorem q1894 : (Jvm.Cond.codeWith ({ cls := "ColumnarPressLaw", name := "lineY", desc := "(LColumnarPress;II[J)I" } : Jvm.MethodName) method_24_code (5 : Nat) (Option.some Jvm.ClassFile.FieldType.int) [((0 : Nat), (10 : Nat), (13 : Nat), (13 : Nat)), ((0 : Nat), (10 : Nat), (17 : Nat), (17 : Nat)), ((0 : Nat), (10 : Nat), (21 : Nat), (19 : Nat)), ((0 : Nat), (10 : Nat), (25 : Nat), (85 : Nat))]) ∈ lw_all := lw_g (lw_at lw_m8 162 rfl) rfl
theorem q1895 : (Jvm.Cond.methodLink "ColumnarPressLaw" (90 : Nat) ({ cls := "ColumnarPress", name := "lineY", desc := "(II)I" } : Jvm.MethodName)) ∈ lw_all := lw_g (lw_at lw_m8 163 rfl) rfl
theorem q1900 : (Jvm.Cond.methodLink "ColumnarPressLaw" (205 : Nat) ({ cls := "ColumnarPressLaw", name := "leastWidth", desc := "(LColumnarPress;I[J)I" } : Jvm.MethodName)) ∈ lw_all := lw_g (lw_at lw_m8 168 rfl) rfl
theorem q1901 : (Jvm.Cond.static ({ cls := "ColumnarPressLaw", name := "leastWidth", desc := "(LColumnarPress;I[J)I" } : Jvm.MethodName)) ∈ lw_all := lw_g (lw_at lw_m8 169 rfl) rfl
theorem q1902 : (Jvm.Cond.codeWith ({ cls := "ColumnarPressLaw", name := "leastWidth", desc := "(LColumnarPress;I[J)I" } : Jvm.MethodName) method_25_code (4 : Nat) (Option.some Jvm.ClassFile.FieldType.int) [((0 : Nat), (9 : Nat), (12 : Nat), (13 : Nat))]) ∈ lw_all := lw_g (lw_at lw_m8 170 rfl) rfl
theorem q1903 : (Jvm.Cond.methodLink "ColumnarPressLaw" (93 : Nat) ({ cls := "ColumnarPress", name := "leastWidth", desc := "(I)I" } : Jvm.MethodName)) ∈ lw_all := lw_g (lw_at lw_m8 171 rfl) rfl
theorem q1907 : (Jvm.Cond.methodLink "ColumnarPressLaw" (208 : Nat) ({ cls := "ColumnarPressLaw", name := "greatestWidth", desc := "(LColumnarPress;I[J)I" } : Jvm.MethodName)) ∈ lw_all := lw_g (lw_at lw_m8 175 rfl) rfl
theorem q1908 : (Jvm.Cond.static ({ cls := "ColumnarPressLaw", name := "greatestWidth", desc := "(LColumnarPress;I[J)I" } : Jvm.MethodName)) ∈ lw_all := lw_g (lw_at lw_m8 176 rfl) rfl
theorem q1909 : (Jvm.Cond.codeWith ({ cls := "ColumnarPressLaw", name := "greatestWidth", desc := "(LColumnarPress;I[J)I" } : Jvm.MethodName) method_26_code (4 : Nat) (Option.some Jvm.ClassFile.FieldType.int) [((0 : Nat), (9 : Nat), (12 : Nat), (13 : Nat))]) ∈ lw_all := lw_g (lw_at lw_m8 177 rfl) rfl
theorem q1910 : (Jvm.Cond.methodLink "ColumnarPressLaw" (96 : Nat) ({ cls := "ColumnarPress", name := "greatestWidth", desc := "(I)I" } : Jvm.MethodName)) ∈ lw_all := lw_g (lw_at lw_m8 178 rfl) rfl
theorem q1914 : (Jvm.Cond.methodLink "ColumnarPressLaw" (211 : Nat) ({ cls := "ColumnarPressLaw", name := "hit", desc := "(LColumnarPress;II[J)I" } : Jvm.MethodName)) ∈ lw_all := lw_g (lw_at lw_m8 182 rfl) rfl
theorem q1915 : (Jvm.Cond.static ({ cls := "ColumnarPressLaw", name := "hit", desc := "(LColumnarPress;II[J)I" } : Jvm.MethodName)) ∈ lw_all := lw_g (lw_at lw_m8 183 rfl) rfl
theorem q1916 : (Jvm.Cond.codeWith ({ cls := "ColumnarPressLaw", name := "hit", desc := "(LColumnarPress;II[J)I" } : Jvm.MethodName) method_27_code (5 : Nat) (Option.some Jvm.ClassFile.FieldType.int) [((0 : Nat), (10 : Nat), (13 : Nat), (17 : Nat)), ((0 : Nat), (10 : Nat), (17 : Nat), (85 : Nat))]) ∈ lw_all := lw_g (lw_at lw_m8 184 rfl) rfl
theorem q1917 : (Jvm.Cond.methodLink "ColumnarPressLaw" (99 : Nat) ({ cls := "ColumnarPress", name := "hit", desc := "(II)I" } : Jvm.MethodName)) ∈ lw_all := lw_g (lw_at lw_m8 185 rfl) rfl
theorem q1924 : (Jvm.Cond.methodLink "ColumnarPressLaw" (214 : Nat) ({ cls := "ColumnarPressLaw", name := "pages", desc := "(LColumnarPress;I[J)I" } : Jvm.MethodName)) ∈ lw_all := lw_g (lw_at lw_m8 192 rfl) rfl
theorem q1925 : (Jvm.Cond.static ({ cls := "ColumnarPressLaw", name := "pages", desc := "(LColumnarPress;I[J)I" } : Jvm.MethodName)) ∈ lw_all := lw_g (lw_at lw_m8 193 rfl) rfl
theorem q1926 : (Jvm.Cond.codeWith ({ cls := "ColumnarPressLaw", name := "pages", desc := "(LColumnarPress;I[J)I" } : Jvm.MethodName) method_28_code (4 : Nat) (Option.some Jvm.ClassFile.FieldType.int) [((0 : Nat), (9 : Nat), (12 : Nat), (15 : Nat)), ((0 : Nat), (9 : Nat), (15 : Nat), (17 : Nat))]) ∈ lw_all := lw_g (lw_at lw_m8 194 rfl) rfl
theorem q1927 : (Jvm.Cond.methodLink "ColumnarPressLaw" (102 : Nat) ({ cls := "ColumnarPress", name := "pages", desc := "(I)I" } : Jvm.MethodName)) ∈ lw_all := lw_g (lw_at lw_m8 195 rfl) rfl
theorem q2016 : (Jvm.Cond.methodLink "ColumnarPressLaw" (217 : Nat) ({ cls := "ColumnarPressLaw", name := "pageOf", desc := "(LColumnarPress;III[J)I" } : Jvm.MethodName)) ∈ lw_all := lw_g (lw_at lw_m9 44 rfl) rfl
theorem q2017 : (Jvm.Cond.static ({ cls := "ColumnarPressLaw", name := "pageOf", desc := "(LColumnarPress;III[J)I" } : Jvm.MethodName)) ∈ lw_all := lw_g (lw_at lw_m9 45 rfl) rfl
theorem q2018 : (Jvm.Cond.codeWith ({ cls := "ColumnarPressLaw", name := "pageOf", desc := "(LColumnarPress;III[J)I" } : Jvm.MethodName) method_29_code (6 : Nat) (Option.some Jvm.ClassFile.FieldType.int) [((0 : Nat), (12 : Nat), (15 : Nat), (15 : Nat)), ((0 : Nat), (12 : Nat), (19 : Nat), (13 : Nat)), ((0 : Nat), (12 : Nat), (23 : Nat), (17 : Nat)), ((0 : Nat), (12 : Nat), (27 : Nat), (85 : Nat))]) ∈ lw_all := lw_g (lw_at lw_m9 46 rfl) rfl
theorem q2019 : (Jvm.Cond.methodLink "ColumnarPressLaw" (105 : Nat) ({ cls := "ColumnarPress", name := "pageOf", desc := "(III)I" } : Jvm.MethodName)) ∈ lw_all := lw_g (lw_at lw_m9 47 rfl) rfl
theorem q2036 : (Jvm.Cond.methodLink "ColumnarPressLaw" (224 : Nat) ({ cls := "ColumnarPressLaw", name := "area", desc := "(LColumnarPress;[J)I" } : Jvm.MethodName)) ∈ lw_all := lw_g (lw_at lw_m9 64 rfl) rfl
theorem q2037 : (Jvm.Cond.static ({ cls := "ColumnarPressLaw", name := "area", desc := "(LColumnarPress;[J)I" } : Jvm.MethodName)) ∈ lw_all := lw_g (lw_at lw_m9 65 rfl) rfl
theorem q2038 : (Jvm.Cond.codeWith ({ cls := "ColumnarPressLaw", name := "area", desc := "(LColumnarPress;[J)I" } : Jvm.MethodName) method_30_code (3 : Nat) (Option.some Jvm.ClassFile.FieldType.int) [((0 : Nat), (7 : Nat), (10 : Nat), (17 : Nat))]) ∈ lw_all := lw_g (lw_at lw_m9 66 rfl) rfl
theorem q2039 : (Jvm.Cond.methodLink "ColumnarPressLaw" (108 : Nat) ({ cls := "ColumnarPress", name := "area", desc := "()J" } : Jvm.MethodName)) ∈ lw_all := lw_g (lw_at lw_m9 67 rfl) rfl
theorem q2043 : (Jvm.Cond.methodLink "ColumnarPressLaw" (228 : Nat) ({ cls := "ColumnarPressLaw", name := "filled", desc := "(LColumnarPress;[D)I" } : Jvm.MethodName)) ∈ lw_all := lw_g (lw_at lw_m9 71 rfl) rfl
theorem q2044 : (Jvm.Cond.static ({ cls := "ColumnarPressLaw", name := "filled", desc := "(LColumnarPress;[D)I" } : Jvm.MethodName)) ∈ lw_all := lw_g (lw_at lw_m9 72 rfl) rfl
theorem q2045 : (Jvm.Cond.codeWith ({ cls := "ColumnarPressLaw", name := "filled", desc := "(LColumnarPress;[D)I" } : Jvm.MethodName) method_31_code (3 : Nat) (Option.some Jvm.ClassFile.FieldType.int) [((0 : Nat), (8 : Nat), (11 : Nat), (17 : Nat)), ((0 : Nat), (8 : Nat), (14 : Nat), (116 : Nat))]) ∈ lw_all := lw_g (lw_at lw_m9 73 rfl) rfl
theorem q2046 : (Jvm.Cond.classLink "ColumnarPressLaw" (116 : Nat) "java/lang/ArithmeticException") ∈ lw_all := lw_g (lw_at lw_m9 74 rfl) rfl
theorem q2060 : (Jvm.Cond.methodLink "ColumnarPressLaw" (112 : Nat) ({ cls := "ColumnarPress", name := "filled", desc := "()F" } : Jvm.MethodName)) ∈ lw_all := lw_g (lw_at lw_m9 88 rfl) rfl
theorem q2069 : (Jvm.Cond.methodLink "ColumnarPressLaw" (232 : Nat) ({ cls := "ColumnarPressLaw", name := "meanLine", desc := "(LColumnarPress;[D)I" } : Jvm.MethodName)) ∈ lw_all := lw_g (lw_at lw_m9 97 rfl) rfl
theorem q2070 : (Jvm.Cond.static ({ cls := "ColumnarPressLaw", name := "meanLine", desc := "(LColumnarPress;[D)I" } : Jvm.MethodName)) ∈ lw_all := lw_g (lw_at lw_m9 98 rfl) rfl
theorem q2071 : (Jvm.Cond.codeWith ({ cls := "ColumnarPressLaw", name := "meanLine", desc := "(LColumnarPress;[D)I" } : Jvm.MethodName) method_32_code (3 : Nat) (Option.some Jvm.ClassFile.FieldType.int) [((0 : Nat), (7 : Nat), (10 : Nat), (17 : Nat)), ((0 : Nat), (7 : Nat), (13 : Nat), (116 : Nat))]) ∈ lw_all := lw_g (lw_at lw_m9 99 rfl) rfl
theorem q2072 : (Jvm.Cond.methodLink "ColumnarPressLaw" (118 : Nat) ({ cls := "ColumnarPress", name := "meanLine", desc := "()D" } : Jvm.MethodName)) ∈ lw_all := lw_g (lw_at lw_m9 100 rfl) rfl
theorem q2076 : (Jvm.Cond.classLink "ColumnarPressLaw" (123 : Nat) "ColumnarPressModel") ∈ lw_all := lw_g (lw_at lw_m9 104 rfl) rfl
theorem q2078 : (Jvm.Cond.methodLink "ColumnarPressLaw" (125 : Nat) ({ cls := "ColumnarPressModel", name := "<init>", desc := "()V" } : Jvm.MethodName)) ∈ lw_all := lw_g (lw_at lw_m9 106 rfl) rfl
theorem q2234 : (Jvm.Cond.methodLink "ColumnarPressLaw" (132 : Nat) ({ cls := "ColumnarPressModel", name := "thrown", desc := "()I" } : Jvm.MethodName)) ∈ lw_all := lw_g (lw_at lw_m10 22 rfl) rfl
theorem q2238 : (Jvm.Cond.methodLink "ColumnarPressLaw" (131 : Nat) ({ cls := "ColumnarPressModel", name := "add", desc := "(IC)I" } : Jvm.MethodName)) ∈ lw_all := lw_g (lw_at lw_m10 26 rfl) rfl
theorem q2255 : (Jvm.Cond.methodLink "ColumnarPressLaw" (139 : Nat) ({ cls := "ColumnarPressModel", name := "addWord", desc := "(II)I" } : Jvm.MethodName)) ∈ lw_all := lw_g (lw_at lw_m10 43 rfl) rfl
theorem q2264 : (Jvm.Cond.methodLink "ColumnarPressLaw" (143 : Nat) ({ cls := "ColumnarPressModel", name := "setSize", desc := "(III)I" } : Jvm.MethodName)) ∈ lw_all := lw_g (lw_at lw_m10 52 rfl) rfl
theorem q2268 : (Jvm.Cond.methodLink "ColumnarPressLaw" (147 : Nat) ({ cls := "ColumnarPressModel", name := "setMargins", desc := "(IIIII)I" } : Jvm.MethodName)) ∈ lw_all := lw_g (lw_at lw_m10 56 rfl) rfl
theorem q2272 : (Jvm.Cond.methodLink "ColumnarPressLaw" (150 : Nat) ({ cls := "ColumnarPressModel", name := "setPadding", desc := "(II)I" } : Jvm.MethodName)) ∈ lw_all := lw_g (lw_at lw_m10 60 rfl) rfl
theorem q2276 : (Jvm.Cond.methodLink "ColumnarPressLaw" (153 : Nat) ({ cls := "ColumnarPressModel", name := "setFactors", desc := "(III)I" } : Jvm.MethodName)) ∈ lw_all := lw_g (lw_at lw_m10 64 rfl) rfl
theorem q2280 : (Jvm.Cond.methodLink "ColumnarPressLaw" (156 : Nat) ({ cls := "ColumnarPressModel", name := "setColumns", desc := "(II)I" } : Jvm.MethodName)) ∈ lw_all := lw_g (lw_at lw_m10 68 rfl) rfl
theorem q2284 : (Jvm.Cond.methodLink "ColumnarPressLaw" (159 : Nat) ({ cls := "ColumnarPressModel", name := "setFloat", desc := "(IC)C" } : Jvm.MethodName)) ∈ lw_all := lw_g (lw_at lw_m10 72 rfl) rfl
theorem q2288 : (Jvm.Cond.methodLink "ColumnarPressLaw" (163 : Nat) ({ cls := "ColumnarPressModel", name := "setPlace", desc := "(ICII)C" } : Jvm.MethodName)) ∈ lw_all := lw_g (lw_at lw_m10 76 rfl) rfl
theorem q2292 : (Jvm.Cond.methodLink "ColumnarPressLaw" (166 : Nat) ({ cls := "ColumnarPressModel", name := "setDepth", desc := "(II)I" } : Jvm.MethodName)) ∈ lw_all := lw_g (lw_at lw_m10 80 rfl) rfl
theorem q2296 : (Jvm.Cond.methodLink "ColumnarPressLaw" (170 : Nat) ({ cls := "ColumnarPressModel", name := "setClear", desc := "(IZ)Z" } : Jvm.MethodName)) ∈ lw_all := lw_g (lw_at lw_m10 84 rfl) rfl
theorem q2300 : (Jvm.Cond.methodLink "ColumnarPressLaw" (173 : Nat) ({ cls := "ColumnarPressModel", name := "setBreak", desc := "(IC)C" } : Jvm.MethodName)) ∈ lw_all := lw_g (lw_at lw_m10 88 rfl) rfl
theorem q2304 : (Jvm.Cond.methodLink "ColumnarPressLaw" (176 : Nat) ({ cls := "ColumnarPressModel", name := "setAlignment", desc := "(IC)C" } : Jvm.MethodName)) ∈ lw_all := lw_g (lw_at lw_m10 92 rfl) rfl
theorem q2308 : (Jvm.Cond.methodLink "ColumnarPressLaw" (207 : Nat) ({ cls := "ColumnarPressModel", name := "leastWidth", desc := "(I)I" } : Jvm.MethodName)) ∈ lw_all := lw_g (lw_at lw_m10 96 rfl) rfl
theorem q2341 : (Jvm.Cond.methodLink "ColumnarPressLaw" (210 : Nat) ({ cls := "ColumnarPressModel", name := "greatestWidth", desc := "(I)I" } : Jvm.MethodName)) ∈ lw_all := lw_g (lw_at lw_m10 129 rfl) rfl
theorem q2345 : (Jvm.Cond.methodLink "ColumnarPressLaw" (180 : Nat) ({ cls := "ColumnarPressModel", name := "layOut", desc := "(I)I" } : Jvm.MethodName)) ∈ lw_all := lw_g (lw_at lw_m10 133 rfl) rfl
theorem q2527 : (Jvm.Cond.methodLink "ColumnarPressLaw" (183 : Nat) ({ cls := "ColumnarPressModel", name := "xOf", desc := "(I)I" } : Jvm.MethodName)) ∈ lw_all := lw_g (lw_at lw_m11 75 rfl) rfl
theorem q2559 : (Jvm.Cond.methodLink "ColumnarPressLaw" (186 : Nat) ({ cls := "ColumnarPressModel", name := "yOf", desc := "(I)I" } : Jvm.MethodName)) ∈ lw_all := lw_g (lw_at lw_m11 107 rfl) rfl
theorem q2563 : (Jvm.Cond.methodLink "ColumnarPressLaw" (189 : Nat) ({ cls := "ColumnarPressModel", name := "widthOf", desc := "(I)I" } : Jvm.MethodName)) ∈ lw_all := lw_g (lw_at lw_m11 111 rfl) rfl
theorem q2567 : (Jvm.Cond.methodLink "ColumnarPressLaw" (192 : Nat) ({ cls := "ColumnarPressModel", name := "heightOf", desc := "(I)I" } : Jvm.MethodName)) ∈ lw_all := lw_g (lw_at lw_m11 115 rfl) rfl
theorem q2571 : (Jvm.Cond.methodLink "ColumnarPressLaw" (195 : Nat) ({ cls := "ColumnarPressModel", name := "lines", desc := "(I)I" } : Jvm.MethodName)) ∈ lw_all := lw_g (lw_at lw_m11 119 rfl) rfl
theorem q2579 : (Jvm.Cond.methodLink "ColumnarPressLaw" (198 : Nat) ({ cls := "ColumnarPressModel", name := "wordsIn", desc := "(II)I" } : Jvm.MethodName)) ∈ lw_all := lw_g (lw_at lw_m11 127 rfl) rfl
theorem q2591 : (Jvm.Cond.methodLink "ColumnarPressLaw" (201 : Nat) ({ cls := "ColumnarPressModel", name := "lineX", desc := "(II)I" } : Jvm.MethodName)) ∈ lw_all := lw_g (lw_at lw_m11 139 rfl) rfl
theorem q2599 : (Jvm.Cond.methodLink "ColumnarPressLaw" (204 : Nat) ({ cls := "ColumnarPressModel", name := "lineY", desc := "(II)I" } : Jvm.MethodName)) ∈ lw_all := lw_g (lw_at lw_m11 147 rfl) rfl
theorem q2607 : (Jvm.Cond.methodLink "ColumnarPressLaw" (213 : Nat) ({ cls := "ColumnarPressModel", name := "hit", desc := "(II)I" } : Jvm.MethodName)) ∈ lw_all := lw_g (lw_at lw_m11 155 rfl) rfl
theorem q2611 : (Jvm.Cond.methodLink "ColumnarPressLaw" (216 : Nat) ({ cls := "ColumnarPressModel", name := "pages", desc := "(I)I" } : Jvm.MethodName)) ∈ lw_all := lw_g (lw_at lw_m11 159 rfl) rfl
theorem q2795 : (Jvm.Cond.methodLink "ColumnarPressLaw" (219 : Nat) ({ cls := "ColumnarPressModel", name := "pageOf", desc := "(III)I" } : Jvm.MethodName)) ∈ lw_all := lw_g (lw_at lw_m12 103 rfl) rfl
theorem q2803 : (Jvm.Cond.methodLink "ColumnarPressLaw" (223 : Nat) ({ cls := "ColumnarPressModel", name := "contexts", desc := "()I" } : Jvm.MethodName)) ∈ lw_all := lw_g (lw_at lw_m12 111 rfl) rfl
theorem q2807 : (Jvm.Cond.methodLink "ColumnarPressLaw" (227 : Nat) ({ cls := "ColumnarPressModel", name := "area", desc := "()J" } : Jvm.MethodName)) ∈ lw_all := lw_g (lw_at lw_m12 115 rfl) rfl
theorem q2811 : (Jvm.Cond.methodLink "ColumnarPressLaw" (231 : Nat) ({ cls := "ColumnarPressModel", name := "filled", desc := "()F" } : Jvm.MethodName)) ∈ lw_all := lw_g (lw_at lw_m12 119 rfl) rfl
theorem q2815 : (Jvm.Cond.methodLink "ColumnarPressLaw" (234 : Nat) ({ cls := "ColumnarPressModel", name := "meanLine", desc := "()D" } : Jvm.MethodName)) ∈ lw_all := lw_g (lw_at lw_m12 123 rfl) rfl
theorem q2819 : (Jvm.Cond.methodLink "ColumnarPressLaw" (239 : Nat) ({ cls := "ColumnarPressModel", name := "isConsistent", desc := "()Z" } : Jvm.MethodName)) ∈ lw_all := lw_g (lw_at lw_m12 127 rfl) rfl
