/-! BadCodesLaw -/
set_option maxRecDepth 100000
def RX0 : String := "BadCodesLaw"
abbrev cX0_load : ByteArray := method_3_code
def yX0_load : MethodName := ⟨RX0, "load", "(LBadCodes;I[J)I"⟩
def dkwX0_load_0 : List UInt8 := [44, 3, 42, 27, 182, 0, 7, 133, 80, 167, 0, 9, 78, 4, 172, 78, 5, 172, 3, 172]
abbrev dktX0_load_0 : List UInt8 := dkwX0_load_0 ++ []
theorem dksX0_load_0 : cX0_load.data.toList.drop 0 = dktX0_load_0 := by decide +kernel
theorem dX0_load_0 : decode cX0_load 0 = .ok (.aload_n 2, 1) := dk_44 (dk_at dksX0_load_0 0 rfl rfl)
theorem dX0_load_1 : decode cX0_load 1 = .ok (.iconst 0, 1) := dk_3 (dk_at dksX0_load_0 1 rfl rfl)
theorem dX0_load_2 : decode cX0_load 2 = .ok (.aload_n 0, 1) := dk_42 (dk_at dksX0_load_0 2 rfl rfl)
theorem dX0_load_3 : decode cX0_load 3 = .ok (.iload_n 1, 1) := dk_27 (dk_at dksX0_load_0 3 rfl rfl)
theorem dX0_load_4 : decode cX0_load 4 = .ok (.invokevirtual 7, 3) := dk_182 0 7 (dk_at dksX0_load_0 4 rfl rfl)
theorem dX0_load_7 : decode cX0_load 7 = .ok (.i2l, 1) := dk_133 (dk_at dksX0_load_0 7 rfl rfl)
theorem dX0_load_8 : decode cX0_load 8 = .ok (.lastore, 1) := dk_80 (dk_at dksX0_load_0 8 rfl rfl)
theorem dX0_load_9 : decode cX0_load 9 = .ok (.goto 9, 3) := dk_167 0 9 (dk_at dksX0_load_0 9 rfl rfl)
theorem dX0_load_12 : decode cX0_load 12 = .ok (.astore_n 3, 1) := dk_78 (dk_at dksX0_load_0 12 rfl rfl)
theorem dX0_load_13 : decode cX0_load 13 = .ok (.iconst 1, 1) := dk_4 (dk_at dksX0_load_0 13 rfl rfl)
theorem dX0_load_14 : decode cX0_load 14 = .ok (.ireturn, 1) := dk_172 (dk_at dksX0_load_0 14 rfl rfl)
theorem dX0_load_15 : decode cX0_load 15 = .ok (.astore_n 3, 1) := dk_78 (dk_at dksX0_load_0 15 rfl rfl)
theorem dX0_load_16 : decode cX0_load 16 = .ok (.iconst 2, 1) := dk_5 (dk_at dksX0_load_0 16 rfl rfl)
theorem dX0_load_17 : decode cX0_load 17 = .ok (.ireturn, 1) := dk_172 (dk_at dksX0_load_0 17 rfl rfl)
theorem dX0_load_18 : decode cX0_load 18 = .ok (.iconst 0, 1) := dk_3 (dk_at dksX0_load_0 18 rfl rfl)
theorem dX0_load_19 : decode cX0_load 19 = .ok (.ireturn, 1) := dk_172 (dk_at dksX0_load_0 19 rfl rfl)
abbrev cX0_count : ByteArray := method_4_code
def yX0_count : MethodName := ⟨RX0, "count", "(LBadCodes;I[J)I"⟩
def dkwX0_count_0 : List UInt8 := [44, 3, 42, 27, 182, 0, 17, 133, 80, 167, 0, 9, 78, 4, 172, 78, 5, 172, 3, 172]
abbrev dktX0_count_0 : List UInt8 := dkwX0_count_0 ++ []
theorem dksX0_count_0 : cX0_count.data.toList.drop 0 = dktX0_count_0 := by decide +kernel
theorem dX0_count_0 : decode cX0_count 0 = .ok (.aload_n 2, 1) := dk_44 (dk_at dksX0_count_0 0 rfl rfl)
theorem dX0_count_1 : decode cX0_count 1 = .ok (.iconst 0, 1) := dk_3 (dk_at dksX0_count_0 1 rfl rfl)
theorem dX0_count_2 : decode cX0_count 2 = .ok (.aload_n 0, 1) := dk_42 (dk_at dksX0_count_0 2 rfl rfl)
theorem dX0_count_3 : decode cX0_count 3 = .ok (.iload_n 1, 1) := dk_27 (dk_at dksX0_count_0 3 rfl rfl)
theorem dX0_count_4 : decode cX0_count 4 = .ok (.invokevirtual 17, 3) := dk_182 0 17 (dk_at dksX0_count_0 4 rfl rfl)
theorem dX0_count_7 : decode cX0_count 7 = .ok (.i2l, 1) := dk_133 (dk_at dksX0_count_0 7 rfl rfl)
theorem dX0_count_8 : decode cX0_count 8 = .ok (.lastore, 1) := dk_80 (dk_at dksX0_count_0 8 rfl rfl)
theorem dX0_count_9 : decode cX0_count 9 = .ok (.goto 9, 3) := dk_167 0 9 (dk_at dksX0_count_0 9 rfl rfl)
theorem dX0_count_12 : decode cX0_count 12 = .ok (.astore_n 3, 1) := dk_78 (dk_at dksX0_count_0 12 rfl rfl)
theorem dX0_count_13 : decode cX0_count 13 = .ok (.iconst 1, 1) := dk_4 (dk_at dksX0_count_0 13 rfl rfl)
theorem dX0_count_14 : decode cX0_count 14 = .ok (.ireturn, 1) := dk_172 (dk_at dksX0_count_0 14 rfl rfl)
theorem dX0_count_15 : decode cX0_count 15 = .ok (.astore_n 3, 1) := dk_78 (dk_at dksX0_count_0 15 rfl rfl)
theorem dX0_count_16 : decode cX0_count 16 = .ok (.iconst 2, 1) := dk_5 (dk_at dksX0_count_0 16 rfl rfl)
theorem dX0_count_17 : decode cX0_count 17 = .ok (.ireturn, 1) := dk_172 (dk_at dksX0_count_0 17 rfl rfl)
theorem dX0_count_18 : decode cX0_count 18 = .ok (.iconst 0, 1) := dk_3 (dk_at dksX0_count_0 18 rfl rfl)
theorem dX0_count_19 : decode cX0_count 19 = .ok (.ireturn, 1) := dk_172 (dk_at dksX0_count_0 19 rfl rfl)
abbrev cX0_town : ByteArray := method_5_code
def yX0_town : MethodName := ⟨RX0, "town", "(LBadCodes;II[J)I"⟩
def dkwX0_town_1 : List UInt8 := [172, 3, 172]
abbrev dktX0_town_1 : List UInt8 := dkwX0_town_1 ++ []
def dkwX0_town_0 : List UInt8 := [45, 3, 42, 27, 28, 182, 0, 22, 133, 80, 167, 0, 15, 58, 4, 4, 172, 58, 4, 5, 172, 58, 4, 6]
abbrev dktX0_town_0 : List UInt8 := dkwX0_town_0 ++ dktX0_town_1
theorem dksX0_town_0 : cX0_town.data.toList.drop 0 = dktX0_town_0 := by decide +kernel
theorem dksX0_town_1 : cX0_town.data.toList.drop 24 = dktX0_town_1 := dk_seg dksX0_town_0 24 rfl rfl
theorem dX0_town_0 : decode cX0_town 0 = .ok (.aload_n 3, 1) := dk_45 (dk_at dksX0_town_0 0 rfl rfl)
theorem dX0_town_1 : decode cX0_town 1 = .ok (.iconst 0, 1) := dk_3 (dk_at dksX0_town_0 1 rfl rfl)
theorem dX0_town_2 : decode cX0_town 2 = .ok (.aload_n 0, 1) := dk_42 (dk_at dksX0_town_0 2 rfl rfl)
theorem dX0_town_3 : decode cX0_town 3 = .ok (.iload_n 1, 1) := dk_27 (dk_at dksX0_town_0 3 rfl rfl)
theorem dX0_town_4 : decode cX0_town 4 = .ok (.iload_n 2, 1) := dk_28 (dk_at dksX0_town_0 4 rfl rfl)
theorem dX0_town_5 : decode cX0_town 5 = .ok (.invokevirtual 22, 3) := dk_182 0 22 (dk_at dksX0_town_0 5 rfl rfl)
theorem dX0_town_8 : decode cX0_town 8 = .ok (.i2l, 1) := dk_133 (dk_at dksX0_town_0 8 rfl rfl)
theorem dX0_town_9 : decode cX0_town 9 = .ok (.lastore, 1) := dk_80 (dk_at dksX0_town_0 9 rfl rfl)
theorem dX0_town_10 : decode cX0_town 10 = .ok (.goto 15, 3) := dk_167 0 15 (dk_at dksX0_town_0 10 rfl rfl)
theorem dX0_town_13 : decode cX0_town 13 = .ok (.astore 4, 2) := dk_58 4 (dk_at dksX0_town_0 13 rfl rfl)
theorem dX0_town_15 : decode cX0_town 15 = .ok (.iconst 1, 1) := dk_4 (dk_at dksX0_town_0 15 rfl rfl)
theorem dX0_town_16 : decode cX0_town 16 = .ok (.ireturn, 1) := dk_172 (dk_at dksX0_town_0 16 rfl rfl)
theorem dX0_town_17 : decode cX0_town 17 = .ok (.astore 4, 2) := dk_58 4 (dk_at dksX0_town_0 17 rfl rfl)
theorem dX0_town_19 : decode cX0_town 19 = .ok (.iconst 2, 1) := dk_5 (dk_at dksX0_town_0 19 rfl rfl)
theorem dX0_town_20 : decode cX0_town 20 = .ok (.ireturn, 1) := dk_172 (dk_at dksX0_town_0 20 rfl rfl)
theorem dX0_town_21 : decode cX0_town 21 = .ok (.astore 4, 2) := dk_58 4 (dk_at dksX0_town_0 21 rfl rfl)
theorem dX0_town_23 : decode cX0_town 23 = .ok (.iconst 3, 1) := dk_6 (dk_at dksX0_town_0 23 rfl rfl)
theorem dX0_town_24 : decode cX0_town 24 = .ok (.ireturn, 1) := dk_172 (dk_at dksX0_town_1 0 rfl rfl)
theorem dX0_town_25 : decode cX0_town 25 = .ok (.iconst 0, 1) := dk_3 (dk_at dksX0_town_1 1 rfl rfl)
theorem dX0_town_26 : decode cX0_town 26 = .ok (.ireturn, 1) := dk_172 (dk_at dksX0_town_1 2 rfl rfl)
abbrev cX0_codeDigit : ByteArray := method_6_code
def yX0_codeDigit : MethodName := ⟨RX0, "codeDigit", "(LBadCodes;II[J)I"⟩
def dkwX0_codeDigit_0 : List UInt8 := [45, 3, 42, 27, 28, 182, 0, 26, 133, 80, 167, 0, 11, 58, 4, 4, 172, 58, 4, 5, 172, 3, 172]
abbrev dktX0_codeDigit_0 : List UInt8 := dkwX0_codeDigit_0 ++ []
theorem dksX0_codeDigit_0 : cX0_codeDigit.data.toList.drop 0 = dktX0_codeDigit_0 := by decide +kernel
theorem dX0_codeDigit_0 : decode cX0_codeDigit 0 = .ok (.aload_n 3, 1) := dk_45 (dk_at dksX0_codeDigit_0 0 rfl rfl)
theorem dX0_codeDigit_1 : decode cX0_codeDigit 1 = .ok (.iconst 0, 1) := dk_3 (dk_at dksX0_codeDigit_0 1 rfl rfl)
theorem dX0_codeDigit_2 : decode cX0_codeDigit 2 = .ok (.aload_n 0, 1) := dk_42 (dk_at dksX0_codeDigit_0 2 rfl rfl)
theorem dX0_codeDigit_3 : decode cX0_codeDigit 3 = .ok (.iload_n 1, 1) := dk_27 (dk_at dksX0_codeDigit_0 3 rfl rfl)
theorem dX0_codeDigit_4 : decode cX0_codeDigit 4 = .ok (.iload_n 2, 1) := dk_28 (dk_at dksX0_codeDigit_0 4 rfl rfl)
theorem dX0_codeDigit_5 : decode cX0_codeDigit 5 = .ok (.invokevirtual 26, 3) := dk_182 0 26 (dk_at dksX0_codeDigit_0 5 rfl rfl)
theorem dX0_codeDigit_8 : decode cX0_codeDigit 8 = .ok (.i2l, 1) := dk_133 (dk_at dksX0_codeDigit_0 8 rfl rfl)
theorem dX0_codeDigit_9 : decode cX0_codeDigit 9 = .ok (.lastore, 1) := dk_80 (dk_at dksX0_codeDigit_0 9 rfl rfl)
theorem dX0_codeDigit_10 : decode cX0_codeDigit 10 = .ok (.goto 11, 3) := dk_167 0 11 (dk_at dksX0_codeDigit_0 10 rfl rfl)
theorem dX0_codeDigit_13 : decode cX0_codeDigit 13 = .ok (.astore 4, 2) := dk_58 4 (dk_at dksX0_codeDigit_0 13 rfl rfl)
theorem dX0_codeDigit_15 : decode cX0_codeDigit 15 = .ok (.iconst 1, 1) := dk_4 (dk_at dksX0_codeDigit_0 15 rfl rfl)
theorem dX0_codeDigit_16 : decode cX0_codeDigit 16 = .ok (.ireturn, 1) := dk_172 (dk_at dksX0_codeDigit_0 16 rfl rfl)
theorem dX0_codeDigit_17 : decode cX0_codeDigit 17 = .ok (.astore 4, 2) := dk_58 4 (dk_at dksX0_codeDigit_0 17 rfl rfl)
theorem dX0_codeDigit_19 : decode cX0_codeDigit 19 = .ok (.iconst 2, 1) := dk_5 (dk_at dksX0_codeDigit_0 19 rfl rfl)
theorem dX0_codeDigit_20 : decode cX0_codeDigit 20 = .ok (.ireturn, 1) := dk_172 (dk_at dksX0_codeDigit_0 20 rfl rfl)
theorem dX0_codeDigit_21 : decode cX0_codeDigit 21 = .ok (.iconst 0, 1) := dk_3 (dk_at dksX0_codeDigit_0 21 rfl rfl)
theorem dX0_codeDigit_22 : decode cX0_codeDigit 22 = .ok (.ireturn, 1) := dk_172 (dk_at dksX0_codeDigit_0 22 rfl rfl)
abbrev cX0_checkDigit : ByteArray := method_7_code
def yX0_checkDigit : MethodName := ⟨RX0, "checkDigit", "(LBadCodes;I[J)I"⟩
def dkwX0_checkDigit_0 : List UInt8 := [44, 3, 42, 27, 182, 0, 29, 133, 80, 167, 0, 9, 78, 4, 172, 78, 5, 172, 3, 172]
abbrev dktX0_checkDigit_0 : List UInt8 := dkwX0_checkDigit_0 ++ []
theorem dksX0_checkDigit_0 : cX0_checkDigit.data.toList.drop 0 = dktX0_checkDigit_0 := by decide +kernel
theorem dX0_checkDigit_0 : decode cX0_checkDigit 0 = .ok (.aload_n 2, 1) := dk_44 (dk_at dksX0_checkDigit_0 0 rfl rfl)
theorem dX0_checkDigit_1 : decode cX0_checkDigit 1 = .ok (.iconst 0, 1) := dk_3 (dk_at dksX0_checkDigit_0 1 rfl rfl)
theorem dX0_checkDigit_2 : decode cX0_checkDigit 2 = .ok (.aload_n 0, 1) := dk_42 (dk_at dksX0_checkDigit_0 2 rfl rfl)
theorem dX0_checkDigit_3 : decode cX0_checkDigit 3 = .ok (.iload_n 1, 1) := dk_27 (dk_at dksX0_checkDigit_0 3 rfl rfl)
theorem dX0_checkDigit_4 : decode cX0_checkDigit 4 = .ok (.invokevirtual 29, 3) := dk_182 0 29 (dk_at dksX0_checkDigit_0 4 rfl rfl)
theorem dX0_checkDigit_7 : decode cX0_checkDigit 7 = .ok (.i2l, 1) := dk_133 (dk_at dksX0_checkDigit_0 7 rfl rfl)
theorem dX0_checkDigit_8 : decode cX0_checkDigit 8 = .ok (.lastore, 1) := dk_80 (dk_at dksX0_checkDigit_0 8 rfl rfl)
theorem dX0_checkDigit_9 : decode cX0_checkDigit 9 = .ok (.goto 9, 3) := dk_167 0 9 (dk_at dksX0_checkDigit_0 9 rfl rfl)
theorem dX0_checkDigit_12 : decode cX0_checkDigit 12 = .ok (.astore_n 3, 1) := dk_78 (dk_at dksX0_checkDigit_0 12 rfl rfl)
theorem dX0_checkDigit_13 : decode cX0_checkDigit 13 = .ok (.iconst 1, 1) := dk_4 (dk_at dksX0_checkDigit_0 13 rfl rfl)
theorem dX0_checkDigit_14 : decode cX0_checkDigit 14 = .ok (.ireturn, 1) := dk_172 (dk_at dksX0_checkDigit_0 14 rfl rfl)
theorem dX0_checkDigit_15 : decode cX0_checkDigit 15 = .ok (.astore_n 3, 1) := dk_78 (dk_at dksX0_checkDigit_0 15 rfl rfl)
theorem dX0_checkDigit_16 : decode cX0_checkDigit 16 = .ok (.iconst 2, 1) := dk_5 (dk_at dksX0_checkDigit_0 16 rfl rfl)
theorem dX0_checkDigit_17 : decode cX0_checkDigit 17 = .ok (.ireturn, 1) := dk_172 (dk_at dksX0_checkDigit_0 17 rfl rfl)
theorem dX0_checkDigit_18 : decode cX0_checkDigit 18 = .ok (.iconst 0, 1) := dk_3 (dk_at dksX0_checkDigit_0 18 rfl rfl)
theorem dX0_checkDigit_19 : decode cX0_checkDigit 19 = .ok (.ireturn, 1) := dk_172 (dk_at dksX0_checkDigit_0 19 rfl rfl)
abbrev cX0_apart : ByteArray := method_8_code
def yX0_apart : MethodName := ⟨RX0, "apart", "(LBadCodes;II[J)I"⟩
def dkwX0_apart_0 : List UInt8 := [45, 3, 42, 27, 28, 182, 0, 32, 133, 80, 167, 0, 11, 58, 4, 4, 172, 58, 4, 5, 172, 3, 172]
abbrev dktX0_apart_0 : List UInt8 := dkwX0_apart_0 ++ []
theorem dksX0_apart_0 : cX0_apart.data.toList.drop 0 = dktX0_apart_0 := by decide +kernel
theorem dX0_apart_0 : decode cX0_apart 0 = .ok (.aload_n 3, 1) := dk_45 (dk_at dksX0_apart_0 0 rfl rfl)
theorem dX0_apart_1 : decode cX0_apart 1 = .ok (.iconst 0, 1) := dk_3 (dk_at dksX0_apart_0 1 rfl rfl)
theorem dX0_apart_2 : decode cX0_apart 2 = .ok (.aload_n 0, 1) := dk_42 (dk_at dksX0_apart_0 2 rfl rfl)
theorem dX0_apart_3 : decode cX0_apart 3 = .ok (.iload_n 1, 1) := dk_27 (dk_at dksX0_apart_0 3 rfl rfl)
theorem dX0_apart_4 : decode cX0_apart 4 = .ok (.iload_n 2, 1) := dk_28 (dk_at dksX0_apart_0 4 rfl rfl)
theorem dX0_apart_5 : decode cX0_apart 5 = .ok (.invokevirtual 32, 3) := dk_182 0 32 (dk_at dksX0_apart_0 5 rfl rfl)
theorem dX0_apart_8 : decode cX0_apart 8 = .ok (.i2l, 1) := dk_133 (dk_at dksX0_apart_0 8 rfl rfl)
theorem dX0_apart_9 : decode cX0_apart 9 = .ok (.lastore, 1) := dk_80 (dk_at dksX0_apart_0 9 rfl rfl)
theorem dX0_apart_10 : decode cX0_apart 10 = .ok (.goto 11, 3) := dk_167 0 11 (dk_at dksX0_apart_0 10 rfl rfl)
theorem dX0_apart_13 : decode cX0_apart 13 = .ok (.astore 4, 2) := dk_58 4 (dk_at dksX0_apart_0 13 rfl rfl)
theorem dX0_apart_15 : decode cX0_apart 15 = .ok (.iconst 1, 1) := dk_4 (dk_at dksX0_apart_0 15 rfl rfl)
theorem dX0_apart_16 : decode cX0_apart 16 = .ok (.ireturn, 1) := dk_172 (dk_at dksX0_apart_0 16 rfl rfl)
theorem dX0_apart_17 : decode cX0_apart 17 = .ok (.astore 4, 2) := dk_58 4 (dk_at dksX0_apart_0 17 rfl rfl)
theorem dX0_apart_19 : decode cX0_apart 19 = .ok (.iconst 2, 1) := dk_5 (dk_at dksX0_apart_0 19 rfl rfl)
theorem dX0_apart_20 : decode cX0_apart 20 = .ok (.ireturn, 1) := dk_172 (dk_at dksX0_apart_0 20 rfl rfl)
theorem dX0_apart_21 : decode cX0_apart 21 = .ok (.iconst 0, 1) := dk_3 (dk_at dksX0_apart_0 21 rfl rfl)
theorem dX0_apart_22 : decode cX0_apart 22 = .ok (.ireturn, 1) := dk_172 (dk_at dksX0_apart_0 22 rfl rfl)
abbrev cX0_closest : ByteArray := method_9_code
def yX0_closest : MethodName := ⟨RX0, "closest", "(LBadCodes;I[J)I"⟩
def dkwX0_closest_0 : List UInt8 := [44, 3, 42, 27, 182, 0, 35, 133, 80, 167, 0, 9, 78, 4, 172, 78, 5, 172, 3, 172]
abbrev dktX0_closest_0 : List UInt8 := dkwX0_closest_0 ++ []
theorem dksX0_closest_0 : cX0_closest.data.toList.drop 0 = dktX0_closest_0 := by decide +kernel
theorem dX0_closest_0 : decode cX0_closest 0 = .ok (.aload_n 2, 1) := dk_44 (dk_at dksX0_closest_0 0 rfl rfl)
theorem dX0_closest_1 : decode cX0_closest 1 = .ok (.iconst 0, 1) := dk_3 (dk_at dksX0_closest_0 1 rfl rfl)
theorem dX0_closest_2 : decode cX0_closest 2 = .ok (.aload_n 0, 1) := dk_42 (dk_at dksX0_closest_0 2 rfl rfl)
theorem dX0_closest_3 : decode cX0_closest 3 = .ok (.iload_n 1, 1) := dk_27 (dk_at dksX0_closest_0 3 rfl rfl)
theorem dX0_closest_4 : decode cX0_closest 4 = .ok (.invokevirtual 35, 3) := dk_182 0 35 (dk_at dksX0_closest_0 4 rfl rfl)
theorem dX0_closest_7 : decode cX0_closest 7 = .ok (.i2l, 1) := dk_133 (dk_at dksX0_closest_0 7 rfl rfl)
theorem dX0_closest_8 : decode cX0_closest 8 = .ok (.lastore, 1) := dk_80 (dk_at dksX0_closest_0 8 rfl rfl)
theorem dX0_closest_9 : decode cX0_closest 9 = .ok (.goto 9, 3) := dk_167 0 9 (dk_at dksX0_closest_0 9 rfl rfl)
theorem dX0_closest_12 : decode cX0_closest 12 = .ok (.astore_n 3, 1) := dk_78 (dk_at dksX0_closest_0 12 rfl rfl)
theorem dX0_closest_13 : decode cX0_closest 13 = .ok (.iconst 1, 1) := dk_4 (dk_at dksX0_closest_0 13 rfl rfl)
theorem dX0_closest_14 : decode cX0_closest 14 = .ok (.ireturn, 1) := dk_172 (dk_at dksX0_closest_0 14 rfl rfl)
theorem dX0_closest_15 : decode cX0_closest 15 = .ok (.astore_n 3, 1) := dk_78 (dk_at dksX0_closest_0 15 rfl rfl)
theorem dX0_closest_16 : decode cX0_closest 16 = .ok (.iconst 2, 1) := dk_5 (dk_at dksX0_closest_0 16 rfl rfl)
theorem dX0_closest_17 : decode cX0_closest 17 = .ok (.ireturn, 1) := dk_172 (dk_at dksX0_closest_0 17 rfl rfl)
theorem dX0_closest_18 : decode cX0_closest 18 = .ok (.iconst 0, 1) := dk_3 (dk_at dksX0_closest_0 18 rfl rfl)
theorem dX0_closest_19 : decode cX0_closest 19 = .ok (.ireturn, 1) := dk_172 (dk_at dksX0_closest_0 19 rfl rfl)
abbrev cX0_letter : ByteArray := method_10_code
def yX0_letter : MethodName := ⟨RX0, "letter", "(LBadCodes;II[J)I"⟩
def dkwX0_letter_1 : List UInt8 := [172, 3, 172]
abbrev dktX0_letter_1 : List UInt8 := dkwX0_letter_1 ++ []
def dkwX0_letter_0 : List UInt8 := [45, 3, 42, 27, 28, 182, 0, 38, 133, 80, 167, 0, 15, 58, 4, 4, 172, 58, 4, 5, 172, 58, 4, 6]
abbrev dktX0_letter_0 : List UInt8 := dkwX0_letter_0 ++ dktX0_letter_1
theorem dksX0_letter_0 : cX0_letter.data.toList.drop 0 = dktX0_letter_0 := by decide +kernel
theorem dksX0_letter_1 : cX0_letter.data.toList.drop 24 = dktX0_letter_1 := dk_seg dksX0_letter_0 24 rfl rfl
theorem dX0_letter_0 : decode cX0_letter 0 = .ok (.aload_n 3, 1) := dk_45 (dk_at dksX0_letter_0 0 rfl rfl)
theorem dX0_letter_1 : decode cX0_letter 1 = .ok (.iconst 0, 1) := dk_3 (dk_at dksX0_letter_0 1 rfl rfl)
theorem dX0_letter_2 : decode cX0_letter 2 = .ok (.aload_n 0, 1) := dk_42 (dk_at dksX0_letter_0 2 rfl rfl)
theorem dX0_letter_3 : decode cX0_letter 3 = .ok (.iload_n 1, 1) := dk_27 (dk_at dksX0_letter_0 3 rfl rfl)
theorem dX0_letter_4 : decode cX0_letter 4 = .ok (.iload_n 2, 1) := dk_28 (dk_at dksX0_letter_0 4 rfl rfl)
theorem dX0_letter_5 : decode cX0_letter 5 = .ok (.invokevirtual 38, 3) := dk_182 0 38 (dk_at dksX0_letter_0 5 rfl rfl)
theorem dX0_letter_8 : decode cX0_letter 8 = .ok (.i2l, 1) := dk_133 (dk_at dksX0_letter_0 8 rfl rfl)
theorem dX0_letter_9 : decode cX0_letter 9 = .ok (.lastore, 1) := dk_80 (dk_at dksX0_letter_0 9 rfl rfl)
theorem dX0_letter_10 : decode cX0_letter 10 = .ok (.goto 15, 3) := dk_167 0 15 (dk_at dksX0_letter_0 10 rfl rfl)
theorem dX0_letter_13 : decode cX0_letter 13 = .ok (.astore 4, 2) := dk_58 4 (dk_at dksX0_letter_0 13 rfl rfl)
theorem dX0_letter_15 : decode cX0_letter 15 = .ok (.iconst 1, 1) := dk_4 (dk_at dksX0_letter_0 15 rfl rfl)
theorem dX0_letter_16 : decode cX0_letter 16 = .ok (.ireturn, 1) := dk_172 (dk_at dksX0_letter_0 16 rfl rfl)
theorem dX0_letter_17 : decode cX0_letter 17 = .ok (.astore 4, 2) := dk_58 4 (dk_at dksX0_letter_0 17 rfl rfl)
theorem dX0_letter_19 : decode cX0_letter 19 = .ok (.iconst 2, 1) := dk_5 (dk_at dksX0_letter_0 19 rfl rfl)
theorem dX0_letter_20 : decode cX0_letter 20 = .ok (.ireturn, 1) := dk_172 (dk_at dksX0_letter_0 20 rfl rfl)
theorem dX0_letter_21 : decode cX0_letter 21 = .ok (.astore 4, 2) := dk_58 4 (dk_at dksX0_letter_0 21 rfl rfl)
theorem dX0_letter_23 : decode cX0_letter 23 = .ok (.iconst 3, 1) := dk_6 (dk_at dksX0_letter_0 23 rfl rfl)
theorem dX0_letter_24 : decode cX0_letter 24 = .ok (.ireturn, 1) := dk_172 (dk_at dksX0_letter_1 0 rfl rfl)
theorem dX0_letter_25 : decode cX0_letter 25 = .ok (.iconst 0, 1) := dk_3 (dk_at dksX0_letter_1 1 rfl rfl)
theorem dX0_letter_26 : decode cX0_letter 26 = .ok (.ireturn, 1) := dk_172 (dk_at dksX0_letter_1 2 rfl rfl)
abbrev cX0_read : ByteArray := method_11_code
def yX0_read : MethodName := ⟨RX0, "read", "(LBadCodes;II[J)I"⟩
def dkwX0_read_0 : List UInt8 := [45, 3, 42, 27, 28, 182, 0, 41, 133, 80, 167, 0, 11, 58, 4, 4, 172, 58, 4, 5, 172, 3, 172]
abbrev dktX0_read_0 : List UInt8 := dkwX0_read_0 ++ []
theorem dksX0_read_0 : cX0_read.data.toList.drop 0 = dktX0_read_0 := by decide +kernel
theorem dX0_read_0 : decode cX0_read 0 = .ok (.aload_n 3, 1) := dk_45 (dk_at dksX0_read_0 0 rfl rfl)
theorem dX0_read_1 : decode cX0_read 1 = .ok (.iconst 0, 1) := dk_3 (dk_at dksX0_read_0 1 rfl rfl)
theorem dX0_read_2 : decode cX0_read 2 = .ok (.aload_n 0, 1) := dk_42 (dk_at dksX0_read_0 2 rfl rfl)
theorem dX0_read_3 : decode cX0_read 3 = .ok (.iload_n 1, 1) := dk_27 (dk_at dksX0_read_0 3 rfl rfl)
theorem dX0_read_4 : decode cX0_read 4 = .ok (.iload_n 2, 1) := dk_28 (dk_at dksX0_read_0 4 rfl rfl)
theorem dX0_read_5 : decode cX0_read 5 = .ok (.invokevirtual 41, 3) := dk_182 0 41 (dk_at dksX0_read_0 5 rfl rfl)
theorem dX0_read_8 : decode cX0_read 8 = .ok (.i2l, 1) := dk_133 (dk_at dksX0_read_0 8 rfl rfl)
theorem dX0_read_9 : decode cX0_read 9 = .ok (.lastore, 1) := dk_80 (dk_at dksX0_read_0 9 rfl rfl)
theorem dX0_read_10 : decode cX0_read 10 = .ok (.goto 11, 3) := dk_167 0 11 (dk_at dksX0_read_0 10 rfl rfl)
theorem dX0_read_13 : decode cX0_read 13 = .ok (.astore 4, 2) := dk_58 4 (dk_at dksX0_read_0 13 rfl rfl)
theorem dX0_read_15 : decode cX0_read 15 = .ok (.iconst 1, 1) := dk_4 (dk_at dksX0_read_0 15 rfl rfl)
theorem dX0_read_16 : decode cX0_read 16 = .ok (.ireturn, 1) := dk_172 (dk_at dksX0_read_0 16 rfl rfl)
theorem dX0_read_17 : decode cX0_read 17 = .ok (.astore 4, 2) := dk_58 4 (dk_at dksX0_read_0 17 rfl rfl)
theorem dX0_read_19 : decode cX0_read 19 = .ok (.iconst 2, 1) := dk_5 (dk_at dksX0_read_0 19 rfl rfl)
theorem dX0_read_20 : decode cX0_read 20 = .ok (.ireturn, 1) := dk_172 (dk_at dksX0_read_0 20 rfl rfl)
theorem dX0_read_21 : decode cX0_read 21 = .ok (.iconst 0, 1) := dk_3 (dk_at dksX0_read_0 21 rfl rfl)
theorem dX0_read_22 : decode cX0_read 22 = .ok (.ireturn, 1) := dk_172 (dk_at dksX0_read_0 22 rfl rfl)
abbrev cX0_isRight : ByteArray := method_12_code
def yX0_isRight : MethodName := ⟨RX0, "isRight", "(LBadCodes;I[J)I"⟩
def dkwX0_isRight_1 : List UInt8 := [172, 3, 172]
abbrev dktX0_isRight_1 : List UInt8 := dkwX0_isRight_1 ++ []
def dkwX0_isRight_0 : List UInt8 := [44, 3, 42, 27, 182, 0, 44, 153, 0, 7, 10, 167, 0, 4, 9, 80, 167, 0, 9, 78, 4, 172, 78, 5]
abbrev dktX0_isRight_0 : List UInt8 := dkwX0_isRight_0 ++ dktX0_isRight_1
theorem dksX0_isRight_0 : cX0_isRight.data.toList.drop 0 = dktX0_isRight_0 := by decide +kernel
theorem dksX0_isRight_1 : cX0_isRight.data.toList.drop 24 = dktX0_isRight_1 := dk_seg dksX0_isRight_0 24 rfl rfl
theorem dX0_isRight_0 : decode cX0_isRight 0 = .ok (.aload_n 2, 1) := dk_44 (dk_at dksX0_isRight_0 0 rfl rfl)
theorem dX0_isRight_1 : decode cX0_isRight 1 = .ok (.iconst 0, 1) := dk_3 (dk_at dksX0_isRight_0 1 rfl rfl)
theorem dX0_isRight_2 : decode cX0_isRight 2 = .ok (.aload_n 0, 1) := dk_42 (dk_at dksX0_isRight_0 2 rfl rfl)
theorem dX0_isRight_3 : decode cX0_isRight 3 = .ok (.iload_n 1, 1) := dk_27 (dk_at dksX0_isRight_0 3 rfl rfl)
theorem dX0_isRight_4 : decode cX0_isRight 4 = .ok (.invokevirtual 44, 3) := dk_182 0 44 (dk_at dksX0_isRight_0 4 rfl rfl)
theorem dX0_isRight_7 : decode cX0_isRight 7 = .ok (.ifCond .eq 7, 3) := dk_153 0 7 (dk_at dksX0_isRight_0 7 rfl rfl)
theorem dX0_isRight_10 : decode cX0_isRight 10 = .ok (.lconst 1, 1) := dk_10 (dk_at dksX0_isRight_0 10 rfl rfl)
theorem dX0_isRight_11 : decode cX0_isRight 11 = .ok (.goto 4, 3) := dk_167 0 4 (dk_at dksX0_isRight_0 11 rfl rfl)
theorem dX0_isRight_14 : decode cX0_isRight 14 = .ok (.lconst 0, 1) := dk_9 (dk_at dksX0_isRight_0 14 rfl rfl)
theorem dX0_isRight_15 : decode cX0_isRight 15 = .ok (.lastore, 1) := dk_80 (dk_at dksX0_isRight_0 15 rfl rfl)
theorem dX0_isRight_16 : decode cX0_isRight 16 = .ok (.goto 9, 3) := dk_167 0 9 (dk_at dksX0_isRight_0 16 rfl rfl)
theorem dX0_isRight_19 : decode cX0_isRight 19 = .ok (.astore_n 3, 1) := dk_78 (dk_at dksX0_isRight_0 19 rfl rfl)
theorem dX0_isRight_20 : decode cX0_isRight 20 = .ok (.iconst 1, 1) := dk_4 (dk_at dksX0_isRight_0 20 rfl rfl)
theorem dX0_isRight_21 : decode cX0_isRight 21 = .ok (.ireturn, 1) := dk_172 (dk_at dksX0_isRight_0 21 rfl rfl)
theorem dX0_isRight_22 : decode cX0_isRight 22 = .ok (.astore_n 3, 1) := dk_78 (dk_at dksX0_isRight_0 22 rfl rfl)
theorem dX0_isRight_23 : decode cX0_isRight 23 = .ok (.iconst 2, 1) := dk_5 (dk_at dksX0_isRight_0 23 rfl rfl)
theorem dX0_isRight_24 : decode cX0_isRight 24 = .ok (.ireturn, 1) := dk_172 (dk_at dksX0_isRight_1 0 rfl rfl)
theorem dX0_isRight_25 : decode cX0_isRight 25 = .ok (.iconst 0, 1) := dk_3 (dk_at dksX0_isRight_1 1 rfl rfl)
theorem dX0_isRight_26 : decode cX0_isRight 26 = .ok (.ireturn, 1) := dk_172 (dk_at dksX0_isRight_1 2 rfl rfl)
abbrev cX0_distance : ByteArray := method_13_code
def yX0_distance : MethodName := ⟨RX0, "distance", "(LBadCodes;II[J)I"⟩
def dkwX0_distance_0 : List UInt8 := [45, 3, 42, 27, 28, 182, 0, 48, 133, 80, 167, 0, 11, 58, 4, 4, 172, 58, 4, 5, 172, 3, 172]
abbrev dktX0_distance_0 : List UInt8 := dkwX0_distance_0 ++ []
theorem dksX0_distance_0 : cX0_distance.data.toList.drop 0 = dktX0_distance_0 := by decide +kernel
theorem dX0_distance_0 : decode cX0_distance 0 = .ok (.aload_n 3, 1) := dk_45 (dk_at dksX0_distance_0 0 rfl rfl)
theorem dX0_distance_1 : decode cX0_distance 1 = .ok (.iconst 0, 1) := dk_3 (dk_at dksX0_distance_0 1 rfl rfl)
theorem dX0_distance_2 : decode cX0_distance 2 = .ok (.aload_n 0, 1) := dk_42 (dk_at dksX0_distance_0 2 rfl rfl)
theorem dX0_distance_3 : decode cX0_distance 3 = .ok (.iload_n 1, 1) := dk_27 (dk_at dksX0_distance_0 3 rfl rfl)
theorem dX0_distance_4 : decode cX0_distance 4 = .ok (.iload_n 2, 1) := dk_28 (dk_at dksX0_distance_0 4 rfl rfl)
theorem dX0_distance_5 : decode cX0_distance 5 = .ok (.invokevirtual 48, 3) := dk_182 0 48 (dk_at dksX0_distance_0 5 rfl rfl)
theorem dX0_distance_8 : decode cX0_distance 8 = .ok (.i2l, 1) := dk_133 (dk_at dksX0_distance_0 8 rfl rfl)
theorem dX0_distance_9 : decode cX0_distance 9 = .ok (.lastore, 1) := dk_80 (dk_at dksX0_distance_0 9 rfl rfl)
theorem dX0_distance_10 : decode cX0_distance 10 = .ok (.goto 11, 3) := dk_167 0 11 (dk_at dksX0_distance_0 10 rfl rfl)
theorem dX0_distance_13 : decode cX0_distance 13 = .ok (.astore 4, 2) := dk_58 4 (dk_at dksX0_distance_0 13 rfl rfl)
theorem dX0_distance_15 : decode cX0_distance 15 = .ok (.iconst 1, 1) := dk_4 (dk_at dksX0_distance_0 15 rfl rfl)
theorem dX0_distance_16 : decode cX0_distance 16 = .ok (.ireturn, 1) := dk_172 (dk_at dksX0_distance_0 16 rfl rfl)
theorem dX0_distance_17 : decode cX0_distance 17 = .ok (.astore 4, 2) := dk_58 4 (dk_at dksX0_distance_0 17 rfl rfl)
theorem dX0_distance_19 : decode cX0_distance 19 = .ok (.iconst 2, 1) := dk_5 (dk_at dksX0_distance_0 19 rfl rfl)
theorem dX0_distance_20 : decode cX0_distance 20 = .ok (.ireturn, 1) := dk_172 (dk_at dksX0_distance_0 20 rfl rfl)
theorem dX0_distance_21 : decode cX0_distance 21 = .ok (.iconst 0, 1) := dk_3 (dk_at dksX0_distance_0 21 rfl rfl)
theorem dX0_distance_22 : decode cX0_distance 22 = .ok (.ireturn, 1) := dk_172 (dk_at dksX0_distance_0 22 rfl rfl)
abbrev cX0_near : ByteArray := method_14_code
def yX0_near : MethodName := ⟨RX0, "near", "(LBadCodes;II[J)I"⟩
def dkwX0_near_0 : List UInt8 := [45, 3, 42, 27, 28, 182, 0, 51, 133, 80, 167, 0, 11, 58, 4, 4, 172, 58, 4, 5, 172, 3, 172]
abbrev dktX0_near_0 : List UInt8 := dkwX0_near_0 ++ []
theorem dksX0_near_0 : cX0_near.data.toList.drop 0 = dktX0_near_0 := by decide +kernel
theorem dX0_near_0 : decode cX0_near 0 = .ok (.aload_n 3, 1) := dk_45 (dk_at dksX0_near_0 0 rfl rfl)
theorem dX0_near_1 : decode cX0_near 1 = .ok (.iconst 0, 1) := dk_3 (dk_at dksX0_near_0 1 rfl rfl)
theorem dX0_near_2 : decode cX0_near 2 = .ok (.aload_n 0, 1) := dk_42 (dk_at dksX0_near_0 2 rfl rfl)
theorem dX0_near_3 : decode cX0_near 3 = .ok (.iload_n 1, 1) := dk_27 (dk_at dksX0_near_0 3 rfl rfl)
theorem dX0_near_4 : decode cX0_near 4 = .ok (.iload_n 2, 1) := dk_28 (dk_at dksX0_near_0 4 rfl rfl)
theorem dX0_near_5 : decode cX0_near 5 = .ok (.invokevirtual 51, 3) := dk_182 0 51 (dk_at dksX0_near_0 5 rfl rfl)
theorem dX0_near_8 : decode cX0_near 8 = .ok (.i2l, 1) := dk_133 (dk_at dksX0_near_0 8 rfl rfl)
theorem dX0_near_9 : decode cX0_near 9 = .ok (.lastore, 1) := dk_80 (dk_at dksX0_near_0 9 rfl rfl)
theorem dX0_near_10 : decode cX0_near 10 = .ok (.goto 11, 3) := dk_167 0 11 (dk_at dksX0_near_0 10 rfl rfl)
theorem dX0_near_13 : decode cX0_near 13 = .ok (.astore 4, 2) := dk_58 4 (dk_at dksX0_near_0 13 rfl rfl)
theorem dX0_near_15 : decode cX0_near 15 = .ok (.iconst 1, 1) := dk_4 (dk_at dksX0_near_0 15 rfl rfl)
theorem dX0_near_16 : decode cX0_near 16 = .ok (.ireturn, 1) := dk_172 (dk_at dksX0_near_0 16 rfl rfl)
theorem dX0_near_17 : decode cX0_near 17 = .ok (.astore 4, 2) := dk_58 4 (dk_at dksX0_near_0 17 rfl rfl)
theorem dX0_near_19 : decode cX0_near 19 = .ok (.iconst 2, 1) := dk_5 (dk_at dksX0_near_0 19 rfl rfl)
theorem dX0_near_20 : decode cX0_near 20 = .ok (.ireturn, 1) := dk_172 (dk_at dksX0_near_0 20 rfl rfl)
theorem dX0_near_21 : decode cX0_near 21 = .ok (.iconst 0, 1) := dk_3 (dk_at dksX0_near_0 21 rfl rfl)
theorem dX0_near_22 : decode cX0_near 22 = .ok (.ireturn, 1) := dk_172 (dk_at dksX0_near_0 22 rfl rfl)
abbrev cX0_decided : ByteArray := method_15_code
def yX0_decided : MethodName := ⟨RX0, "decided", "(LBadCodes;I[J)I"⟩
def dkwX0_decided_0 : List UInt8 := [44, 3, 42, 27, 182, 0, 54, 133, 80, 167, 0, 9, 78, 4, 172, 78, 5, 172, 3, 172]
abbrev dktX0_decided_0 : List UInt8 := dkwX0_decided_0 ++ []
theorem dksX0_decided_0 : cX0_decided.data.toList.drop 0 = dktX0_decided_0 := by decide +kernel
theorem dX0_decided_0 : decode cX0_decided 0 = .ok (.aload_n 2, 1) := dk_44 (dk_at dksX0_decided_0 0 rfl rfl)
theorem dX0_decided_1 : decode cX0_decided 1 = .ok (.iconst 0, 1) := dk_3 (dk_at dksX0_decided_0 1 rfl rfl)
theorem dX0_decided_2 : decode cX0_decided 2 = .ok (.aload_n 0, 1) := dk_42 (dk_at dksX0_decided_0 2 rfl rfl)
theorem dX0_decided_3 : decode cX0_decided 3 = .ok (.iload_n 1, 1) := dk_27 (dk_at dksX0_decided_0 3 rfl rfl)
theorem dX0_decided_4 : decode cX0_decided 4 = .ok (.invokevirtual 54, 3) := dk_182 0 54 (dk_at dksX0_decided_0 4 rfl rfl)
theorem dX0_decided_7 : decode cX0_decided 7 = .ok (.i2l, 1) := dk_133 (dk_at dksX0_decided_0 7 rfl rfl)
theorem dX0_decided_8 : decode cX0_decided 8 = .ok (.lastore, 1) := dk_80 (dk_at dksX0_decided_0 8 rfl rfl)
theorem dX0_decided_9 : decode cX0_decided 9 = .ok (.goto 9, 3) := dk_167 0 9 (dk_at dksX0_decided_0 9 rfl rfl)
theorem dX0_decided_12 : decode cX0_decided 12 = .ok (.astore_n 3, 1) := dk_78 (dk_at dksX0_decided_0 12 rfl rfl)
theorem dX0_decided_13 : decode cX0_decided 13 = .ok (.iconst 1, 1) := dk_4 (dk_at dksX0_decided_0 13 rfl rfl)
theorem dX0_decided_14 : decode cX0_decided 14 = .ok (.ireturn, 1) := dk_172 (dk_at dksX0_decided_0 14 rfl rfl)
theorem dX0_decided_15 : decode cX0_decided 15 = .ok (.astore_n 3, 1) := dk_78 (dk_at dksX0_decided_0 15 rfl rfl)
theorem dX0_decided_16 : decode cX0_decided 16 = .ok (.iconst 2, 1) := dk_5 (dk_at dksX0_decided_0 16 rfl rfl)
theorem dX0_decided_17 : decode cX0_decided 17 = .ok (.ireturn, 1) := dk_172 (dk_at dksX0_decided_0 17 rfl rfl)
theorem dX0_decided_18 : decode cX0_decided 18 = .ok (.iconst 0, 1) := dk_3 (dk_at dksX0_decided_0 18 rfl rfl)
theorem dX0_decided_19 : decode cX0_decided 19 = .ok (.ireturn, 1) := dk_172 (dk_at dksX0_decided_0 19 rfl rfl)
abbrev cX0_how : ByteArray := method_16_code
def yX0_how : MethodName := ⟨RX0, "how", "(LBadCodes;I[J)I"⟩
def dkwX0_how_0 : List UInt8 := [44, 3, 42, 27, 182, 0, 57, 133, 80, 167, 0, 9, 78, 4, 172, 78, 5, 172, 3, 172]
abbrev dktX0_how_0 : List UInt8 := dkwX0_how_0 ++ []
theorem dksX0_how_0 : cX0_how.data.toList.drop 0 = dktX0_how_0 := by decide +kernel
theorem dX0_how_0 : decode cX0_how 0 = .ok (.aload_n 2, 1) := dk_44 (dk_at dksX0_how_0 0 rfl rfl)
theorem dX0_how_1 : decode cX0_how 1 = .ok (.iconst 0, 1) := dk_3 (dk_at dksX0_how_0 1 rfl rfl)
theorem dX0_how_2 : decode cX0_how 2 = .ok (.aload_n 0, 1) := dk_42 (dk_at dksX0_how_0 2 rfl rfl)
theorem dX0_how_3 : decode cX0_how 3 = .ok (.iload_n 1, 1) := dk_27 (dk_at dksX0_how_0 3 rfl rfl)
theorem dX0_how_4 : decode cX0_how 4 = .ok (.invokevirtual 57, 3) := dk_182 0 57 (dk_at dksX0_how_0 4 rfl rfl)
theorem dX0_how_7 : decode cX0_how 7 = .ok (.i2l, 1) := dk_133 (dk_at dksX0_how_0 7 rfl rfl)
theorem dX0_how_8 : decode cX0_how 8 = .ok (.lastore, 1) := dk_80 (dk_at dksX0_how_0 8 rfl rfl)
theorem dX0_how_9 : decode cX0_how 9 = .ok (.goto 9, 3) := dk_167 0 9 (dk_at dksX0_how_0 9 rfl rfl)
theorem dX0_how_12 : decode cX0_how 12 = .ok (.astore_n 3, 1) := dk_78 (dk_at dksX0_how_0 12 rfl rfl)
theorem dX0_how_13 : decode cX0_how 13 = .ok (.iconst 1, 1) := dk_4 (dk_at dksX0_how_0 13 rfl rfl)
theorem dX0_how_14 : decode cX0_how 14 = .ok (.ireturn, 1) := dk_172 (dk_at dksX0_how_0 14 rfl rfl)
theorem dX0_how_15 : decode cX0_how 15 = .ok (.astore_n 3, 1) := dk_78 (dk_at dksX0_how_0 15 rfl rfl)
theorem dX0_how_16 : decode cX0_how 16 = .ok (.iconst 2, 1) := dk_5 (dk_at dksX0_how_0 16 rfl rfl)
theorem dX0_how_17 : decode cX0_how 17 = .ok (.ireturn, 1) := dk_172 (dk_at dksX0_how_0 17 rfl rfl)
theorem dX0_how_18 : decode cX0_how 18 = .ok (.iconst 0, 1) := dk_3 (dk_at dksX0_how_0 18 rfl rfl)
theorem dX0_how_19 : decode cX0_how 19 = .ok (.ireturn, 1) := dk_172 (dk_at dksX0_how_0 19 rfl rfl)
abbrev cX0_whyNot : ByteArray := method_17_code
def yX0_whyNot : MethodName := ⟨RX0, "whyNot", "(LBadCodes;I[J)I"⟩
def dkwX0_whyNot_0 : List UInt8 := [44, 3, 42, 27, 182, 0, 60, 133, 80, 167, 0, 9, 78, 4, 172, 78, 5, 172, 3, 172]
abbrev dktX0_whyNot_0 : List UInt8 := dkwX0_whyNot_0 ++ []
theorem dksX0_whyNot_0 : cX0_whyNot.data.toList.drop 0 = dktX0_whyNot_0 := by decide +kernel
theorem dX0_whyNot_0 : decode cX0_whyNot 0 = .ok (.aload_n 2, 1) := dk_44 (dk_at dksX0_whyNot_0 0 rfl rfl)
theorem dX0_whyNot_1 : decode cX0_whyNot 1 = .ok (.iconst 0, 1) := dk_3 (dk_at dksX0_whyNot_0 1 rfl rfl)
theorem dX0_whyNot_2 : decode cX0_whyNot 2 = .ok (.aload_n 0, 1) := dk_42 (dk_at dksX0_whyNot_0 2 rfl rfl)
theorem dX0_whyNot_3 : decode cX0_whyNot 3 = .ok (.iload_n 1, 1) := dk_27 (dk_at dksX0_whyNot_0 3 rfl rfl)
theorem dX0_whyNot_4 : decode cX0_whyNot 4 = .ok (.invokevirtual 60, 3) := dk_182 0 60 (dk_at dksX0_whyNot_0 4 rfl rfl)
theorem dX0_whyNot_7 : decode cX0_whyNot 7 = .ok (.i2l, 1) := dk_133 (dk_at dksX0_whyNot_0 7 rfl rfl)
theorem dX0_whyNot_8 : decode cX0_whyNot 8 = .ok (.lastore, 1) := dk_80 (dk_at dksX0_whyNot_0 8 rfl rfl)
theorem dX0_whyNot_9 : decode cX0_whyNot 9 = .ok (.goto 9, 3) := dk_167 0 9 (dk_at dksX0_whyNot_0 9 rfl rfl)
theorem dX0_whyNot_12 : decode cX0_whyNot 12 = .ok (.astore_n 3, 1) := dk_78 (dk_at dksX0_whyNot_0 12 rfl rfl)
theorem dX0_whyNot_13 : decode cX0_whyNot 13 = .ok (.iconst 1, 1) := dk_4 (dk_at dksX0_whyNot_0 13 rfl rfl)
theorem dX0_whyNot_14 : decode cX0_whyNot 14 = .ok (.ireturn, 1) := dk_172 (dk_at dksX0_whyNot_0 14 rfl rfl)
theorem dX0_whyNot_15 : decode cX0_whyNot 15 = .ok (.astore_n 3, 1) := dk_78 (dk_at dksX0_whyNot_0 15 rfl rfl)
theorem dX0_whyNot_16 : decode cX0_whyNot 16 = .ok (.iconst 2, 1) := dk_5 (dk_at dksX0_whyNot_0 16 rfl rfl)
theorem dX0_whyNot_17 : decode cX0_whyNot 17 = .ok (.ireturn, 1) := dk_172 (dk_at dksX0_whyNot_0 17 rfl rfl)
theorem dX0_whyNot_18 : decode cX0_whyNot 18 = .ok (.iconst 0, 1) := dk_3 (dk_at dksX0_whyNot_0 18 rfl rfl)
theorem dX0_whyNot_19 : decode cX0_whyNot 19 = .ok (.ireturn, 1) := dk_172 (dk_at dksX0_whyNot_0 19 rfl rfl)
abbrev cX0_margin : ByteArray := method_18_code
def yX0_margin : MethodName := ⟨RX0, "margin", "(LBadCodes;I[J)I"⟩
def dkwX0_margin_0 : List UInt8 := [44, 3, 42, 27, 182, 0, 63, 133, 80, 167, 0, 9, 78, 4, 172, 78, 5, 172, 3, 172]
abbrev dktX0_margin_0 : List UInt8 := dkwX0_margin_0 ++ []
theorem dksX0_margin_0 : cX0_margin.data.toList.drop 0 = dktX0_margin_0 := by decide +kernel
theorem dX0_margin_0 : decode cX0_margin 0 = .ok (.aload_n 2, 1) := dk_44 (dk_at dksX0_margin_0 0 rfl rfl)
theorem dX0_margin_1 : decode cX0_margin 1 = .ok (.iconst 0, 1) := dk_3 (dk_at dksX0_margin_0 1 rfl rfl)
theorem dX0_margin_2 : decode cX0_margin 2 = .ok (.aload_n 0, 1) := dk_42 (dk_at dksX0_margin_0 2 rfl rfl)
theorem dX0_margin_3 : decode cX0_margin 3 = .ok (.iload_n 1, 1) := dk_27 (dk_at dksX0_margin_0 3 rfl rfl)
theorem dX0_margin_4 : decode cX0_margin 4 = .ok (.invokevirtual 63, 3) := dk_182 0 63 (dk_at dksX0_margin_0 4 rfl rfl)
theorem dX0_margin_7 : decode cX0_margin 7 = .ok (.i2l, 1) := dk_133 (dk_at dksX0_margin_0 7 rfl rfl)
theorem dX0_margin_8 : decode cX0_margin 8 = .ok (.lastore, 1) := dk_80 (dk_at dksX0_margin_0 8 rfl rfl)
theorem dX0_margin_9 : decode cX0_margin 9 = .ok (.goto 9, 3) := dk_167 0 9 (dk_at dksX0_margin_0 9 rfl rfl)
theorem dX0_margin_12 : decode cX0_margin 12 = .ok (.astore_n 3, 1) := dk_78 (dk_at dksX0_margin_0 12 rfl rfl)
theorem dX0_margin_13 : decode cX0_margin 13 = .ok (.iconst 1, 1) := dk_4 (dk_at dksX0_margin_0 13 rfl rfl)
theorem dX0_margin_14 : decode cX0_margin 14 = .ok (.ireturn, 1) := dk_172 (dk_at dksX0_margin_0 14 rfl rfl)
theorem dX0_margin_15 : decode cX0_margin 15 = .ok (.astore_n 3, 1) := dk_78 (dk_at dksX0_margin_0 15 rfl rfl)
theorem dX0_margin_16 : decode cX0_margin 16 = .ok (.iconst 2, 1) := dk_5 (dk_at dksX0_margin_0 16 rfl rfl)
theorem dX0_margin_17 : decode cX0_margin 17 = .ok (.ireturn, 1) := dk_172 (dk_at dksX0_margin_0 17 rfl rfl)
theorem dX0_margin_18 : decode cX0_margin 18 = .ok (.iconst 0, 1) := dk_3 (dk_at dksX0_margin_0 18 rfl rfl)
theorem dX0_margin_19 : decode cX0_margin 19 = .ok (.ireturn, 1) := dk_172 (dk_at dksX0_margin_0 19 rfl rfl)
abbrev cX0_mended : ByteArray := method_19_code
def yX0_mended : MethodName := ⟨RX0, "mended", "(LBadCodes;I[J)I"⟩
def dkwX0_mended_0 : List UInt8 := [44, 3, 42, 27, 182, 0, 66, 133, 80, 167, 0, 9, 78, 4, 172, 78, 5, 172, 3, 172]
abbrev dktX0_mended_0 : List UInt8 := dkwX0_mended_0 ++ []
theorem dksX0_mended_0 : cX0_mended.data.toList.drop 0 = dktX0_mended_0 := by decide +kernel
theorem dX0_mended_0 : decode cX0_mended 0 = .ok (.aload_n 2, 1) := dk_44 (dk_at dksX0_mended_0 0 rfl rfl)
theorem dX0_mended_1 : decode cX0_mended 1 = .ok (.iconst 0, 1) := dk_3 (dk_at dksX0_mended_0 1 rfl rfl)
theorem dX0_mended_2 : decode cX0_mended 2 = .ok (.aload_n 0, 1) := dk_42 (dk_at dksX0_mended_0 2 rfl rfl)
theorem dX0_mended_3 : decode cX0_mended 3 = .ok (.iload_n 1, 1) := dk_27 (dk_at dksX0_mended_0 3 rfl rfl)
theorem dX0_mended_4 : decode cX0_mended 4 = .ok (.invokevirtual 66, 3) := dk_182 0 66 (dk_at dksX0_mended_0 4 rfl rfl)
theorem dX0_mended_7 : decode cX0_mended 7 = .ok (.i2l, 1) := dk_133 (dk_at dksX0_mended_0 7 rfl rfl)
theorem dX0_mended_8 : decode cX0_mended 8 = .ok (.lastore, 1) := dk_80 (dk_at dksX0_mended_0 8 rfl rfl)
theorem dX0_mended_9 : decode cX0_mended 9 = .ok (.goto 9, 3) := dk_167 0 9 (dk_at dksX0_mended_0 9 rfl rfl)
theorem dX0_mended_12 : decode cX0_mended 12 = .ok (.astore_n 3, 1) := dk_78 (dk_at dksX0_mended_0 12 rfl rfl)
theorem dX0_mended_13 : decode cX0_mended 13 = .ok (.iconst 1, 1) := dk_4 (dk_at dksX0_mended_0 13 rfl rfl)
theorem dX0_mended_14 : decode cX0_mended 14 = .ok (.ireturn, 1) := dk_172 (dk_at dksX0_mended_0 14 rfl rfl)
theorem dX0_mended_15 : decode cX0_mended 15 = .ok (.astore_n 3, 1) := dk_78 (dk_at dksX0_mended_0 15 rfl rfl)
theorem dX0_mended_16 : decode cX0_mended 16 = .ok (.iconst 2, 1) := dk_5 (dk_at dksX0_mended_0 16 rfl rfl)
theorem dX0_mended_17 : decode cX0_mended 17 = .ok (.ireturn, 1) := dk_172 (dk_at dksX0_mended_0 17 rfl rfl)
theorem dX0_mended_18 : decode cX0_mended 18 = .ok (.iconst 0, 1) := dk_3 (dk_at dksX0_mended_0 18 rfl rfl)
theorem dX0_mended_19 : decode cX0_mended 19 = .ok (.ireturn, 1) := dk_172 (dk_at dksX0_mended_0 19 rfl rfl)
abbrev cX0_whyNotAgain : ByteArray := method_20_code
def yX0_whyNotAgain : MethodName := ⟨RX0, "whyNotAgain", "(LBadCodes;I[J)I"⟩
def dkwX0_whyNotAgain_0 : List UInt8 := [44, 3, 42, 27, 182, 0, 69, 133, 80, 167, 0, 9, 78, 4, 172, 78, 5, 172, 3, 172]
abbrev dktX0_whyNotAgain_0 : List UInt8 := dkwX0_whyNotAgain_0 ++ []
theorem dksX0_whyNotAgain_0 : cX0_whyNotAgain.data.toList.drop 0 = dktX0_whyNotAgain_0 := by decide +kernel
theorem dX0_whyNotAgain_0 : decode cX0_whyNotAgain 0 = .ok (.aload_n 2, 1) := dk_44 (dk_at dksX0_whyNotAgain_0 0 rfl rfl)
theorem dX0_whyNotAgain_1 : decode cX0_whyNotAgain 1 = .ok (.iconst 0, 1) := dk_3 (dk_at dksX0_whyNotAgain_0 1 rfl rfl)
theorem dX0_whyNotAgain_2 : decode cX0_whyNotAgain 2 = .ok (.aload_n 0, 1) := dk_42 (dk_at dksX0_whyNotAgain_0 2 rfl rfl)
theorem dX0_whyNotAgain_3 : decode cX0_whyNotAgain 3 = .ok (.iload_n 1, 1) := dk_27 (dk_at dksX0_whyNotAgain_0 3 rfl rfl)
theorem dX0_whyNotAgain_4 : decode cX0_whyNotAgain 4 = .ok (.invokevirtual 69, 3) := dk_182 0 69 (dk_at dksX0_whyNotAgain_0 4 rfl rfl)
theorem dX0_whyNotAgain_7 : decode cX0_whyNotAgain 7 = .ok (.i2l, 1) := dk_133 (dk_at dksX0_whyNotAgain_0 7 rfl rfl)
theorem dX0_whyNotAgain_8 : decode cX0_whyNotAgain 8 = .ok (.lastore, 1) := dk_80 (dk_at dksX0_whyNotAgain_0 8 rfl rfl)
theorem dX0_whyNotAgain_9 : decode cX0_whyNotAgain 9 = .ok (.goto 9, 3) := dk_167 0 9 (dk_at dksX0_whyNotAgain_0 9 rfl rfl)
theorem dX0_whyNotAgain_12 : decode cX0_whyNotAgain 12 = .ok (.astore_n 3, 1) := dk_78 (dk_at dksX0_whyNotAgain_0 12 rfl rfl)
theorem dX0_whyNotAgain_13 : decode cX0_whyNotAgain 13 = .ok (.iconst 1, 1) := dk_4 (dk_at dksX0_whyNotAgain_0 13 rfl rfl)
theorem dX0_whyNotAgain_14 : decode cX0_whyNotAgain 14 = .ok (.ireturn, 1) := dk_172 (dk_at dksX0_whyNotAgain_0 14 rfl rfl)
theorem dX0_whyNotAgain_15 : decode cX0_whyNotAgain 15 = .ok (.astore_n 3, 1) := dk_78 (dk_at dksX0_whyNotAgain_0 15 rfl rfl)
theorem dX0_whyNotAgain_16 : decode cX0_whyNotAgain 16 = .ok (.iconst 2, 1) := dk_5 (dk_at dksX0_whyNotAgain_0 16 rfl rfl)
theorem dX0_whyNotAgain_17 : decode cX0_whyNotAgain 17 = .ok (.ireturn, 1) := dk_172 (dk_at dksX0_whyNotAgain_0 17 rfl rfl)
theorem dX0_whyNotAgain_18 : decode cX0_whyNotAgain 18 = .ok (.iconst 0, 1) := dk_3 (dk_at dksX0_whyNotAgain_0 18 rfl rfl)
theorem dX0_whyNotAgain_19 : decode cX0_whyNotAgain 19 = .ok (.ireturn, 1) := dk_172 (dk_at dksX0_whyNotAgain_0 19 rfl rfl)
abbrev cX0_leastFix : ByteArray := method_21_code
def yX0_leastFix : MethodName := ⟨RX0, "leastFix", "(LBadCodes;I[J)I"⟩
def dkwX0_leastFix_0 : List UInt8 := [44, 3, 42, 27, 182, 0, 72, 133, 80, 167, 0, 9, 78, 4, 172, 78, 5, 172, 3, 172]
abbrev dktX0_leastFix_0 : List UInt8 := dkwX0_leastFix_0 ++ []
theorem dksX0_leastFix_0 : cX0_leastFix.data.toList.drop 0 = dktX0_leastFix_0 := by decide +kernel
theorem dX0_leastFix_0 : decode cX0_leastFix 0 = .ok (.aload_n 2, 1) := dk_44 (dk_at dksX0_leastFix_0 0 rfl rfl)
theorem dX0_leastFix_1 : decode cX0_leastFix 1 = .ok (.iconst 0, 1) := dk_3 (dk_at dksX0_leastFix_0 1 rfl rfl)
theorem dX0_leastFix_2 : decode cX0_leastFix 2 = .ok (.aload_n 0, 1) := dk_42 (dk_at dksX0_leastFix_0 2 rfl rfl)
theorem dX0_leastFix_3 : decode cX0_leastFix 3 = .ok (.iload_n 1, 1) := dk_27 (dk_at dksX0_leastFix_0 3 rfl rfl)
theorem dX0_leastFix_4 : decode cX0_leastFix 4 = .ok (.invokevirtual 72, 3) := dk_182 0 72 (dk_at dksX0_leastFix_0 4 rfl rfl)
theorem dX0_leastFix_7 : decode cX0_leastFix 7 = .ok (.i2l, 1) := dk_133 (dk_at dksX0_leastFix_0 7 rfl rfl)
theorem dX0_leastFix_8 : decode cX0_leastFix 8 = .ok (.lastore, 1) := dk_80 (dk_at dksX0_leastFix_0 8 rfl rfl)
theorem dX0_leastFix_9 : decode cX0_leastFix 9 = .ok (.goto 9, 3) := dk_167 0 9 (dk_at dksX0_leastFix_0 9 rfl rfl)
theorem dX0_leastFix_12 : decode cX0_leastFix 12 = .ok (.astore_n 3, 1) := dk_78 (dk_at dksX0_leastFix_0 12 rfl rfl)
theorem dX0_leastFix_13 : decode cX0_leastFix 13 = .ok (.iconst 1, 1) := dk_4 (dk_at dksX0_leastFix_0 13 rfl rfl)
theorem dX0_leastFix_14 : decode cX0_leastFix 14 = .ok (.ireturn, 1) := dk_172 (dk_at dksX0_leastFix_0 14 rfl rfl)
theorem dX0_leastFix_15 : decode cX0_leastFix 15 = .ok (.astore_n 3, 1) := dk_78 (dk_at dksX0_leastFix_0 15 rfl rfl)
theorem dX0_leastFix_16 : decode cX0_leastFix 16 = .ok (.iconst 2, 1) := dk_5 (dk_at dksX0_leastFix_0 16 rfl rfl)
theorem dX0_leastFix_17 : decode cX0_leastFix 17 = .ok (.ireturn, 1) := dk_172 (dk_at dksX0_leastFix_0 17 rfl rfl)
theorem dX0_leastFix_18 : decode cX0_leastFix 18 = .ok (.iconst 0, 1) := dk_3 (dk_at dksX0_leastFix_0 18 rfl rfl)
theorem dX0_leastFix_19 : decode cX0_leastFix 19 = .ok (.ireturn, 1) := dk_172 (dk_at dksX0_leastFix_0 19 rfl rfl)
abbrev cX0_codesNear : ByteArray := method_22_code
def yX0_codesNear : MethodName := ⟨RX0, "codesNear", "(LBadCodes;II[J)I"⟩
def dkwX0_codesNear_1 : List UInt8 := [172, 3, 172]
abbrev dktX0_codesNear_1 : List UInt8 := dkwX0_codesNear_1 ++ []
def dkwX0_codesNear_0 : List UInt8 := [45, 3, 42, 27, 28, 182, 0, 75, 133, 80, 167, 0, 15, 58, 4, 4, 172, 58, 4, 5, 172, 58, 4, 6]
abbrev dktX0_codesNear_0 : List UInt8 := dkwX0_codesNear_0 ++ dktX0_codesNear_1
theorem dksX0_codesNear_0 : cX0_codesNear.data.toList.drop 0 = dktX0_codesNear_0 := by decide +kernel
theorem dksX0_codesNear_1 : cX0_codesNear.data.toList.drop 24 = dktX0_codesNear_1 := dk_seg dksX0_codesNear_0 24 rfl rfl
theorem dX0_codesNear_0 : decode cX0_codesNear 0 = .ok (.aload_n 3, 1) := dk_45 (dk_at dksX0_codesNear_0 0 rfl rfl)
theorem dX0_codesNear_1 : decode cX0_codesNear 1 = .ok (.iconst 0, 1) := dk_3 (dk_at dksX0_codesNear_0 1 rfl rfl)
theorem dX0_codesNear_2 : decode cX0_codesNear 2 = .ok (.aload_n 0, 1) := dk_42 (dk_at dksX0_codesNear_0 2 rfl rfl)
theorem dX0_codesNear_3 : decode cX0_codesNear 3 = .ok (.iload_n 1, 1) := dk_27 (dk_at dksX0_codesNear_0 3 rfl rfl)
theorem dX0_codesNear_4 : decode cX0_codesNear 4 = .ok (.iload_n 2, 1) := dk_28 (dk_at dksX0_codesNear_0 4 rfl rfl)
theorem dX0_codesNear_5 : decode cX0_codesNear 5 = .ok (.invokevirtual 75, 3) := dk_182 0 75 (dk_at dksX0_codesNear_0 5 rfl rfl)
theorem dX0_codesNear_8 : decode cX0_codesNear 8 = .ok (.i2l, 1) := dk_133 (dk_at dksX0_codesNear_0 8 rfl rfl)
theorem dX0_codesNear_9 : decode cX0_codesNear 9 = .ok (.lastore, 1) := dk_80 (dk_at dksX0_codesNear_0 9 rfl rfl)
theorem dX0_codesNear_10 : decode cX0_codesNear 10 = .ok (.goto 15, 3) := dk_167 0 15 (dk_at dksX0_codesNear_0 10 rfl rfl)
theorem dX0_codesNear_13 : decode cX0_codesNear 13 = .ok (.astore 4, 2) := dk_58 4 (dk_at dksX0_codesNear_0 13 rfl rfl)
theorem dX0_codesNear_15 : decode cX0_codesNear 15 = .ok (.iconst 1, 1) := dk_4 (dk_at dksX0_codesNear_0 15 rfl rfl)
theorem dX0_codesNear_16 : decode cX0_codesNear 16 = .ok (.ireturn, 1) := dk_172 (dk_at dksX0_codesNear_0 16 rfl rfl)
theorem dX0_codesNear_17 : decode cX0_codesNear 17 = .ok (.astore 4, 2) := dk_58 4 (dk_at dksX0_codesNear_0 17 rfl rfl)
theorem dX0_codesNear_19 : decode cX0_codesNear 19 = .ok (.iconst 2, 1) := dk_5 (dk_at dksX0_codesNear_0 19 rfl rfl)
theorem dX0_codesNear_20 : decode cX0_codesNear 20 = .ok (.ireturn, 1) := dk_172 (dk_at dksX0_codesNear_0 20 rfl rfl)
theorem dX0_codesNear_21 : decode cX0_codesNear 21 = .ok (.astore 4, 2) := dk_58 4 (dk_at dksX0_codesNear_0 21 rfl rfl)
theorem dX0_codesNear_23 : decode cX0_codesNear 23 = .ok (.iconst 3, 1) := dk_6 (dk_at dksX0_codesNear_0 23 rfl rfl)
theorem dX0_codesNear_24 : decode cX0_codesNear 24 = .ok (.ireturn, 1) := dk_172 (dk_at dksX0_codesNear_1 0 rfl rfl)
theorem dX0_codesNear_25 : decode cX0_codesNear 25 = .ok (.iconst 0, 1) := dk_3 (dk_at dksX0_codesNear_1 1 rfl rfl)
theorem dX0_codesNear_26 : decode cX0_codesNear 26 = .ok (.ireturn, 1) := dk_172 (dk_at dksX0_codesNear_1 2 rfl rfl)
abbrev cX0_firstFix : ByteArray := method_23_code
def yX0_firstFix : MethodName := ⟨RX0, "firstFix", "(LBadCodes;I[J)I"⟩
def dkwX0_firstFix_0 : List UInt8 := [44, 3, 42, 27, 182, 0, 78, 133, 80, 167, 0, 9, 78, 4, 172, 78, 5, 172, 3, 172]
abbrev dktX0_firstFix_0 : List UInt8 := dkwX0_firstFix_0 ++ []
theorem dksX0_firstFix_0 : cX0_firstFix.data.toList.drop 0 = dktX0_firstFix_0 := by decide +kernel
theorem dX0_firstFix_0 : decode cX0_firstFix 0 = .ok (.aload_n 2, 1) := dk_44 (dk_at dksX0_firstFix_0 0 rfl rfl)
theorem dX0_firstFix_1 : decode cX0_firstFix 1 = .ok (.iconst 0, 1) := dk_3 (dk_at dksX0_firstFix_0 1 rfl rfl)
theorem dX0_firstFix_2 : decode cX0_firstFix 2 = .ok (.aload_n 0, 1) := dk_42 (dk_at dksX0_firstFix_0 2 rfl rfl)
theorem dX0_firstFix_3 : decode cX0_firstFix 3 = .ok (.iload_n 1, 1) := dk_27 (dk_at dksX0_firstFix_0 3 rfl rfl)
theorem dX0_firstFix_4 : decode cX0_firstFix 4 = .ok (.invokevirtual 78, 3) := dk_182 0 78 (dk_at dksX0_firstFix_0 4 rfl rfl)
theorem dX0_firstFix_7 : decode cX0_firstFix 7 = .ok (.i2l, 1) := dk_133 (dk_at dksX0_firstFix_0 7 rfl rfl)
theorem dX0_firstFix_8 : decode cX0_firstFix 8 = .ok (.lastore, 1) := dk_80 (dk_at dksX0_firstFix_0 8 rfl rfl)
theorem dX0_firstFix_9 : decode cX0_firstFix 9 = .ok (.goto 9, 3) := dk_167 0 9 (dk_at dksX0_firstFix_0 9 rfl rfl)
theorem dX0_firstFix_12 : decode cX0_firstFix 12 = .ok (.astore_n 3, 1) := dk_78 (dk_at dksX0_firstFix_0 12 rfl rfl)
theorem dX0_firstFix_13 : decode cX0_firstFix 13 = .ok (.iconst 1, 1) := dk_4 (dk_at dksX0_firstFix_0 13 rfl rfl)
theorem dX0_firstFix_14 : decode cX0_firstFix 14 = .ok (.ireturn, 1) := dk_172 (dk_at dksX0_firstFix_0 14 rfl rfl)
theorem dX0_firstFix_15 : decode cX0_firstFix 15 = .ok (.astore_n 3, 1) := dk_78 (dk_at dksX0_firstFix_0 15 rfl rfl)
theorem dX0_firstFix_16 : decode cX0_firstFix 16 = .ok (.iconst 2, 1) := dk_5 (dk_at dksX0_firstFix_0 16 rfl rfl)
theorem dX0_firstFix_17 : decode cX0_firstFix 17 = .ok (.ireturn, 1) := dk_172 (dk_at dksX0_firstFix_0 17 rfl rfl)
theorem dX0_firstFix_18 : decode cX0_firstFix 18 = .ok (.iconst 0, 1) := dk_3 (dk_at dksX0_firstFix_0 18 rfl rfl)
theorem dX0_firstFix_19 : decode cX0_firstFix 19 = .ok (.ireturn, 1) := dk_172 (dk_at dksX0_firstFix_0 19 rfl rfl)
abbrev cX0_bundle : ByteArray := method_24_code
def yX0_bundle : MethodName := ⟨RX0, "bundle", "(LBadCodes;II[J)I"⟩
def dkwX0_bundle_1 : List UInt8 := [172, 3, 172]
abbrev dktX0_bundle_1 : List UInt8 := dkwX0_bundle_1 ++ []
def dkwX0_bundle_0 : List UInt8 := [45, 3, 42, 27, 28, 182, 0, 81, 133, 80, 167, 0, 15, 58, 4, 4, 172, 58, 4, 5, 172, 58, 4, 6]
abbrev dktX0_bundle_0 : List UInt8 := dkwX0_bundle_0 ++ dktX0_bundle_1
theorem dksX0_bundle_0 : cX0_bundle.data.toList.drop 0 = dktX0_bundle_0 := by decide +kernel
theorem dksX0_bundle_1 : cX0_bundle.data.toList.drop 24 = dktX0_bundle_1 := dk_seg dksX0_bundle_0 24 rfl rfl
theorem dX0_bundle_0 : decode cX0_bundle 0 = .ok (.aload_n 3, 1) := dk_45 (dk_at dksX0_bundle_0 0 rfl rfl)
theorem dX0_bundle_1 : decode cX0_bundle 1 = .ok (.iconst 0, 1) := dk_3 (dk_at dksX0_bundle_0 1 rfl rfl)
theorem dX0_bundle_2 : decode cX0_bundle 2 = .ok (.aload_n 0, 1) := dk_42 (dk_at dksX0_bundle_0 2 rfl rfl)
theorem dX0_bundle_3 : decode cX0_bundle 3 = .ok (.iload_n 1, 1) := dk_27 (dk_at dksX0_bundle_0 3 rfl rfl)
theorem dX0_bundle_4 : decode cX0_bundle 4 = .ok (.iload_n 2, 1) := dk_28 (dk_at dksX0_bundle_0 4 rfl rfl)
theorem dX0_bundle_5 : decode cX0_bundle 5 = .ok (.invokevirtual 81, 3) := dk_182 0 81 (dk_at dksX0_bundle_0 5 rfl rfl)
theorem dX0_bundle_8 : decode cX0_bundle 8 = .ok (.i2l, 1) := dk_133 (dk_at dksX0_bundle_0 8 rfl rfl)
theorem dX0_bundle_9 : decode cX0_bundle 9 = .ok (.lastore, 1) := dk_80 (dk_at dksX0_bundle_0 9 rfl rfl)
theorem dX0_bundle_10 : decode cX0_bundle 10 = .ok (.goto 15, 3) := dk_167 0 15 (dk_at dksX0_bundle_0 10 rfl rfl)
theorem dX0_bundle_13 : decode cX0_bundle 13 = .ok (.astore 4, 2) := dk_58 4 (dk_at dksX0_bundle_0 13 rfl rfl)
theorem dX0_bundle_15 : decode cX0_bundle 15 = .ok (.iconst 1, 1) := dk_4 (dk_at dksX0_bundle_0 15 rfl rfl)
theorem dX0_bundle_16 : decode cX0_bundle 16 = .ok (.ireturn, 1) := dk_172 (dk_at dksX0_bundle_0 16 rfl rfl)
theorem dX0_bundle_17 : decode cX0_bundle 17 = .ok (.astore 4, 2) := dk_58 4 (dk_at dksX0_bundle_0 17 rfl rfl)
theorem dX0_bundle_19 : decode cX0_bundle 19 = .ok (.iconst 2, 1) := dk_5 (dk_at dksX0_bundle_0 19 rfl rfl)
theorem dX0_bundle_20 : decode cX0_bundle 20 = .ok (.ireturn, 1) := dk_172 (dk_at dksX0_bundle_0 20 rfl rfl)
theorem dX0_bundle_21 : decode cX0_bundle 21 = .ok (.astore 4, 2) := dk_58 4 (dk_at dksX0_bundle_0 21 rfl rfl)
theorem dX0_bundle_23 : decode cX0_bundle 23 = .ok (.iconst 3, 1) := dk_6 (dk_at dksX0_bundle_0 23 rfl rfl)
theorem dX0_bundle_24 : decode cX0_bundle 24 = .ok (.ireturn, 1) := dk_172 (dk_at dksX0_bundle_1 0 rfl rfl)
theorem dX0_bundle_25 : decode cX0_bundle 25 = .ok (.iconst 0, 1) := dk_3 (dk_at dksX0_bundle_1 1 rfl rfl)
theorem dX0_bundle_26 : decode cX0_bundle 26 = .ok (.ireturn, 1) := dk_172 (dk_at dksX0_bundle_1 2 rfl rfl)
abbrev cX0_bag : ByteArray := method_25_code
def yX0_bag : MethodName := ⟨RX0, "bag", "(LBadCodes;II[J)I"⟩
def dkwX0_bag_1 : List UInt8 := [172, 3, 172]
abbrev dktX0_bag_1 : List UInt8 := dkwX0_bag_1 ++ []
def dkwX0_bag_0 : List UInt8 := [45, 3, 42, 27, 28, 182, 0, 84, 133, 80, 167, 0, 15, 58, 4, 4, 172, 58, 4, 5, 172, 58, 4, 6]
abbrev dktX0_bag_0 : List UInt8 := dkwX0_bag_0 ++ dktX0_bag_1
theorem dksX0_bag_0 : cX0_bag.data.toList.drop 0 = dktX0_bag_0 := by decide +kernel
theorem dksX0_bag_1 : cX0_bag.data.toList.drop 24 = dktX0_bag_1 := dk_seg dksX0_bag_0 24 rfl rfl
theorem dX0_bag_0 : decode cX0_bag 0 = .ok (.aload_n 3, 1) := dk_45 (dk_at dksX0_bag_0 0 rfl rfl)
theorem dX0_bag_1 : decode cX0_bag 1 = .ok (.iconst 0, 1) := dk_3 (dk_at dksX0_bag_0 1 rfl rfl)
theorem dX0_bag_2 : decode cX0_bag 2 = .ok (.aload_n 0, 1) := dk_42 (dk_at dksX0_bag_0 2 rfl rfl)
theorem dX0_bag_3 : decode cX0_bag 3 = .ok (.iload_n 1, 1) := dk_27 (dk_at dksX0_bag_0 3 rfl rfl)
theorem dX0_bag_4 : decode cX0_bag 4 = .ok (.iload_n 2, 1) := dk_28 (dk_at dksX0_bag_0 4 rfl rfl)
theorem dX0_bag_5 : decode cX0_bag 5 = .ok (.invokevirtual 84, 3) := dk_182 0 84 (dk_at dksX0_bag_0 5 rfl rfl)
theorem dX0_bag_8 : decode cX0_bag 8 = .ok (.i2l, 1) := dk_133 (dk_at dksX0_bag_0 8 rfl rfl)
theorem dX0_bag_9 : decode cX0_bag 9 = .ok (.lastore, 1) := dk_80 (dk_at dksX0_bag_0 9 rfl rfl)
theorem dX0_bag_10 : decode cX0_bag 10 = .ok (.goto 15, 3) := dk_167 0 15 (dk_at dksX0_bag_0 10 rfl rfl)
theorem dX0_bag_13 : decode cX0_bag 13 = .ok (.astore 4, 2) := dk_58 4 (dk_at dksX0_bag_0 13 rfl rfl)
theorem dX0_bag_15 : decode cX0_bag 15 = .ok (.iconst 1, 1) := dk_4 (dk_at dksX0_bag_0 15 rfl rfl)
theorem dX0_bag_16 : decode cX0_bag 16 = .ok (.ireturn, 1) := dk_172 (dk_at dksX0_bag_0 16 rfl rfl)
theorem dX0_bag_17 : decode cX0_bag 17 = .ok (.astore 4, 2) := dk_58 4 (dk_at dksX0_bag_0 17 rfl rfl)
theorem dX0_bag_19 : decode cX0_bag 19 = .ok (.iconst 2, 1) := dk_5 (dk_at dksX0_bag_0 19 rfl rfl)
theorem dX0_bag_20 : decode cX0_bag 20 = .ok (.ireturn, 1) := dk_172 (dk_at dksX0_bag_0 20 rfl rfl)
theorem dX0_bag_21 : decode cX0_bag 21 = .ok (.astore 4, 2) := dk_58 4 (dk_at dksX0_bag_0 21 rfl rfl)
theorem dX0_bag_23 : decode cX0_bag 23 = .ok (.iconst 3, 1) := dk_6 (dk_at dksX0_bag_0 23 rfl rfl)
theorem dX0_bag_24 : decode cX0_bag 24 = .ok (.ireturn, 1) := dk_172 (dk_at dksX0_bag_1 0 rfl rfl)
theorem dX0_bag_25 : decode cX0_bag 25 = .ok (.iconst 0, 1) := dk_3 (dk_at dksX0_bag_1 1 rfl rfl)
theorem dX0_bag_26 : decode cX0_bag 26 = .ok (.ireturn, 1) := dk_172 (dk_at dksX0_bag_1 2 rfl rfl)
abbrev cX0_causes : ByteArray := method_26_code
def yX0_causes : MethodName := ⟨RX0, "causes", "(LBadCodes;I[J)I"⟩
def dkwX0_causes_0 : List UInt8 := [44, 3, 42, 27, 182, 0, 87, 133, 80, 167, 0, 9, 78, 4, 172, 78, 5, 172, 3, 172]
abbrev dktX0_causes_0 : List UInt8 := dkwX0_causes_0 ++ []
theorem dksX0_causes_0 : cX0_causes.data.toList.drop 0 = dktX0_causes_0 := by decide +kernel
theorem dX0_causes_0 : decode cX0_causes 0 = .ok (.aload_n 2, 1) := dk_44 (dk_at dksX0_causes_0 0 rfl rfl)
theorem dX0_causes_1 : decode cX0_causes 1 = .ok (.iconst 0, 1) := dk_3 (dk_at dksX0_causes_0 1 rfl rfl)
theorem dX0_causes_2 : decode cX0_causes 2 = .ok (.aload_n 0, 1) := dk_42 (dk_at dksX0_causes_0 2 rfl rfl)
theorem dX0_causes_3 : decode cX0_causes 3 = .ok (.iload_n 1, 1) := dk_27 (dk_at dksX0_causes_0 3 rfl rfl)
theorem dX0_causes_4 : decode cX0_causes 4 = .ok (.invokevirtual 87, 3) := dk_182 0 87 (dk_at dksX0_causes_0 4 rfl rfl)
theorem dX0_causes_7 : decode cX0_causes 7 = .ok (.i2l, 1) := dk_133 (dk_at dksX0_causes_0 7 rfl rfl)
theorem dX0_causes_8 : decode cX0_causes 8 = .ok (.lastore, 1) := dk_80 (dk_at dksX0_causes_0 8 rfl rfl)
theorem dX0_causes_9 : decode cX0_causes 9 = .ok (.goto 9, 3) := dk_167 0 9 (dk_at dksX0_causes_0 9 rfl rfl)
theorem dX0_causes_12 : decode cX0_causes 12 = .ok (.astore_n 3, 1) := dk_78 (dk_at dksX0_causes_0 12 rfl rfl)
theorem dX0_causes_13 : decode cX0_causes 13 = .ok (.iconst 1, 1) := dk_4 (dk_at dksX0_causes_0 13 rfl rfl)
theorem dX0_causes_14 : decode cX0_causes 14 = .ok (.ireturn, 1) := dk_172 (dk_at dksX0_causes_0 14 rfl rfl)
theorem dX0_causes_15 : decode cX0_causes 15 = .ok (.astore_n 3, 1) := dk_78 (dk_at dksX0_causes_0 15 rfl rfl)
theorem dX0_causes_16 : decode cX0_causes 16 = .ok (.iconst 2, 1) := dk_5 (dk_at dksX0_causes_0 16 rfl rfl)
theorem dX0_causes_17 : decode cX0_causes 17 = .ok (.ireturn, 1) := dk_172 (dk_at dksX0_causes_0 17 rfl rfl)
theorem dX0_causes_18 : decode cX0_causes 18 = .ok (.iconst 0, 1) := dk_3 (dk_at dksX0_causes_0 18 rfl rfl)
theorem dX0_causes_19 : decode cX0_causes 19 = .ok (.ireturn, 1) := dk_172 (dk_at dksX0_causes_0 19 rfl rfl)
abbrev cX0_gap : ByteArray := method_27_code
def yX0_gap : MethodName := ⟨RX0, "gap", "(LBadCodes;[J)I"⟩
def dkwX0_gap_0 : List UInt8 := [43, 3, 42, 182, 0, 90, 133, 80, 167, 0, 6, 77, 4, 172, 3, 172]
abbrev dktX0_gap_0 : List UInt8 := dkwX0_gap_0 ++ []
theorem dksX0_gap_0 : cX0_gap.data.toList.drop 0 = dktX0_gap_0 := by decide +kernel
theorem dX0_gap_0 : decode cX0_gap 0 = .ok (.aload_n 1, 1) := dk_43 (dk_at dksX0_gap_0 0 rfl rfl)
theorem dX0_gap_1 : decode cX0_gap 1 = .ok (.iconst 0, 1) := dk_3 (dk_at dksX0_gap_0 1 rfl rfl)
theorem dX0_gap_2 : decode cX0_gap 2 = .ok (.aload_n 0, 1) := dk_42 (dk_at dksX0_gap_0 2 rfl rfl)
theorem dX0_gap_3 : decode cX0_gap 3 = .ok (.invokevirtual 90, 3) := dk_182 0 90 (dk_at dksX0_gap_0 3 rfl rfl)
theorem dX0_gap_6 : decode cX0_gap 6 = .ok (.i2l, 1) := dk_133 (dk_at dksX0_gap_0 6 rfl rfl)
theorem dX0_gap_7 : decode cX0_gap 7 = .ok (.lastore, 1) := dk_80 (dk_at dksX0_gap_0 7 rfl rfl)
theorem dX0_gap_8 : decode cX0_gap 8 = .ok (.goto 6, 3) := dk_167 0 6 (dk_at dksX0_gap_0 8 rfl rfl)
theorem dX0_gap_11 : decode cX0_gap 11 = .ok (.astore_n 2, 1) := dk_77 (dk_at dksX0_gap_0 11 rfl rfl)
theorem dX0_gap_12 : decode cX0_gap 12 = .ok (.iconst 1, 1) := dk_4 (dk_at dksX0_gap_0 12 rfl rfl)
theorem dX0_gap_13 : decode cX0_gap 13 = .ok (.ireturn, 1) := dk_172 (dk_at dksX0_gap_0 13 rfl rfl)
theorem dX0_gap_14 : decode cX0_gap 14 = .ok (.iconst 0, 1) := dk_3 (dk_at dksX0_gap_0 14 rfl rfl)
theorem dX0_gap_15 : decode cX0_gap 15 = .ok (.ireturn, 1) := dk_172 (dk_at dksX0_gap_0 15 rfl rfl)
abbrev cX0_decidedIf : ByteArray := method_28_code
def yX0_decidedIf : MethodName := ⟨RX0, "decidedIf", "(LBadCodes;III[J)I"⟩
def dkwX0_decidedIf_1 : List UInt8 := [58, 5, 6, 172, 3, 172]
abbrev dktX0_decidedIf_1 : List UInt8 := dkwX0_decidedIf_1 ++ []
def dkwX0_decidedIf_0 : List UInt8 := [25, 4, 3, 42, 27, 28, 29, 182, 0, 94, 133, 80, 167, 0, 15, 58, 5, 4, 172, 58, 5, 5, 172]
abbrev dktX0_decidedIf_0 : List UInt8 := dkwX0_decidedIf_0 ++ dktX0_decidedIf_1
theorem dksX0_decidedIf_0 : cX0_decidedIf.data.toList.drop 0 = dktX0_decidedIf_0 := by decide +kernel
theorem dksX0_decidedIf_1 : cX0_decidedIf.data.toList.drop 23 = dktX0_decidedIf_1 := dk_seg dksX0_decidedIf_0 23 rfl rfl
theorem dX0_decidedIf_0 : decode cX0_decidedIf 0 = .ok (.aload 4, 2) := dk_25 4 (dk_at dksX0_decidedIf_0 0 rfl rfl)
theorem dX0_decidedIf_2 : decode cX0_decidedIf 2 = .ok (.iconst 0, 1) := dk_3 (dk_at dksX0_decidedIf_0 2 rfl rfl)
theorem dX0_decidedIf_3 : decode cX0_decidedIf 3 = .ok (.aload_n 0, 1) := dk_42 (dk_at dksX0_decidedIf_0 3 rfl rfl)
theorem dX0_decidedIf_4 : decode cX0_decidedIf 4 = .ok (.iload_n 1, 1) := dk_27 (dk_at dksX0_decidedIf_0 4 rfl rfl)
theorem dX0_decidedIf_5 : decode cX0_decidedIf 5 = .ok (.iload_n 2, 1) := dk_28 (dk_at dksX0_decidedIf_0 5 rfl rfl)
theorem dX0_decidedIf_6 : decode cX0_decidedIf 6 = .ok (.iload_n 3, 1) := dk_29 (dk_at dksX0_decidedIf_0 6 rfl rfl)
theorem dX0_decidedIf_7 : decode cX0_decidedIf 7 = .ok (.invokevirtual 94, 3) := dk_182 0 94 (dk_at dksX0_decidedIf_0 7 rfl rfl)
theorem dX0_decidedIf_10 : decode cX0_decidedIf 10 = .ok (.i2l, 1) := dk_133 (dk_at dksX0_decidedIf_0 10 rfl rfl)
theorem dX0_decidedIf_11 : decode cX0_decidedIf 11 = .ok (.lastore, 1) := dk_80 (dk_at dksX0_decidedIf_0 11 rfl rfl)
theorem dX0_decidedIf_12 : decode cX0_decidedIf 12 = .ok (.goto 15, 3) := dk_167 0 15 (dk_at dksX0_decidedIf_0 12 rfl rfl)
theorem dX0_decidedIf_15 : decode cX0_decidedIf 15 = .ok (.astore 5, 2) := dk_58 5 (dk_at dksX0_decidedIf_0 15 rfl rfl)
theorem dX0_decidedIf_17 : decode cX0_decidedIf 17 = .ok (.iconst 1, 1) := dk_4 (dk_at dksX0_decidedIf_0 17 rfl rfl)
theorem dX0_decidedIf_18 : decode cX0_decidedIf 18 = .ok (.ireturn, 1) := dk_172 (dk_at dksX0_decidedIf_0 18 rfl rfl)
theorem dX0_decidedIf_19 : decode cX0_decidedIf 19 = .ok (.astore 5, 2) := dk_58 5 (dk_at dksX0_decidedIf_0 19 rfl rfl)
theorem dX0_decidedIf_21 : decode cX0_decidedIf 21 = .ok (.iconst 2, 1) := dk_5 (dk_at dksX0_decidedIf_0 21 rfl rfl)
theorem dX0_decidedIf_22 : decode cX0_decidedIf 22 = .ok (.ireturn, 1) := dk_172 (dk_at dksX0_decidedIf_0 22 rfl rfl)
theorem dX0_decidedIf_23 : decode cX0_decidedIf 23 = .ok (.astore 5, 2) := dk_58 5 (dk_at dksX0_decidedIf_1 0 rfl rfl)
theorem dX0_decidedIf_25 : decode cX0_decidedIf 25 = .ok (.iconst 3, 1) := dk_6 (dk_at dksX0_decidedIf_1 2 rfl rfl)
theorem dX0_decidedIf_26 : decode cX0_decidedIf 26 = .ok (.ireturn, 1) := dk_172 (dk_at dksX0_decidedIf_1 3 rfl rfl)
theorem dX0_decidedIf_27 : decode cX0_decidedIf 27 = .ok (.iconst 0, 1) := dk_3 (dk_at dksX0_decidedIf_1 4 rfl rfl)
theorem dX0_decidedIf_28 : decode cX0_decidedIf 28 = .ok (.ireturn, 1) := dk_172 (dk_at dksX0_decidedIf_1 5 rfl rfl)
abbrev cX0_sortedIf : ByteArray := method_29_code
def yX0_sortedIf : MethodName := ⟨RX0, "sortedIf", "(LBadCodes;I[J)I"⟩
def dkwX0_sortedIf_0 : List UInt8 := [44, 3, 42, 27, 182, 0, 98, 133, 80, 167, 0, 9, 78, 4, 172, 78, 5, 172, 3, 172]
abbrev dktX0_sortedIf_0 : List UInt8 := dkwX0_sortedIf_0 ++ []
theorem dksX0_sortedIf_0 : cX0_sortedIf.data.toList.drop 0 = dktX0_sortedIf_0 := by decide +kernel
theorem dX0_sortedIf_0 : decode cX0_sortedIf 0 = .ok (.aload_n 2, 1) := dk_44 (dk_at dksX0_sortedIf_0 0 rfl rfl)
theorem dX0_sortedIf_1 : decode cX0_sortedIf 1 = .ok (.iconst 0, 1) := dk_3 (dk_at dksX0_sortedIf_0 1 rfl rfl)
theorem dX0_sortedIf_2 : decode cX0_sortedIf 2 = .ok (.aload_n 0, 1) := dk_42 (dk_at dksX0_sortedIf_0 2 rfl rfl)
theorem dX0_sortedIf_3 : decode cX0_sortedIf 3 = .ok (.iload_n 1, 1) := dk_27 (dk_at dksX0_sortedIf_0 3 rfl rfl)
theorem dX0_sortedIf_4 : decode cX0_sortedIf 4 = .ok (.invokevirtual 98, 3) := dk_182 0 98 (dk_at dksX0_sortedIf_0 4 rfl rfl)
theorem dX0_sortedIf_7 : decode cX0_sortedIf 7 = .ok (.i2l, 1) := dk_133 (dk_at dksX0_sortedIf_0 7 rfl rfl)
theorem dX0_sortedIf_8 : decode cX0_sortedIf 8 = .ok (.lastore, 1) := dk_80 (dk_at dksX0_sortedIf_0 8 rfl rfl)
theorem dX0_sortedIf_9 : decode cX0_sortedIf 9 = .ok (.goto 9, 3) := dk_167 0 9 (dk_at dksX0_sortedIf_0 9 rfl rfl)
theorem dX0_sortedIf_12 : decode cX0_sortedIf 12 = .ok (.astore_n 3, 1) := dk_78 (dk_at dksX0_sortedIf_0 12 rfl rfl)
theorem dX0_sortedIf_13 : decode cX0_sortedIf 13 = .ok (.iconst 1, 1) := dk_4 (dk_at dksX0_sortedIf_0 13 rfl rfl)
theorem dX0_sortedIf_14 : decode cX0_sortedIf 14 = .ok (.ireturn, 1) := dk_172 (dk_at dksX0_sortedIf_0 14 rfl rfl)
theorem dX0_sortedIf_15 : decode cX0_sortedIf 15 = .ok (.astore_n 3, 1) := dk_78 (dk_at dksX0_sortedIf_0 15 rfl rfl)
theorem dX0_sortedIf_16 : decode cX0_sortedIf 16 = .ok (.iconst 2, 1) := dk_5 (dk_at dksX0_sortedIf_0 16 rfl rfl)
theorem dX0_sortedIf_17 : decode cX0_sortedIf 17 = .ok (.ireturn, 1) := dk_172 (dk_at dksX0_sortedIf_0 17 rfl rfl)
theorem dX0_sortedIf_18 : decode cX0_sortedIf 18 = .ok (.iconst 0, 1) := dk_3 (dk_at dksX0_sortedIf_0 18 rfl rfl)
theorem dX0_sortedIf_19 : decode cX0_sortedIf 19 = .ok (.ireturn, 1) := dk_172 (dk_at dksX0_sortedIf_0 19 rfl rfl)
abbrev cX0_bestLimit : ByteArray := method_30_code
def yX0_bestLimit : MethodName := ⟨RX0, "bestLimit", "(LBadCodes;[J)I"⟩
def dkwX0_bestLimit_0 : List UInt8 := [43, 3, 42, 182, 0, 101, 133, 80, 167, 0, 6, 77, 4, 172, 3, 172]
abbrev dktX0_bestLimit_0 : List UInt8 := dkwX0_bestLimit_0 ++ []
theorem dksX0_bestLimit_0 : cX0_bestLimit.data.toList.drop 0 = dktX0_bestLimit_0 := by decide +kernel
theorem dX0_bestLimit_0 : decode cX0_bestLimit 0 = .ok (.aload_n 1, 1) := dk_43 (dk_at dksX0_bestLimit_0 0 rfl rfl)
theorem dX0_bestLimit_1 : decode cX0_bestLimit 1 = .ok (.iconst 0, 1) := dk_3 (dk_at dksX0_bestLimit_0 1 rfl rfl)
theorem dX0_bestLimit_2 : decode cX0_bestLimit 2 = .ok (.aload_n 0, 1) := dk_42 (dk_at dksX0_bestLimit_0 2 rfl rfl)
theorem dX0_bestLimit_3 : decode cX0_bestLimit 3 = .ok (.invokevirtual 101, 3) := dk_182 0 101 (dk_at dksX0_bestLimit_0 3 rfl rfl)
theorem dX0_bestLimit_6 : decode cX0_bestLimit 6 = .ok (.i2l, 1) := dk_133 (dk_at dksX0_bestLimit_0 6 rfl rfl)
theorem dX0_bestLimit_7 : decode cX0_bestLimit 7 = .ok (.lastore, 1) := dk_80 (dk_at dksX0_bestLimit_0 7 rfl rfl)
theorem dX0_bestLimit_8 : decode cX0_bestLimit 8 = .ok (.goto 6, 3) := dk_167 0 6 (dk_at dksX0_bestLimit_0 8 rfl rfl)
theorem dX0_bestLimit_11 : decode cX0_bestLimit 11 = .ok (.astore_n 2, 1) := dk_77 (dk_at dksX0_bestLimit_0 11 rfl rfl)
theorem dX0_bestLimit_12 : decode cX0_bestLimit 12 = .ok (.iconst 1, 1) := dk_4 (dk_at dksX0_bestLimit_0 12 rfl rfl)
theorem dX0_bestLimit_13 : decode cX0_bestLimit 13 = .ok (.ireturn, 1) := dk_172 (dk_at dksX0_bestLimit_0 13 rfl rfl)
theorem dX0_bestLimit_14 : decode cX0_bestLimit 14 = .ok (.iconst 0, 1) := dk_3 (dk_at dksX0_bestLimit_0 14 rfl rfl)
theorem dX0_bestLimit_15 : decode cX0_bestLimit 15 = .ok (.ireturn, 1) := dk_172 (dk_at dksX0_bestLimit_0 15 rfl rfl)
abbrev cX0_sumFor : ByteArray := method_31_code
def yX0_sumFor : MethodName := ⟨RX0, "sumFor", "(LBadCodes;I[J)I"⟩
def dkwX0_sumFor_0 : List UInt8 := [44, 3, 42, 27, 182, 0, 104, 133, 80, 167, 0, 9, 78, 4, 172, 78, 5, 172, 3, 172]
abbrev dktX0_sumFor_0 : List UInt8 := dkwX0_sumFor_0 ++ []
theorem dksX0_sumFor_0 : cX0_sumFor.data.toList.drop 0 = dktX0_sumFor_0 := by decide +kernel
theorem dX0_sumFor_0 : decode cX0_sumFor 0 = .ok (.aload_n 2, 1) := dk_44 (dk_at dksX0_sumFor_0 0 rfl rfl)
theorem dX0_sumFor_1 : decode cX0_sumFor 1 = .ok (.iconst 0, 1) := dk_3 (dk_at dksX0_sumFor_0 1 rfl rfl)
theorem dX0_sumFor_2 : decode cX0_sumFor 2 = .ok (.aload_n 0, 1) := dk_42 (dk_at dksX0_sumFor_0 2 rfl rfl)
theorem dX0_sumFor_3 : decode cX0_sumFor 3 = .ok (.iload_n 1, 1) := dk_27 (dk_at dksX0_sumFor_0 3 rfl rfl)
theorem dX0_sumFor_4 : decode cX0_sumFor 4 = .ok (.invokevirtual 104, 3) := dk_182 0 104 (dk_at dksX0_sumFor_0 4 rfl rfl)
theorem dX0_sumFor_7 : decode cX0_sumFor 7 = .ok (.i2l, 1) := dk_133 (dk_at dksX0_sumFor_0 7 rfl rfl)
theorem dX0_sumFor_8 : decode cX0_sumFor 8 = .ok (.lastore, 1) := dk_80 (dk_at dksX0_sumFor_0 8 rfl rfl)
theorem dX0_sumFor_9 : decode cX0_sumFor 9 = .ok (.goto 9, 3) := dk_167 0 9 (dk_at dksX0_sumFor_0 9 rfl rfl)
theorem dX0_sumFor_12 : decode cX0_sumFor 12 = .ok (.astore_n 3, 1) := dk_78 (dk_at dksX0_sumFor_0 12 rfl rfl)
theorem dX0_sumFor_13 : decode cX0_sumFor 13 = .ok (.iconst 1, 1) := dk_4 (dk_at dksX0_sumFor_0 13 rfl rfl)
theorem dX0_sumFor_14 : decode cX0_sumFor 14 = .ok (.ireturn, 1) := dk_172 (dk_at dksX0_sumFor_0 14 rfl rfl)
theorem dX0_sumFor_15 : decode cX0_sumFor 15 = .ok (.astore_n 3, 1) := dk_78 (dk_at dksX0_sumFor_0 15 rfl rfl)
theorem dX0_sumFor_16 : decode cX0_sumFor 16 = .ok (.iconst 2, 1) := dk_5 (dk_at dksX0_sumFor_0 16 rfl rfl)
theorem dX0_sumFor_17 : decode cX0_sumFor 17 = .ok (.ireturn, 1) := dk_172 (dk_at dksX0_sumFor_0 17 rfl rfl)
theorem dX0_sumFor_18 : decode cX0_sumFor 18 = .ok (.iconst 0, 1) := dk_3 (dk_at dksX0_sumFor_0 18 rfl rfl)
theorem dX0_sumFor_19 : decode cX0_sumFor 19 = .ok (.ireturn, 1) := dk_172 (dk_at dksX0_sumFor_0 19 rfl rfl)
abbrev cX0_bagsIf : ByteArray := method_32_code
def yX0_bagsIf : MethodName := ⟨RX0, "bagsIf", "(LBadCodes;I[J)I"⟩
def dkwX0_bagsIf_0 : List UInt8 := [44, 3, 42, 27, 182, 0, 107, 133, 80, 167, 0, 9, 78, 4, 172, 78, 5, 172, 3, 172]
abbrev dktX0_bagsIf_0 : List UInt8 := dkwX0_bagsIf_0 ++ []
theorem dksX0_bagsIf_0 : cX0_bagsIf.data.toList.drop 0 = dktX0_bagsIf_0 := by decide +kernel
theorem dX0_bagsIf_0 : decode cX0_bagsIf 0 = .ok (.aload_n 2, 1) := dk_44 (dk_at dksX0_bagsIf_0 0 rfl rfl)
theorem dX0_bagsIf_1 : decode cX0_bagsIf 1 = .ok (.iconst 0, 1) := dk_3 (dk_at dksX0_bagsIf_0 1 rfl rfl)
theorem dX0_bagsIf_2 : decode cX0_bagsIf 2 = .ok (.aload_n 0, 1) := dk_42 (dk_at dksX0_bagsIf_0 2 rfl rfl)
theorem dX0_bagsIf_3 : decode cX0_bagsIf 3 = .ok (.iload_n 1, 1) := dk_27 (dk_at dksX0_bagsIf_0 3 rfl rfl)
theorem dX0_bagsIf_4 : decode cX0_bagsIf 4 = .ok (.invokevirtual 107, 3) := dk_182 0 107 (dk_at dksX0_bagsIf_0 4 rfl rfl)
theorem dX0_bagsIf_7 : decode cX0_bagsIf 7 = .ok (.i2l, 1) := dk_133 (dk_at dksX0_bagsIf_0 7 rfl rfl)
theorem dX0_bagsIf_8 : decode cX0_bagsIf 8 = .ok (.lastore, 1) := dk_80 (dk_at dksX0_bagsIf_0 8 rfl rfl)
theorem dX0_bagsIf_9 : decode cX0_bagsIf 9 = .ok (.goto 9, 3) := dk_167 0 9 (dk_at dksX0_bagsIf_0 9 rfl rfl)
theorem dX0_bagsIf_12 : decode cX0_bagsIf 12 = .ok (.astore_n 3, 1) := dk_78 (dk_at dksX0_bagsIf_0 12 rfl rfl)
theorem dX0_bagsIf_13 : decode cX0_bagsIf 13 = .ok (.iconst 1, 1) := dk_4 (dk_at dksX0_bagsIf_0 13 rfl rfl)
theorem dX0_bagsIf_14 : decode cX0_bagsIf 14 = .ok (.ireturn, 1) := dk_172 (dk_at dksX0_bagsIf_0 14 rfl rfl)
theorem dX0_bagsIf_15 : decode cX0_bagsIf 15 = .ok (.astore_n 3, 1) := dk_78 (dk_at dksX0_bagsIf_0 15 rfl rfl)
theorem dX0_bagsIf_16 : decode cX0_bagsIf 16 = .ok (.iconst 2, 1) := dk_5 (dk_at dksX0_bagsIf_0 16 rfl rfl)
theorem dX0_bagsIf_17 : decode cX0_bagsIf 17 = .ok (.ireturn, 1) := dk_172 (dk_at dksX0_bagsIf_0 17 rfl rfl)
theorem dX0_bagsIf_18 : decode cX0_bagsIf 18 = .ok (.iconst 0, 1) := dk_3 (dk_at dksX0_bagsIf_0 18 rfl rfl)
theorem dX0_bagsIf_19 : decode cX0_bagsIf 19 = .ok (.ireturn, 1) := dk_172 (dk_at dksX0_bagsIf_0 19 rfl rfl)
abbrev cX0_helpful : ByteArray := method_33_code
def yX0_helpful : MethodName := ⟨RX0, "helpful", "(LBadCodes;I[J)I"⟩
def dkwX0_helpful_0 : List UInt8 := [44, 3, 42, 27, 182, 0, 110, 133, 80, 167, 0, 9, 78, 4, 172, 78, 5, 172, 3, 172]
abbrev dktX0_helpful_0 : List UInt8 := dkwX0_helpful_0 ++ []
theorem dksX0_helpful_0 : cX0_helpful.data.toList.drop 0 = dktX0_helpful_0 := by decide +kernel
theorem dX0_helpful_0 : decode cX0_helpful 0 = .ok (.aload_n 2, 1) := dk_44 (dk_at dksX0_helpful_0 0 rfl rfl)
theorem dX0_helpful_1 : decode cX0_helpful 1 = .ok (.iconst 0, 1) := dk_3 (dk_at dksX0_helpful_0 1 rfl rfl)
theorem dX0_helpful_2 : decode cX0_helpful 2 = .ok (.aload_n 0, 1) := dk_42 (dk_at dksX0_helpful_0 2 rfl rfl)
theorem dX0_helpful_3 : decode cX0_helpful 3 = .ok (.iload_n 1, 1) := dk_27 (dk_at dksX0_helpful_0 3 rfl rfl)
theorem dX0_helpful_4 : decode cX0_helpful 4 = .ok (.invokevirtual 110, 3) := dk_182 0 110 (dk_at dksX0_helpful_0 4 rfl rfl)
theorem dX0_helpful_7 : decode cX0_helpful 7 = .ok (.i2l, 1) := dk_133 (dk_at dksX0_helpful_0 7 rfl rfl)
theorem dX0_helpful_8 : decode cX0_helpful 8 = .ok (.lastore, 1) := dk_80 (dk_at dksX0_helpful_0 8 rfl rfl)
theorem dX0_helpful_9 : decode cX0_helpful 9 = .ok (.goto 9, 3) := dk_167 0 9 (dk_at dksX0_helpful_0 9 rfl rfl)
theorem dX0_helpful_12 : decode cX0_helpful 12 = .ok (.astore_n 3, 1) := dk_78 (dk_at dksX0_helpful_0 12 rfl rfl)
theorem dX0_helpful_13 : decode cX0_helpful 13 = .ok (.iconst 1, 1) := dk_4 (dk_at dksX0_helpful_0 13 rfl rfl)
theorem dX0_helpful_14 : decode cX0_helpful 14 = .ok (.ireturn, 1) := dk_172 (dk_at dksX0_helpful_0 14 rfl rfl)
theorem dX0_helpful_15 : decode cX0_helpful 15 = .ok (.astore_n 3, 1) := dk_78 (dk_at dksX0_helpful_0 15 rfl rfl)
theorem dX0_helpful_16 : decode cX0_helpful 16 = .ok (.iconst 2, 1) := dk_5 (dk_at dksX0_helpful_0 16 rfl rfl)
theorem dX0_helpful_17 : decode cX0_helpful 17 = .ok (.ireturn, 1) := dk_172 (dk_at dksX0_helpful_0 17 rfl rfl)
theorem dX0_helpful_18 : decode cX0_helpful 18 = .ok (.iconst 0, 1) := dk_3 (dk_at dksX0_helpful_0 18 rfl rfl)
theorem dX0_helpful_19 : decode cX0_helpful 19 = .ok (.ireturn, 1) := dk_172 (dk_at dksX0_helpful_0 19 rfl rfl)
abbrev cX0_causeIf : ByteArray := method_34_code
def yX0_causeIf : MethodName := ⟨RX0, "causeIf", "(LBadCodes;I[J)I"⟩
def dkwX0_causeIf_0 : List UInt8 := [44, 3, 42, 27, 182, 0, 113, 133, 80, 167, 0, 9, 78, 4, 172, 78, 5, 172, 3, 172]
abbrev dktX0_causeIf_0 : List UInt8 := dkwX0_causeIf_0 ++ []
theorem dksX0_causeIf_0 : cX0_causeIf.data.toList.drop 0 = dktX0_causeIf_0 := by decide +kernel
theorem dX0_causeIf_0 : decode cX0_causeIf 0 = .ok (.aload_n 2, 1) := dk_44 (dk_at dksX0_causeIf_0 0 rfl rfl)
theorem dX0_causeIf_1 : decode cX0_causeIf 1 = .ok (.iconst 0, 1) := dk_3 (dk_at dksX0_causeIf_0 1 rfl rfl)
theorem dX0_causeIf_2 : decode cX0_causeIf 2 = .ok (.aload_n 0, 1) := dk_42 (dk_at dksX0_causeIf_0 2 rfl rfl)
theorem dX0_causeIf_3 : decode cX0_causeIf 3 = .ok (.iload_n 1, 1) := dk_27 (dk_at dksX0_causeIf_0 3 rfl rfl)
theorem dX0_causeIf_4 : decode cX0_causeIf 4 = .ok (.invokevirtual 113, 3) := dk_182 0 113 (dk_at dksX0_causeIf_0 4 rfl rfl)
theorem dX0_causeIf_7 : decode cX0_causeIf 7 = .ok (.i2l, 1) := dk_133 (dk_at dksX0_causeIf_0 7 rfl rfl)
theorem dX0_causeIf_8 : decode cX0_causeIf 8 = .ok (.lastore, 1) := dk_80 (dk_at dksX0_causeIf_0 8 rfl rfl)
theorem dX0_causeIf_9 : decode cX0_causeIf 9 = .ok (.goto 9, 3) := dk_167 0 9 (dk_at dksX0_causeIf_0 9 rfl rfl)
theorem dX0_causeIf_12 : decode cX0_causeIf 12 = .ok (.astore_n 3, 1) := dk_78 (dk_at dksX0_causeIf_0 12 rfl rfl)
theorem dX0_causeIf_13 : decode cX0_causeIf 13 = .ok (.iconst 1, 1) := dk_4 (dk_at dksX0_causeIf_0 13 rfl rfl)
theorem dX0_causeIf_14 : decode cX0_causeIf 14 = .ok (.ireturn, 1) := dk_172 (dk_at dksX0_causeIf_0 14 rfl rfl)
theorem dX0_causeIf_15 : decode cX0_causeIf 15 = .ok (.astore_n 3, 1) := dk_78 (dk_at dksX0_causeIf_0 15 rfl rfl)
theorem dX0_causeIf_16 : decode cX0_causeIf 16 = .ok (.iconst 2, 1) := dk_5 (dk_at dksX0_causeIf_0 16 rfl rfl)
theorem dX0_causeIf_17 : decode cX0_causeIf 17 = .ok (.ireturn, 1) := dk_172 (dk_at dksX0_causeIf_0 17 rfl rfl)
theorem dX0_causeIf_18 : decode cX0_causeIf 18 = .ok (.iconst 0, 1) := dk_3 (dk_at dksX0_causeIf_0 18 rfl rfl)
theorem dX0_causeIf_19 : decode cX0_causeIf 19 = .ok (.ireturn, 1) := dk_172 (dk_at dksX0_causeIf_0 19 rfl rfl)
abbrev cX0_share : ByteArray := method_35_code
def yX0_share : MethodName := ⟨RX0, "share", "(LBadCodes;[D)I"⟩
def dkwX0_share_0 : List UInt8 := [43, 3, 42, 182, 0, 116, 141, 82, 167, 0, 6, 77, 4, 172, 3, 172]
abbrev dktX0_share_0 : List UInt8 := dkwX0_share_0 ++ []
theorem dksX0_share_0 : cX0_share.data.toList.drop 0 = dktX0_share_0 := by decide +kernel
theorem dX0_share_0 : decode cX0_share 0 = .ok (.aload_n 1, 1) := dk_43 (dk_at dksX0_share_0 0 rfl rfl)
theorem dX0_share_1 : decode cX0_share 1 = .ok (.iconst 0, 1) := dk_3 (dk_at dksX0_share_0 1 rfl rfl)
theorem dX0_share_2 : decode cX0_share 2 = .ok (.aload_n 0, 1) := dk_42 (dk_at dksX0_share_0 2 rfl rfl)
theorem dX0_share_3 : decode cX0_share 3 = .ok (.invokevirtual 116, 3) := dk_182 0 116 (dk_at dksX0_share_0 3 rfl rfl)
theorem dX0_share_6 : decode cX0_share 6 = .ok (.f2d, 1) := dk_141 (dk_at dksX0_share_0 6 rfl rfl)
theorem dX0_share_7 : decode cX0_share 7 = .ok (.dastore, 1) := dk_82 (dk_at dksX0_share_0 7 rfl rfl)
theorem dX0_share_8 : decode cX0_share 8 = .ok (.goto 6, 3) := dk_167 0 6 (dk_at dksX0_share_0 8 rfl rfl)
theorem dX0_share_11 : decode cX0_share 11 = .ok (.astore_n 2, 1) := dk_77 (dk_at dksX0_share_0 11 rfl rfl)
theorem dX0_share_12 : decode cX0_share 12 = .ok (.iconst 1, 1) := dk_4 (dk_at dksX0_share_0 12 rfl rfl)
theorem dX0_share_13 : decode cX0_share 13 = .ok (.ireturn, 1) := dk_172 (dk_at dksX0_share_0 13 rfl rfl)
theorem dX0_share_14 : decode cX0_share 14 = .ok (.iconst 0, 1) := dk_3 (dk_at dksX0_share_0 14 rfl rfl)
theorem dX0_share_15 : decode cX0_share 15 = .ok (.ireturn, 1) := dk_172 (dk_at dksX0_share_0 15 rfl rfl)
abbrev cX0_meanDistance : ByteArray := method_36_code
def yX0_meanDistance : MethodName := ⟨RX0, "meanDistance", "(LBadCodes;[D)I"⟩
def dkwX0_meanDistance_0 : List UInt8 := [43, 3, 42, 182, 0, 120, 82, 167, 0, 6, 77, 4, 172, 3, 172]
abbrev dktX0_meanDistance_0 : List UInt8 := dkwX0_meanDistance_0 ++ []
theorem dksX0_meanDistance_0 : cX0_meanDistance.data.toList.drop 0 = dktX0_meanDistance_0 := by decide +kernel
theorem dX0_meanDistance_0 : decode cX0_meanDistance 0 = .ok (.aload_n 1, 1) := dk_43 (dk_at dksX0_meanDistance_0 0 rfl rfl)
theorem dX0_meanDistance_1 : decode cX0_meanDistance 1 = .ok (.iconst 0, 1) := dk_3 (dk_at dksX0_meanDistance_0 1 rfl rfl)
theorem dX0_meanDistance_2 : decode cX0_meanDistance 2 = .ok (.aload_n 0, 1) := dk_42 (dk_at dksX0_meanDistance_0 2 rfl rfl)
theorem dX0_meanDistance_3 : decode cX0_meanDistance 3 = .ok (.invokevirtual 120, 3) := dk_182 0 120 (dk_at dksX0_meanDistance_0 3 rfl rfl)
theorem dX0_meanDistance_6 : decode cX0_meanDistance 6 = .ok (.dastore, 1) := dk_82 (dk_at dksX0_meanDistance_0 6 rfl rfl)
theorem dX0_meanDistance_7 : decode cX0_meanDistance 7 = .ok (.goto 6, 3) := dk_167 0 6 (dk_at dksX0_meanDistance_0 7 rfl rfl)
theorem dX0_meanDistance_10 : decode cX0_meanDistance 10 = .ok (.astore_n 2, 1) := dk_77 (dk_at dksX0_meanDistance_0 10 rfl rfl)
theorem dX0_meanDistance_11 : decode cX0_meanDistance 11 = .ok (.iconst 1, 1) := dk_4 (dk_at dksX0_meanDistance_0 11 rfl rfl)
theorem dX0_meanDistance_12 : decode cX0_meanDistance 12 = .ok (.ireturn, 1) := dk_172 (dk_at dksX0_meanDistance_0 12 rfl rfl)
theorem dX0_meanDistance_13 : decode cX0_meanDistance 13 = .ok (.iconst 0, 1) := dk_3 (dk_at dksX0_meanDistance_0 13 rfl rfl)
theorem dX0_meanDistance_14 : decode cX0_meanDistance 14 = .ok (.ireturn, 1) := dk_172 (dk_at dksX0_meanDistance_0 14 rfl rfl)
abbrev cX0_writeLetter : ByteArray := method_37_code
def yX0_writeLetter : MethodName := ⟨RX0, "writeLetter", "(LBadCodes;I[J)I"⟩
def dkwX0_writeLetter_0 : List UInt8 := [44, 3, 42, 27, 182, 0, 124, 133, 80, 167, 0, 9, 78, 4, 172, 78, 5, 172, 3, 172]
abbrev dktX0_writeLetter_0 : List UInt8 := dkwX0_writeLetter_0 ++ []
theorem dksX0_writeLetter_0 : cX0_writeLetter.data.toList.drop 0 = dktX0_writeLetter_0 := by decide +kernel
theorem dX0_writeLetter_0 : decode cX0_writeLetter 0 = .ok (.aload_n 2, 1) := dk_44 (dk_at dksX0_writeLetter_0 0 rfl rfl)
theorem dX0_writeLetter_1 : decode cX0_writeLetter 1 = .ok (.iconst 0, 1) := dk_3 (dk_at dksX0_writeLetter_0 1 rfl rfl)
theorem dX0_writeLetter_2 : decode cX0_writeLetter 2 = .ok (.aload_n 0, 1) := dk_42 (dk_at dksX0_writeLetter_0 2 rfl rfl)
theorem dX0_writeLetter_3 : decode cX0_writeLetter 3 = .ok (.iload_n 1, 1) := dk_27 (dk_at dksX0_writeLetter_0 3 rfl rfl)
theorem dX0_writeLetter_4 : decode cX0_writeLetter 4 = .ok (.invokevirtual 124, 3) := dk_182 0 124 (dk_at dksX0_writeLetter_0 4 rfl rfl)
theorem dX0_writeLetter_7 : decode cX0_writeLetter 7 = .ok (.i2l, 1) := dk_133 (dk_at dksX0_writeLetter_0 7 rfl rfl)
theorem dX0_writeLetter_8 : decode cX0_writeLetter 8 = .ok (.lastore, 1) := dk_80 (dk_at dksX0_writeLetter_0 8 rfl rfl)
theorem dX0_writeLetter_9 : decode cX0_writeLetter 9 = .ok (.goto 9, 3) := dk_167 0 9 (dk_at dksX0_writeLetter_0 9 rfl rfl)
theorem dX0_writeLetter_12 : decode cX0_writeLetter 12 = .ok (.astore_n 3, 1) := dk_78 (dk_at dksX0_writeLetter_0 12 rfl rfl)
theorem dX0_writeLetter_13 : decode cX0_writeLetter 13 = .ok (.iconst 1, 1) := dk_4 (dk_at dksX0_writeLetter_0 13 rfl rfl)
theorem dX0_writeLetter_14 : decode cX0_writeLetter 14 = .ok (.ireturn, 1) := dk_172 (dk_at dksX0_writeLetter_0 14 rfl rfl)
theorem dX0_writeLetter_15 : decode cX0_writeLetter 15 = .ok (.astore_n 3, 1) := dk_78 (dk_at dksX0_writeLetter_0 15 rfl rfl)
theorem dX0_writeLetter_16 : decode cX0_writeLetter 16 = .ok (.iconst 2, 1) := dk_5 (dk_at dksX0_writeLetter_0 16 rfl rfl)
theorem dX0_writeLetter_17 : decode cX0_writeLetter 17 = .ok (.ireturn, 1) := dk_172 (dk_at dksX0_writeLetter_0 17 rfl rfl)
theorem dX0_writeLetter_18 : decode cX0_writeLetter 18 = .ok (.iconst 0, 1) := dk_3 (dk_at dksX0_writeLetter_0 18 rfl rfl)
theorem dX0_writeLetter_19 : decode cX0_writeLetter 19 = .ok (.ireturn, 1) := dk_172 (dk_at dksX0_writeLetter_0 19 rfl rfl)
abbrev cX0_writeNear : ByteArray := method_38_code
def yX0_writeNear : MethodName := ⟨RX0, "writeNear", "(LBadCodes;I[J)I"⟩
def dkwX0_writeNear_0 : List UInt8 := [44, 3, 42, 27, 182, 0, 127, 133, 80, 167, 0, 9, 78, 4, 172, 78, 5, 172, 3, 172]
abbrev dktX0_writeNear_0 : List UInt8 := dkwX0_writeNear_0 ++ []
theorem dksX0_writeNear_0 : cX0_writeNear.data.toList.drop 0 = dktX0_writeNear_0 := by decide +kernel
theorem dX0_writeNear_0 : decode cX0_writeNear 0 = .ok (.aload_n 2, 1) := dk_44 (dk_at dksX0_writeNear_0 0 rfl rfl)
theorem dX0_writeNear_1 : decode cX0_writeNear 1 = .ok (.iconst 0, 1) := dk_3 (dk_at dksX0_writeNear_0 1 rfl rfl)
theorem dX0_writeNear_2 : decode cX0_writeNear 2 = .ok (.aload_n 0, 1) := dk_42 (dk_at dksX0_writeNear_0 2 rfl rfl)
theorem dX0_writeNear_3 : decode cX0_writeNear 3 = .ok (.iload_n 1, 1) := dk_27 (dk_at dksX0_writeNear_0 3 rfl rfl)
theorem dX0_writeNear_4 : decode cX0_writeNear 4 = .ok (.invokevirtual 127, 3) := dk_182 0 127 (dk_at dksX0_writeNear_0 4 rfl rfl)
theorem dX0_writeNear_7 : decode cX0_writeNear 7 = .ok (.i2l, 1) := dk_133 (dk_at dksX0_writeNear_0 7 rfl rfl)
theorem dX0_writeNear_8 : decode cX0_writeNear 8 = .ok (.lastore, 1) := dk_80 (dk_at dksX0_writeNear_0 8 rfl rfl)
theorem dX0_writeNear_9 : decode cX0_writeNear 9 = .ok (.goto 9, 3) := dk_167 0 9 (dk_at dksX0_writeNear_0 9 rfl rfl)
theorem dX0_writeNear_12 : decode cX0_writeNear 12 = .ok (.astore_n 3, 1) := dk_78 (dk_at dksX0_writeNear_0 12 rfl rfl)
theorem dX0_writeNear_13 : decode cX0_writeNear 13 = .ok (.iconst 1, 1) := dk_4 (dk_at dksX0_writeNear_0 13 rfl rfl)
theorem dX0_writeNear_14 : decode cX0_writeNear 14 = .ok (.ireturn, 1) := dk_172 (dk_at dksX0_writeNear_0 14 rfl rfl)
theorem dX0_writeNear_15 : decode cX0_writeNear 15 = .ok (.astore_n 3, 1) := dk_78 (dk_at dksX0_writeNear_0 15 rfl rfl)
theorem dX0_writeNear_16 : decode cX0_writeNear 16 = .ok (.iconst 2, 1) := dk_5 (dk_at dksX0_writeNear_0 16 rfl rfl)
theorem dX0_writeNear_17 : decode cX0_writeNear 17 = .ok (.ireturn, 1) := dk_172 (dk_at dksX0_writeNear_0 17 rfl rfl)
theorem dX0_writeNear_18 : decode cX0_writeNear 18 = .ok (.iconst 0, 1) := dk_3 (dk_at dksX0_writeNear_0 18 rfl rfl)
theorem dX0_writeNear_19 : decode cX0_writeNear 19 = .ok (.ireturn, 1) := dk_172 (dk_at dksX0_writeNear_0 19 rfl rfl)
abbrev cX0_writeBags : ByteArray := method_39_code
def yX0_writeBags : MethodName := ⟨RX0, "writeBags", "(LBadCodes;[J)I"⟩
def dkwX0_writeBags_0 : List UInt8 := [43, 3, 42, 182, 0, 130, 133, 80, 167, 0, 6, 77, 4, 172, 3, 172]
abbrev dktX0_writeBags_0 : List UInt8 := dkwX0_writeBags_0 ++ []
theorem dksX0_writeBags_0 : cX0_writeBags.data.toList.drop 0 = dktX0_writeBags_0 := by decide +kernel
theorem dX0_writeBags_0 : decode cX0_writeBags 0 = .ok (.aload_n 1, 1) := dk_43 (dk_at dksX0_writeBags_0 0 rfl rfl)
theorem dX0_writeBags_1 : decode cX0_writeBags 1 = .ok (.iconst 0, 1) := dk_3 (dk_at dksX0_writeBags_0 1 rfl rfl)
theorem dX0_writeBags_2 : decode cX0_writeBags 2 = .ok (.aload_n 0, 1) := dk_42 (dk_at dksX0_writeBags_0 2 rfl rfl)
theorem dX0_writeBags_3 : decode cX0_writeBags 3 = .ok (.invokevirtual 130, 3) := dk_182 0 130 (dk_at dksX0_writeBags_0 3 rfl rfl)
theorem dX0_writeBags_6 : decode cX0_writeBags 6 = .ok (.i2l, 1) := dk_133 (dk_at dksX0_writeBags_0 6 rfl rfl)
theorem dX0_writeBags_7 : decode cX0_writeBags 7 = .ok (.lastore, 1) := dk_80 (dk_at dksX0_writeBags_0 7 rfl rfl)
theorem dX0_writeBags_8 : decode cX0_writeBags 8 = .ok (.goto 6, 3) := dk_167 0 6 (dk_at dksX0_writeBags_0 8 rfl rfl)
theorem dX0_writeBags_11 : decode cX0_writeBags 11 = .ok (.astore_n 2, 1) := dk_77 (dk_at dksX0_writeBags_0 11 rfl rfl)
theorem dX0_writeBags_12 : decode cX0_writeBags 12 = .ok (.iconst 1, 1) := dk_4 (dk_at dksX0_writeBags_0 12 rfl rfl)
theorem dX0_writeBags_13 : decode cX0_writeBags 13 = .ok (.ireturn, 1) := dk_172 (dk_at dksX0_writeBags_0 13 rfl rfl)
theorem dX0_writeBags_14 : decode cX0_writeBags 14 = .ok (.iconst 0, 1) := dk_3 (dk_at dksX0_writeBags_0 14 rfl rfl)
theorem dX0_writeBags_15 : decode cX0_writeBags 15 = .ok (.ireturn, 1) := dk_172 (dk_at dksX0_writeBags_0 15 rfl rfl)
abbrev cX0_textByte : ByteArray := method_40_code
def yX0_textByte : MethodName := ⟨RX0, "textByte", "(LBadCodes;I[J)I"⟩
def dkwX0_textByte_0 : List UInt8 := [44, 3, 42, 27, 182, 0, 133, 133, 80, 167, 0, 6, 78, 4, 172, 3, 172]
abbrev dktX0_textByte_0 : List UInt8 := dkwX0_textByte_0 ++ []
theorem dksX0_textByte_0 : cX0_textByte.data.toList.drop 0 = dktX0_textByte_0 := by decide +kernel
theorem dX0_textByte_0 : decode cX0_textByte 0 = .ok (.aload_n 2, 1) := dk_44 (dk_at dksX0_textByte_0 0 rfl rfl)
theorem dX0_textByte_1 : decode cX0_textByte 1 = .ok (.iconst 0, 1) := dk_3 (dk_at dksX0_textByte_0 1 rfl rfl)
theorem dX0_textByte_2 : decode cX0_textByte 2 = .ok (.aload_n 0, 1) := dk_42 (dk_at dksX0_textByte_0 2 rfl rfl)
theorem dX0_textByte_3 : decode cX0_textByte 3 = .ok (.iload_n 1, 1) := dk_27 (dk_at dksX0_textByte_0 3 rfl rfl)
theorem dX0_textByte_4 : decode cX0_textByte 4 = .ok (.invokevirtual 133, 3) := dk_182 0 133 (dk_at dksX0_textByte_0 4 rfl rfl)
theorem dX0_textByte_7 : decode cX0_textByte 7 = .ok (.i2l, 1) := dk_133 (dk_at dksX0_textByte_0 7 rfl rfl)
theorem dX0_textByte_8 : decode cX0_textByte 8 = .ok (.lastore, 1) := dk_80 (dk_at dksX0_textByte_0 8 rfl rfl)
theorem dX0_textByte_9 : decode cX0_textByte 9 = .ok (.goto 6, 3) := dk_167 0 6 (dk_at dksX0_textByte_0 9 rfl rfl)
theorem dX0_textByte_12 : decode cX0_textByte 12 = .ok (.astore_n 3, 1) := dk_78 (dk_at dksX0_textByte_0 12 rfl rfl)
theorem dX0_textByte_13 : decode cX0_textByte 13 = .ok (.iconst 1, 1) := dk_4 (dk_at dksX0_textByte_0 13 rfl rfl)
theorem dX0_textByte_14 : decode cX0_textByte 14 = .ok (.ireturn, 1) := dk_172 (dk_at dksX0_textByte_0 14 rfl rfl)
theorem dX0_textByte_15 : decode cX0_textByte 15 = .ok (.iconst 0, 1) := dk_3 (dk_at dksX0_textByte_0 15 rfl rfl)
theorem dX0_textByte_16 : decode cX0_textByte 16 = .ok (.ireturn, 1) := dk_172 (dk_at dksX0_textByte_0 16 rfl rfl)
abbrev cX0_sort : ByteArray := method_41_code
def yX0_sort : MethodName := ⟨RX0, "sort", "(LBadCodes;I[J)I"⟩
def dkwX0_sort_0 : List UInt8 := [44, 3, 42, 27, 182, 0, 136, 133, 80, 167, 0, 12, 78, 4, 172, 78, 5, 172, 78, 6, 172, 3, 172]
abbrev dktX0_sort_0 : List UInt8 := dkwX0_sort_0 ++ []
theorem dksX0_sort_0 : cX0_sort.data.toList.drop 0 = dktX0_sort_0 := by decide +kernel
theorem dX0_sort_0 : decode cX0_sort 0 = .ok (.aload_n 2, 1) := dk_44 (dk_at dksX0_sort_0 0 rfl rfl)
theorem dX0_sort_1 : decode cX0_sort 1 = .ok (.iconst 0, 1) := dk_3 (dk_at dksX0_sort_0 1 rfl rfl)
theorem dX0_sort_2 : decode cX0_sort 2 = .ok (.aload_n 0, 1) := dk_42 (dk_at dksX0_sort_0 2 rfl rfl)
theorem dX0_sort_3 : decode cX0_sort 3 = .ok (.iload_n 1, 1) := dk_27 (dk_at dksX0_sort_0 3 rfl rfl)
theorem dX0_sort_4 : decode cX0_sort 4 = .ok (.invokevirtual 136, 3) := dk_182 0 136 (dk_at dksX0_sort_0 4 rfl rfl)
theorem dX0_sort_7 : decode cX0_sort 7 = .ok (.i2l, 1) := dk_133 (dk_at dksX0_sort_0 7 rfl rfl)
theorem dX0_sort_8 : decode cX0_sort 8 = .ok (.lastore, 1) := dk_80 (dk_at dksX0_sort_0 8 rfl rfl)
theorem dX0_sort_9 : decode cX0_sort 9 = .ok (.goto 12, 3) := dk_167 0 12 (dk_at dksX0_sort_0 9 rfl rfl)
theorem dX0_sort_12 : decode cX0_sort 12 = .ok (.astore_n 3, 1) := dk_78 (dk_at dksX0_sort_0 12 rfl rfl)
theorem dX0_sort_13 : decode cX0_sort 13 = .ok (.iconst 1, 1) := dk_4 (dk_at dksX0_sort_0 13 rfl rfl)
theorem dX0_sort_14 : decode cX0_sort 14 = .ok (.ireturn, 1) := dk_172 (dk_at dksX0_sort_0 14 rfl rfl)
theorem dX0_sort_15 : decode cX0_sort 15 = .ok (.astore_n 3, 1) := dk_78 (dk_at dksX0_sort_0 15 rfl rfl)
theorem dX0_sort_16 : decode cX0_sort 16 = .ok (.iconst 2, 1) := dk_5 (dk_at dksX0_sort_0 16 rfl rfl)
theorem dX0_sort_17 : decode cX0_sort 17 = .ok (.ireturn, 1) := dk_172 (dk_at dksX0_sort_0 17 rfl rfl)
theorem dX0_sort_18 : decode cX0_sort 18 = .ok (.astore_n 3, 1) := dk_78 (dk_at dksX0_sort_0 18 rfl rfl)
theorem dX0_sort_19 : decode cX0_sort 19 = .ok (.iconst 3, 1) := dk_6 (dk_at dksX0_sort_0 19 rfl rfl)
theorem dX0_sort_20 : decode cX0_sort 20 = .ok (.ireturn, 1) := dk_172 (dk_at dksX0_sort_0 20 rfl rfl)
theorem dX0_sort_21 : decode cX0_sort 21 = .ok (.iconst 0, 1) := dk_3 (dk_at dksX0_sort_0 21 rfl rfl)
theorem dX0_sort_22 : decode cX0_sort 22 = .ok (.ireturn, 1) := dk_172 (dk_at dksX0_sort_0 22 rfl rfl)
abbrev cX0_sortAll : ByteArray := method_42_code
def yX0_sortAll : MethodName := ⟨RX0, "sortAll", "(LBadCodes;[J)I"⟩
def dkwX0_sortAll_0 : List UInt8 := [43, 3, 42, 182, 0, 139, 133, 80, 167, 0, 6, 77, 4, 172, 3, 172]
abbrev dktX0_sortAll_0 : List UInt8 := dkwX0_sortAll_0 ++ []
theorem dksX0_sortAll_0 : cX0_sortAll.data.toList.drop 0 = dktX0_sortAll_0 := by decide +kernel
theorem dX0_sortAll_0 : decode cX0_sortAll 0 = .ok (.aload_n 1, 1) := dk_43 (dk_at dksX0_sortAll_0 0 rfl rfl)
theorem dX0_sortAll_1 : decode cX0_sortAll 1 = .ok (.iconst 0, 1) := dk_3 (dk_at dksX0_sortAll_0 1 rfl rfl)
theorem dX0_sortAll_2 : decode cX0_sortAll 2 = .ok (.aload_n 0, 1) := dk_42 (dk_at dksX0_sortAll_0 2 rfl rfl)
theorem dX0_sortAll_3 : decode cX0_sortAll 3 = .ok (.invokevirtual 139, 3) := dk_182 0 139 (dk_at dksX0_sortAll_0 3 rfl rfl)
theorem dX0_sortAll_6 : decode cX0_sortAll 6 = .ok (.i2l, 1) := dk_133 (dk_at dksX0_sortAll_0 6 rfl rfl)
theorem dX0_sortAll_7 : decode cX0_sortAll 7 = .ok (.lastore, 1) := dk_80 (dk_at dksX0_sortAll_0 7 rfl rfl)
theorem dX0_sortAll_8 : decode cX0_sortAll 8 = .ok (.goto 6, 3) := dk_167 0 6 (dk_at dksX0_sortAll_0 8 rfl rfl)
theorem dX0_sortAll_11 : decode cX0_sortAll 11 = .ok (.astore_n 2, 1) := dk_77 (dk_at dksX0_sortAll_0 11 rfl rfl)
theorem dX0_sortAll_12 : decode cX0_sortAll 12 = .ok (.iconst 1, 1) := dk_4 (dk_at dksX0_sortAll_0 12 rfl rfl)
theorem dX0_sortAll_13 : decode cX0_sortAll 13 = .ok (.ireturn, 1) := dk_172 (dk_at dksX0_sortAll_0 13 rfl rfl)
theorem dX0_sortAll_14 : decode cX0_sortAll 14 = .ok (.iconst 0, 1) := dk_3 (dk_at dksX0_sortAll_0 14 rfl rfl)
theorem dX0_sortAll_15 : decode cX0_sortAll 15 = .ok (.ireturn, 1) := dk_172 (dk_at dksX0_sortAll_0 15 rfl rfl)
abbrev cX0_again : ByteArray := method_43_code
def yX0_again : MethodName := ⟨RX0, "again", "(LBadCodes;III[J)I"⟩
def dkwX0_again_1 : List UInt8 := [58, 5, 6, 172, 3, 172]
abbrev dktX0_again_1 : List UInt8 := dkwX0_again_1 ++ []
def dkwX0_again_0 : List UInt8 := [25, 4, 3, 42, 27, 28, 29, 182, 0, 142, 133, 80, 167, 0, 15, 58, 5, 4, 172, 58, 5, 5, 172]
abbrev dktX0_again_0 : List UInt8 := dkwX0_again_0 ++ dktX0_again_1
theorem dksX0_again_0 : cX0_again.data.toList.drop 0 = dktX0_again_0 := by decide +kernel
theorem dksX0_again_1 : cX0_again.data.toList.drop 23 = dktX0_again_1 := dk_seg dksX0_again_0 23 rfl rfl
theorem dX0_again_0 : decode cX0_again 0 = .ok (.aload 4, 2) := dk_25 4 (dk_at dksX0_again_0 0 rfl rfl)
theorem dX0_again_2 : decode cX0_again 2 = .ok (.iconst 0, 1) := dk_3 (dk_at dksX0_again_0 2 rfl rfl)
theorem dX0_again_3 : decode cX0_again 3 = .ok (.aload_n 0, 1) := dk_42 (dk_at dksX0_again_0 3 rfl rfl)
theorem dX0_again_4 : decode cX0_again 4 = .ok (.iload_n 1, 1) := dk_27 (dk_at dksX0_again_0 4 rfl rfl)
theorem dX0_again_5 : decode cX0_again 5 = .ok (.iload_n 2, 1) := dk_28 (dk_at dksX0_again_0 5 rfl rfl)
theorem dX0_again_6 : decode cX0_again 6 = .ok (.iload_n 3, 1) := dk_29 (dk_at dksX0_again_0 6 rfl rfl)
theorem dX0_again_7 : decode cX0_again 7 = .ok (.invokevirtual 142, 3) := dk_182 0 142 (dk_at dksX0_again_0 7 rfl rfl)
theorem dX0_again_10 : decode cX0_again 10 = .ok (.i2l, 1) := dk_133 (dk_at dksX0_again_0 10 rfl rfl)
theorem dX0_again_11 : decode cX0_again 11 = .ok (.lastore, 1) := dk_80 (dk_at dksX0_again_0 11 rfl rfl)
theorem dX0_again_12 : decode cX0_again 12 = .ok (.goto 15, 3) := dk_167 0 15 (dk_at dksX0_again_0 12 rfl rfl)
theorem dX0_again_15 : decode cX0_again 15 = .ok (.astore 5, 2) := dk_58 5 (dk_at dksX0_again_0 15 rfl rfl)
theorem dX0_again_17 : decode cX0_again 17 = .ok (.iconst 1, 1) := dk_4 (dk_at dksX0_again_0 17 rfl rfl)
theorem dX0_again_18 : decode cX0_again 18 = .ok (.ireturn, 1) := dk_172 (dk_at dksX0_again_0 18 rfl rfl)
theorem dX0_again_19 : decode cX0_again 19 = .ok (.astore 5, 2) := dk_58 5 (dk_at dksX0_again_0 19 rfl rfl)
theorem dX0_again_21 : decode cX0_again 21 = .ok (.iconst 2, 1) := dk_5 (dk_at dksX0_again_0 21 rfl rfl)
theorem dX0_again_22 : decode cX0_again 22 = .ok (.ireturn, 1) := dk_172 (dk_at dksX0_again_0 22 rfl rfl)
theorem dX0_again_23 : decode cX0_again 23 = .ok (.astore 5, 2) := dk_58 5 (dk_at dksX0_again_1 0 rfl rfl)
theorem dX0_again_25 : decode cX0_again 25 = .ok (.iconst 3, 1) := dk_6 (dk_at dksX0_again_1 2 rfl rfl)
theorem dX0_again_26 : decode cX0_again 26 = .ok (.ireturn, 1) := dk_172 (dk_at dksX0_again_1 3 rfl rfl)
theorem dX0_again_27 : decode cX0_again 27 = .ok (.iconst 0, 1) := dk_3 (dk_at dksX0_again_1 4 rfl rfl)
theorem dX0_again_28 : decode cX0_again 28 = .ok (.ireturn, 1) := dk_172 (dk_at dksX0_again_1 5 rfl rfl)
abbrev cX0_addLetter : ByteArray := method_44_code
def yX0_addLetter : MethodName := ⟨RX0, "addLetter", "(LBadCodes;III[J)I"⟩
def dkwX0_addLetter_1 : List UInt8 := [58, 5, 6, 172, 3, 172]
abbrev dktX0_addLetter_1 : List UInt8 := dkwX0_addLetter_1 ++ []
def dkwX0_addLetter_0 : List UInt8 := [25, 4, 3, 42, 27, 28, 29, 182, 0, 145, 133, 80, 167, 0, 15, 58, 5, 4, 172, 58, 5, 5, 172]
abbrev dktX0_addLetter_0 : List UInt8 := dkwX0_addLetter_0 ++ dktX0_addLetter_1
theorem dksX0_addLetter_0 : cX0_addLetter.data.toList.drop 0 = dktX0_addLetter_0 := by decide +kernel
theorem dksX0_addLetter_1 : cX0_addLetter.data.toList.drop 23 = dktX0_addLetter_1 := dk_seg dksX0_addLetter_0 23 rfl rfl
theorem dX0_addLetter_0 : decode cX0_addLetter 0 = .ok (.aload 4, 2) := dk_25 4 (dk_at dksX0_addLetter_0 0 rfl rfl)
theorem dX0_addLetter_2 : decode cX0_addLetter 2 = .ok (.iconst 0, 1) := dk_3 (dk_at dksX0_addLetter_0 2 rfl rfl)
theorem dX0_addLetter_3 : decode cX0_addLetter 3 = .ok (.aload_n 0, 1) := dk_42 (dk_at dksX0_addLetter_0 3 rfl rfl)
theorem dX0_addLetter_4 : decode cX0_addLetter 4 = .ok (.iload_n 1, 1) := dk_27 (dk_at dksX0_addLetter_0 4 rfl rfl)
theorem dX0_addLetter_5 : decode cX0_addLetter 5 = .ok (.iload_n 2, 1) := dk_28 (dk_at dksX0_addLetter_0 5 rfl rfl)
theorem dX0_addLetter_6 : decode cX0_addLetter 6 = .ok (.iload_n 3, 1) := dk_29 (dk_at dksX0_addLetter_0 6 rfl rfl)
theorem dX0_addLetter_7 : decode cX0_addLetter 7 = .ok (.invokevirtual 145, 3) := dk_182 0 145 (dk_at dksX0_addLetter_0 7 rfl rfl)
theorem dX0_addLetter_10 : decode cX0_addLetter 10 = .ok (.i2l, 1) := dk_133 (dk_at dksX0_addLetter_0 10 rfl rfl)
theorem dX0_addLetter_11 : decode cX0_addLetter 11 = .ok (.lastore, 1) := dk_80 (dk_at dksX0_addLetter_0 11 rfl rfl)
theorem dX0_addLetter_12 : decode cX0_addLetter 12 = .ok (.goto 15, 3) := dk_167 0 15 (dk_at dksX0_addLetter_0 12 rfl rfl)
theorem dX0_addLetter_15 : decode cX0_addLetter 15 = .ok (.astore 5, 2) := dk_58 5 (dk_at dksX0_addLetter_0 15 rfl rfl)
theorem dX0_addLetter_17 : decode cX0_addLetter 17 = .ok (.iconst 1, 1) := dk_4 (dk_at dksX0_addLetter_0 17 rfl rfl)
theorem dX0_addLetter_18 : decode cX0_addLetter 18 = .ok (.ireturn, 1) := dk_172 (dk_at dksX0_addLetter_0 18 rfl rfl)
theorem dX0_addLetter_19 : decode cX0_addLetter 19 = .ok (.astore 5, 2) := dk_58 5 (dk_at dksX0_addLetter_0 19 rfl rfl)
theorem dX0_addLetter_21 : decode cX0_addLetter 21 = .ok (.iconst 2, 1) := dk_5 (dk_at dksX0_addLetter_0 21 rfl rfl)
theorem dX0_addLetter_22 : decode cX0_addLetter 22 = .ok (.ireturn, 1) := dk_172 (dk_at dksX0_addLetter_0 22 rfl rfl)
theorem dX0_addLetter_23 : decode cX0_addLetter 23 = .ok (.astore 5, 2) := dk_58 5 (dk_at dksX0_addLetter_1 0 rfl rfl)
theorem dX0_addLetter_25 : decode cX0_addLetter 25 = .ok (.iconst 3, 1) := dk_6 (dk_at dksX0_addLetter_1 2 rfl rfl)
theorem dX0_addLetter_26 : decode cX0_addLetter 26 = .ok (.ireturn, 1) := dk_172 (dk_at dksX0_addLetter_1 3 rfl rfl)
theorem dX0_addLetter_27 : decode cX0_addLetter 27 = .ok (.iconst 0, 1) := dk_3 (dk_at dksX0_addLetter_1 4 rfl rfl)
theorem dX0_addLetter_28 : decode cX0_addLetter 28 = .ok (.ireturn, 1) := dk_172 (dk_at dksX0_addLetter_1 5 rfl rfl)
abbrev cX0_setSum : ByteArray := method_45_code
def yX0_setSum : MethodName := ⟨RX0, "setSum", "(LBadCodes;II[J)I"⟩
def dkwX0_setSum_1 : List UInt8 := [172, 3, 172]
abbrev dktX0_setSum_1 : List UInt8 := dkwX0_setSum_1 ++ []
def dkwX0_setSum_0 : List UInt8 := [45, 3, 42, 27, 28, 182, 0, 148, 133, 80, 167, 0, 15, 58, 4, 4, 172, 58, 4, 5, 172, 58, 4, 6]
abbrev dktX0_setSum_0 : List UInt8 := dkwX0_setSum_0 ++ dktX0_setSum_1
theorem dksX0_setSum_0 : cX0_setSum.data.toList.drop 0 = dktX0_setSum_0 := by decide +kernel
theorem dksX0_setSum_1 : cX0_setSum.data.toList.drop 24 = dktX0_setSum_1 := dk_seg dksX0_setSum_0 24 rfl rfl
theorem dX0_setSum_0 : decode cX0_setSum 0 = .ok (.aload_n 3, 1) := dk_45 (dk_at dksX0_setSum_0 0 rfl rfl)
theorem dX0_setSum_1 : decode cX0_setSum 1 = .ok (.iconst 0, 1) := dk_3 (dk_at dksX0_setSum_0 1 rfl rfl)
theorem dX0_setSum_2 : decode cX0_setSum 2 = .ok (.aload_n 0, 1) := dk_42 (dk_at dksX0_setSum_0 2 rfl rfl)
theorem dX0_setSum_3 : decode cX0_setSum 3 = .ok (.iload_n 1, 1) := dk_27 (dk_at dksX0_setSum_0 3 rfl rfl)
theorem dX0_setSum_4 : decode cX0_setSum 4 = .ok (.iload_n 2, 1) := dk_28 (dk_at dksX0_setSum_0 4 rfl rfl)
theorem dX0_setSum_5 : decode cX0_setSum 5 = .ok (.invokevirtual 148, 3) := dk_182 0 148 (dk_at dksX0_setSum_0 5 rfl rfl)
theorem dX0_setSum_8 : decode cX0_setSum 8 = .ok (.i2l, 1) := dk_133 (dk_at dksX0_setSum_0 8 rfl rfl)
theorem dX0_setSum_9 : decode cX0_setSum 9 = .ok (.lastore, 1) := dk_80 (dk_at dksX0_setSum_0 9 rfl rfl)
theorem dX0_setSum_10 : decode cX0_setSum 10 = .ok (.goto 15, 3) := dk_167 0 15 (dk_at dksX0_setSum_0 10 rfl rfl)
theorem dX0_setSum_13 : decode cX0_setSum 13 = .ok (.astore 4, 2) := dk_58 4 (dk_at dksX0_setSum_0 13 rfl rfl)
theorem dX0_setSum_15 : decode cX0_setSum 15 = .ok (.iconst 1, 1) := dk_4 (dk_at dksX0_setSum_0 15 rfl rfl)
theorem dX0_setSum_16 : decode cX0_setSum 16 = .ok (.ireturn, 1) := dk_172 (dk_at dksX0_setSum_0 16 rfl rfl)
theorem dX0_setSum_17 : decode cX0_setSum 17 = .ok (.astore 4, 2) := dk_58 4 (dk_at dksX0_setSum_0 17 rfl rfl)
theorem dX0_setSum_19 : decode cX0_setSum 19 = .ok (.iconst 2, 1) := dk_5 (dk_at dksX0_setSum_0 19 rfl rfl)
theorem dX0_setSum_20 : decode cX0_setSum 20 = .ok (.ireturn, 1) := dk_172 (dk_at dksX0_setSum_0 20 rfl rfl)
theorem dX0_setSum_21 : decode cX0_setSum 21 = .ok (.astore 4, 2) := dk_58 4 (dk_at dksX0_setSum_0 21 rfl rfl)
theorem dX0_setSum_23 : decode cX0_setSum 23 = .ok (.iconst 3, 1) := dk_6 (dk_at dksX0_setSum_0 23 rfl rfl)
theorem dX0_setSum_24 : decode cX0_setSum 24 = .ok (.ireturn, 1) := dk_172 (dk_at dksX0_setSum_1 0 rfl rfl)
theorem dX0_setSum_25 : decode cX0_setSum 25 = .ok (.iconst 0, 1) := dk_3 (dk_at dksX0_setSum_1 1 rfl rfl)
theorem dX0_setSum_26 : decode cX0_setSum 26 = .ok (.ireturn, 1) := dk_172 (dk_at dksX0_setSum_1 2 rfl rfl)
abbrev cX0_move : ByteArray := method_46_code
def yX0_move : MethodName := ⟨RX0, "move", "(LBadCodes;II[J)I"⟩
def dkwX0_move_1 : List UInt8 := [172, 3, 172]
abbrev dktX0_move_1 : List UInt8 := dkwX0_move_1 ++ []
def dkwX0_move_0 : List UInt8 := [45, 3, 42, 27, 28, 182, 0, 151, 133, 80, 167, 0, 15, 58, 4, 4, 172, 58, 4, 5, 172, 58, 4, 6]
abbrev dktX0_move_0 : List UInt8 := dkwX0_move_0 ++ dktX0_move_1
theorem dksX0_move_0 : cX0_move.data.toList.drop 0 = dktX0_move_0 := by decide +kernel
theorem dksX0_move_1 : cX0_move.data.toList.drop 24 = dktX0_move_1 := dk_seg dksX0_move_0 24 rfl rfl
theorem dX0_move_0 : decode cX0_move 0 = .ok (.aload_n 3, 1) := dk_45 (dk_at dksX0_move_0 0 rfl rfl)
theorem dX0_move_1 : decode cX0_move 1 = .ok (.iconst 0, 1) := dk_3 (dk_at dksX0_move_0 1 rfl rfl)
theorem dX0_move_2 : decode cX0_move 2 = .ok (.aload_n 0, 1) := dk_42 (dk_at dksX0_move_0 2 rfl rfl)
theorem dX0_move_3 : decode cX0_move 3 = .ok (.iload_n 1, 1) := dk_27 (dk_at dksX0_move_0 3 rfl rfl)
theorem dX0_move_4 : decode cX0_move 4 = .ok (.iload_n 2, 1) := dk_28 (dk_at dksX0_move_0 4 rfl rfl)
theorem dX0_move_5 : decode cX0_move 5 = .ok (.invokevirtual 151, 3) := dk_182 0 151 (dk_at dksX0_move_0 5 rfl rfl)
theorem dX0_move_8 : decode cX0_move 8 = .ok (.i2l, 1) := dk_133 (dk_at dksX0_move_0 8 rfl rfl)
theorem dX0_move_9 : decode cX0_move 9 = .ok (.lastore, 1) := dk_80 (dk_at dksX0_move_0 9 rfl rfl)
theorem dX0_move_10 : decode cX0_move 10 = .ok (.goto 15, 3) := dk_167 0 15 (dk_at dksX0_move_0 10 rfl rfl)
theorem dX0_move_13 : decode cX0_move 13 = .ok (.astore 4, 2) := dk_58 4 (dk_at dksX0_move_0 13 rfl rfl)
theorem dX0_move_15 : decode cX0_move 15 = .ok (.iconst 1, 1) := dk_4 (dk_at dksX0_move_0 15 rfl rfl)
theorem dX0_move_16 : decode cX0_move 16 = .ok (.ireturn, 1) := dk_172 (dk_at dksX0_move_0 16 rfl rfl)
theorem dX0_move_17 : decode cX0_move 17 = .ok (.astore 4, 2) := dk_58 4 (dk_at dksX0_move_0 17 rfl rfl)
theorem dX0_move_19 : decode cX0_move 19 = .ok (.iconst 2, 1) := dk_5 (dk_at dksX0_move_0 19 rfl rfl)
theorem dX0_move_20 : decode cX0_move 20 = .ok (.ireturn, 1) := dk_172 (dk_at dksX0_move_0 20 rfl rfl)
theorem dX0_move_21 : decode cX0_move 21 = .ok (.astore 4, 2) := dk_58 4 (dk_at dksX0_move_0 21 rfl rfl)
theorem dX0_move_23 : decode cX0_move 23 = .ok (.iconst 3, 1) := dk_6 (dk_at dksX0_move_0 23 rfl rfl)
theorem dX0_move_24 : decode cX0_move 24 = .ok (.ireturn, 1) := dk_172 (dk_at dksX0_move_1 0 rfl rfl)
theorem dX0_move_25 : decode cX0_move 25 = .ok (.iconst 0, 1) := dk_3 (dk_at dksX0_move_1 1 rfl rfl)
theorem dX0_move_26 : decode cX0_move 26 = .ok (.ireturn, 1) := dk_172 (dk_at dksX0_move_1 2 rfl rfl)
abbrev cX0_setLimit : ByteArray := method_47_code
def yX0_setLimit : MethodName := ⟨RX0, "setLimit", "(LBadCodes;I[J)I"⟩
def dkwX0_setLimit_0 : List UInt8 := [44, 3, 42, 27, 182, 0, 154, 133, 80, 167, 0, 9, 78, 4, 172, 78, 5, 172, 3, 172]
abbrev dktX0_setLimit_0 : List UInt8 := dkwX0_setLimit_0 ++ []
theorem dksX0_setLimit_0 : cX0_setLimit.data.toList.drop 0 = dktX0_setLimit_0 := by decide +kernel
theorem dX0_setLimit_0 : decode cX0_setLimit 0 = .ok (.aload_n 2, 1) := dk_44 (dk_at dksX0_setLimit_0 0 rfl rfl)
theorem dX0_setLimit_1 : decode cX0_setLimit 1 = .ok (.iconst 0, 1) := dk_3 (dk_at dksX0_setLimit_0 1 rfl rfl)
theorem dX0_setLimit_2 : decode cX0_setLimit 2 = .ok (.aload_n 0, 1) := dk_42 (dk_at dksX0_setLimit_0 2 rfl rfl)
theorem dX0_setLimit_3 : decode cX0_setLimit 3 = .ok (.iload_n 1, 1) := dk_27 (dk_at dksX0_setLimit_0 3 rfl rfl)
theorem dX0_setLimit_4 : decode cX0_setLimit 4 = .ok (.invokevirtual 154, 3) := dk_182 0 154 (dk_at dksX0_setLimit_0 4 rfl rfl)
theorem dX0_setLimit_7 : decode cX0_setLimit 7 = .ok (.i2l, 1) := dk_133 (dk_at dksX0_setLimit_0 7 rfl rfl)
theorem dX0_setLimit_8 : decode cX0_setLimit 8 = .ok (.lastore, 1) := dk_80 (dk_at dksX0_setLimit_0 8 rfl rfl)
theorem dX0_setLimit_9 : decode cX0_setLimit 9 = .ok (.goto 9, 3) := dk_167 0 9 (dk_at dksX0_setLimit_0 9 rfl rfl)
theorem dX0_setLimit_12 : decode cX0_setLimit 12 = .ok (.astore_n 3, 1) := dk_78 (dk_at dksX0_setLimit_0 12 rfl rfl)
theorem dX0_setLimit_13 : decode cX0_setLimit 13 = .ok (.iconst 1, 1) := dk_4 (dk_at dksX0_setLimit_0 13 rfl rfl)
theorem dX0_setLimit_14 : decode cX0_setLimit 14 = .ok (.ireturn, 1) := dk_172 (dk_at dksX0_setLimit_0 14 rfl rfl)
theorem dX0_setLimit_15 : decode cX0_setLimit 15 = .ok (.astore_n 3, 1) := dk_78 (dk_at dksX0_setLimit_0 15 rfl rfl)
theorem dX0_setLimit_16 : decode cX0_setLimit 16 = .ok (.iconst 2, 1) := dk_5 (dk_at dksX0_setLimit_0 16 rfl rfl)
theorem dX0_setLimit_17 : decode cX0_setLimit 17 = .ok (.ireturn, 1) := dk_172 (dk_at dksX0_setLimit_0 17 rfl rfl)
theorem dX0_setLimit_18 : decode cX0_setLimit 18 = .ok (.iconst 0, 1) := dk_3 (dk_at dksX0_setLimit_0 18 rfl rfl)
theorem dX0_setLimit_19 : decode cX0_setLimit 19 = .ok (.ireturn, 1) := dk_172 (dk_at dksX0_setLimit_0 19 rfl rfl)
abbrev cX0_turnRoute : ByteArray := method_48_code
def yX0_turnRoute : MethodName := ⟨RX0, "turnRoute", "(LBadCodes;I[J)I"⟩
def dkwX0_turnRoute_0 : List UInt8 := [44, 3, 42, 27, 182, 0, 157, 133, 80, 167, 0, 9, 78, 4, 172, 78, 5, 172, 3, 172]
abbrev dktX0_turnRoute_0 : List UInt8 := dkwX0_turnRoute_0 ++ []
theorem dksX0_turnRoute_0 : cX0_turnRoute.data.toList.drop 0 = dktX0_turnRoute_0 := by decide +kernel
theorem dX0_turnRoute_0 : decode cX0_turnRoute 0 = .ok (.aload_n 2, 1) := dk_44 (dk_at dksX0_turnRoute_0 0 rfl rfl)
theorem dX0_turnRoute_1 : decode cX0_turnRoute 1 = .ok (.iconst 0, 1) := dk_3 (dk_at dksX0_turnRoute_0 1 rfl rfl)
theorem dX0_turnRoute_2 : decode cX0_turnRoute 2 = .ok (.aload_n 0, 1) := dk_42 (dk_at dksX0_turnRoute_0 2 rfl rfl)
theorem dX0_turnRoute_3 : decode cX0_turnRoute 3 = .ok (.iload_n 1, 1) := dk_27 (dk_at dksX0_turnRoute_0 3 rfl rfl)
theorem dX0_turnRoute_4 : decode cX0_turnRoute 4 = .ok (.invokevirtual 157, 3) := dk_182 0 157 (dk_at dksX0_turnRoute_0 4 rfl rfl)
theorem dX0_turnRoute_7 : decode cX0_turnRoute 7 = .ok (.i2l, 1) := dk_133 (dk_at dksX0_turnRoute_0 7 rfl rfl)
theorem dX0_turnRoute_8 : decode cX0_turnRoute 8 = .ok (.lastore, 1) := dk_80 (dk_at dksX0_turnRoute_0 8 rfl rfl)
theorem dX0_turnRoute_9 : decode cX0_turnRoute 9 = .ok (.goto 9, 3) := dk_167 0 9 (dk_at dksX0_turnRoute_0 9 rfl rfl)
theorem dX0_turnRoute_12 : decode cX0_turnRoute 12 = .ok (.astore_n 3, 1) := dk_78 (dk_at dksX0_turnRoute_0 12 rfl rfl)
theorem dX0_turnRoute_13 : decode cX0_turnRoute 13 = .ok (.iconst 1, 1) := dk_4 (dk_at dksX0_turnRoute_0 13 rfl rfl)
theorem dX0_turnRoute_14 : decode cX0_turnRoute 14 = .ok (.ireturn, 1) := dk_172 (dk_at dksX0_turnRoute_0 14 rfl rfl)
theorem dX0_turnRoute_15 : decode cX0_turnRoute 15 = .ok (.astore_n 3, 1) := dk_78 (dk_at dksX0_turnRoute_0 15 rfl rfl)
theorem dX0_turnRoute_16 : decode cX0_turnRoute 16 = .ok (.iconst 2, 1) := dk_5 (dk_at dksX0_turnRoute_0 16 rfl rfl)
theorem dX0_turnRoute_17 : decode cX0_turnRoute 17 = .ok (.ireturn, 1) := dk_172 (dk_at dksX0_turnRoute_0 17 rfl rfl)
theorem dX0_turnRoute_18 : decode cX0_turnRoute 18 = .ok (.iconst 0, 1) := dk_3 (dk_at dksX0_turnRoute_0 18 rfl rfl)
theorem dX0_turnRoute_19 : decode cX0_turnRoute 19 = .ok (.ireturn, 1) := dk_172 (dk_at dksX0_turnRoute_0 19 rfl rfl)
abbrev cX0_undo : ByteArray := method_49_code
def yX0_undo : MethodName := ⟨RX0, "undo", "(LBadCodes;[J)I"⟩
def dkwX0_undo_0 : List UInt8 := [43, 3, 42, 182, 0, 160, 133, 80, 167, 0, 6, 77, 4, 172, 3, 172]
abbrev dktX0_undo_0 : List UInt8 := dkwX0_undo_0 ++ []
theorem dksX0_undo_0 : cX0_undo.data.toList.drop 0 = dktX0_undo_0 := by decide +kernel
theorem dX0_undo_0 : decode cX0_undo 0 = .ok (.aload_n 1, 1) := dk_43 (dk_at dksX0_undo_0 0 rfl rfl)
theorem dX0_undo_1 : decode cX0_undo 1 = .ok (.iconst 0, 1) := dk_3 (dk_at dksX0_undo_0 1 rfl rfl)
theorem dX0_undo_2 : decode cX0_undo 2 = .ok (.aload_n 0, 1) := dk_42 (dk_at dksX0_undo_0 2 rfl rfl)
theorem dX0_undo_3 : decode cX0_undo 3 = .ok (.invokevirtual 160, 3) := dk_182 0 160 (dk_at dksX0_undo_0 3 rfl rfl)
theorem dX0_undo_6 : decode cX0_undo 6 = .ok (.i2l, 1) := dk_133 (dk_at dksX0_undo_0 6 rfl rfl)
theorem dX0_undo_7 : decode cX0_undo 7 = .ok (.lastore, 1) := dk_80 (dk_at dksX0_undo_0 7 rfl rfl)
theorem dX0_undo_8 : decode cX0_undo 8 = .ok (.goto 6, 3) := dk_167 0 6 (dk_at dksX0_undo_0 8 rfl rfl)
theorem dX0_undo_11 : decode cX0_undo 11 = .ok (.astore_n 2, 1) := dk_77 (dk_at dksX0_undo_0 11 rfl rfl)
theorem dX0_undo_12 : decode cX0_undo 12 = .ok (.iconst 1, 1) := dk_4 (dk_at dksX0_undo_0 12 rfl rfl)
theorem dX0_undo_13 : decode cX0_undo 13 = .ok (.ireturn, 1) := dk_172 (dk_at dksX0_undo_0 13 rfl rfl)
theorem dX0_undo_14 : decode cX0_undo 14 = .ok (.iconst 0, 1) := dk_3 (dk_at dksX0_undo_0 14 rfl rfl)
theorem dX0_undo_15 : decode cX0_undo 15 = .ok (.ireturn, 1) := dk_172 (dk_at dksX0_undo_0 15 rfl rfl)
abbrev cX0_save : ByteArray := method_50_code
def yX0_save : MethodName := ⟨RX0, "save", "(LBadCodes;I[J)I"⟩
def dkwX0_save_0 : List UInt8 := [44, 3, 42, 27, 182, 0, 163, 133, 80, 167, 0, 9, 78, 4, 172, 78, 5, 172, 3, 172]
abbrev dktX0_save_0 : List UInt8 := dkwX0_save_0 ++ []
theorem dksX0_save_0 : cX0_save.data.toList.drop 0 = dktX0_save_0 := by decide +kernel
theorem dX0_save_0 : decode cX0_save 0 = .ok (.aload_n 2, 1) := dk_44 (dk_at dksX0_save_0 0 rfl rfl)
theorem dX0_save_1 : decode cX0_save 1 = .ok (.iconst 0, 1) := dk_3 (dk_at dksX0_save_0 1 rfl rfl)
theorem dX0_save_2 : decode cX0_save 2 = .ok (.aload_n 0, 1) := dk_42 (dk_at dksX0_save_0 2 rfl rfl)
theorem dX0_save_3 : decode cX0_save 3 = .ok (.iload_n 1, 1) := dk_27 (dk_at dksX0_save_0 3 rfl rfl)
theorem dX0_save_4 : decode cX0_save 4 = .ok (.invokevirtual 163, 3) := dk_182 0 163 (dk_at dksX0_save_0 4 rfl rfl)
theorem dX0_save_7 : decode cX0_save 7 = .ok (.i2l, 1) := dk_133 (dk_at dksX0_save_0 7 rfl rfl)
theorem dX0_save_8 : decode cX0_save 8 = .ok (.lastore, 1) := dk_80 (dk_at dksX0_save_0 8 rfl rfl)
theorem dX0_save_9 : decode cX0_save 9 = .ok (.goto 9, 3) := dk_167 0 9 (dk_at dksX0_save_0 9 rfl rfl)
theorem dX0_save_12 : decode cX0_save 12 = .ok (.astore_n 3, 1) := dk_78 (dk_at dksX0_save_0 12 rfl rfl)
theorem dX0_save_13 : decode cX0_save 13 = .ok (.iconst 1, 1) := dk_4 (dk_at dksX0_save_0 13 rfl rfl)
theorem dX0_save_14 : decode cX0_save 14 = .ok (.ireturn, 1) := dk_172 (dk_at dksX0_save_0 14 rfl rfl)
theorem dX0_save_15 : decode cX0_save 15 = .ok (.astore_n 3, 1) := dk_78 (dk_at dksX0_save_0 15 rfl rfl)
theorem dX0_save_16 : decode cX0_save 16 = .ok (.iconst 2, 1) := dk_5 (dk_at dksX0_save_0 16 rfl rfl)
theorem dX0_save_17 : decode cX0_save 17 = .ok (.ireturn, 1) := dk_172 (dk_at dksX0_save_0 17 rfl rfl)
theorem dX0_save_18 : decode cX0_save 18 = .ok (.iconst 0, 1) := dk_3 (dk_at dksX0_save_0 18 rfl rfl)
theorem dX0_save_19 : decode cX0_save 19 = .ok (.ireturn, 1) := dk_172 (dk_at dksX0_save_0 19 rfl rfl)
abbrev cX0_restore : ByteArray := method_51_code
def yX0_restore : MethodName := ⟨RX0, "restore", "(LBadCodes;I[J)I"⟩
def dkwX0_restore_0 : List UInt8 := [44, 3, 42, 27, 182, 0, 166, 133, 80, 167, 0, 9, 78, 4, 172, 78, 5, 172, 3, 172]
abbrev dktX0_restore_0 : List UInt8 := dkwX0_restore_0 ++ []
theorem dksX0_restore_0 : cX0_restore.data.toList.drop 0 = dktX0_restore_0 := by decide +kernel
theorem dX0_restore_0 : decode cX0_restore 0 = .ok (.aload_n 2, 1) := dk_44 (dk_at dksX0_restore_0 0 rfl rfl)
theorem dX0_restore_1 : decode cX0_restore 1 = .ok (.iconst 0, 1) := dk_3 (dk_at dksX0_restore_0 1 rfl rfl)
theorem dX0_restore_2 : decode cX0_restore 2 = .ok (.aload_n 0, 1) := dk_42 (dk_at dksX0_restore_0 2 rfl rfl)
theorem dX0_restore_3 : decode cX0_restore 3 = .ok (.iload_n 1, 1) := dk_27 (dk_at dksX0_restore_0 3 rfl rfl)
theorem dX0_restore_4 : decode cX0_restore 4 = .ok (.invokevirtual 166, 3) := dk_182 0 166 (dk_at dksX0_restore_0 4 rfl rfl)
theorem dX0_restore_7 : decode cX0_restore 7 = .ok (.i2l, 1) := dk_133 (dk_at dksX0_restore_0 7 rfl rfl)
theorem dX0_restore_8 : decode cX0_restore 8 = .ok (.lastore, 1) := dk_80 (dk_at dksX0_restore_0 8 rfl rfl)
theorem dX0_restore_9 : decode cX0_restore 9 = .ok (.goto 9, 3) := dk_167 0 9 (dk_at dksX0_restore_0 9 rfl rfl)
theorem dX0_restore_12 : decode cX0_restore 12 = .ok (.astore_n 3, 1) := dk_78 (dk_at dksX0_restore_0 12 rfl rfl)
theorem dX0_restore_13 : decode cX0_restore 13 = .ok (.iconst 1, 1) := dk_4 (dk_at dksX0_restore_0 13 rfl rfl)
theorem dX0_restore_14 : decode cX0_restore 14 = .ok (.ireturn, 1) := dk_172 (dk_at dksX0_restore_0 14 rfl rfl)
theorem dX0_restore_15 : decode cX0_restore 15 = .ok (.astore_n 3, 1) := dk_78 (dk_at dksX0_restore_0 15 rfl rfl)
theorem dX0_restore_16 : decode cX0_restore 16 = .ok (.iconst 2, 1) := dk_5 (dk_at dksX0_restore_0 16 rfl rfl)
theorem dX0_restore_17 : decode cX0_restore 17 = .ok (.ireturn, 1) := dk_172 (dk_at dksX0_restore_0 17 rfl rfl)
theorem dX0_restore_18 : decode cX0_restore 18 = .ok (.iconst 0, 1) := dk_3 (dk_at dksX0_restore_0 18 rfl rfl)
theorem dX0_restore_19 : decode cX0_restore 19 = .ok (.ireturn, 1) := dk_172 (dk_at dksX0_restore_0 19 rfl rfl)
theorem q111 : (Jvm.Cond.initialized "BadCodesLaw") ∈ lw_all := lw_g (lw_at lw_m1 0 rfl) rfl
theorem q150 : (Jvm.Cond.classLink "BadCodesLaw" (8 : Nat) "BadCodes") ∈ lw_all := lw_g (lw_at lw_m1 39 rfl) rfl
theorem q152 : (Jvm.Cond.methodLink "BadCodesLaw" (169 : Nat) ({ cls := "BadCodes", name := "<init>", desc := "()V" } : Jvm.MethodName)) ∈ lw_all := lw_g (lw_at lw_m1 41 rfl) rfl
theorem q244 : (Jvm.Cond.methodLink "BadCodesLaw" (173 : Nat) ({ cls := "BadCodes", name := "append", desc := "(IIIII)I" } : Jvm.MethodName)) ∈ lw_all := lw_g (lw_at lw_m1 133 rfl) rfl
theorem q253 : (Jvm.Cond.methodLink "BadCodesLaw" (187 : Nat) ({ cls := "BadCodes", name := "parseError", desc := "()I" } : Jvm.MethodName)) ∈ lw_all := lw_g (lw_at lw_m1 142 rfl) rfl
theorem q257 : (Jvm.Cond.methodLink "BadCodesLaw" (191 : Nat) ({ cls := "BadCodes", name := "errorPosition", desc := "()I" } : Jvm.MethodName)) ∈ lw_all := lw_g (lw_at lw_m1 146 rfl) rfl
theorem q261 : (Jvm.Cond.methodLink "BadCodesLaw" (195 : Nat) ({ cls := "BadCodes", name := "buffered", desc := "()I" } : Jvm.MethodName)) ∈ lw_all := lw_g (lw_at lw_m1 150 rfl) rfl
theorem q265 : (Jvm.Cond.methodLink "BadCodesLaw" (341 : Nat) ({ cls := "BadCodes", name := "undoable", desc := "()I" } : Jvm.MethodName)) ∈ lw_all := lw_g (lw_at lw_m1 154 rfl) rfl
theorem q282 : (Jvm.Cond.methodLink "BadCodesLaw" (178 : Nat) ({ cls := "BadCodesLaw", name := "load", desc := "(LBadCodes;I[J)I" } : Jvm.MethodName)) ∈ lw_all := lw_g (lw_at lw_m1 171 rfl) rfl
theorem q283 : (Jvm.Cond.static ({ cls := "BadCodesLaw", name := "load", desc := "(LBadCodes;I[J)I" } : Jvm.MethodName)) ∈ lw_all := lw_g (lw_at lw_m1 172 rfl) rfl
theorem q284 : (Jvm.Cond.codeWith ({ cls := "BadCodesLaw", name := "load", desc := "(LBadCodes;I[J)I" } : Jvm.MethodName) method_3_code (4 : Nat) (Option.some Jvm.ClassFile.FieldType.int) [((0 : Nat), (9 : Nat), (12 : Nat), (13 : Nat)), ((0 : Nat), (9 : Nat), (15 : Nat), (15 : Nat))]) ∈ lw_all := lw_g (lw_at lw_m1 173 rfl) rfl
theorem q285 : (Jvm.Cond.classLink "BadCodesLaw" (13 : Nat) "java/lang/IndexOutOfBoundsException") ∈ lw_all := lw_g (lw_at lw_m1 174 rfl) rfl
theorem q365 : (Jvm.Cond.classLink "BadCodesLaw" (15 : Nat) "java/lang/IllegalArgumentException") ∈ lw_all := lw_g (lw_at lw_m2 14 rfl) rfl
theorem q366 : (Jvm.Cond.methodLink "BadCodesLaw" (7 : Nat) ({ cls := "BadCodes", name := "load", desc := "(I)I" } : Jvm.MethodName)) ∈ lw_all := lw_g (lw_at lw_m2 15 rfl) rfl
theorem q1304 : (Jvm.Cond.methodLink "BadCodesLaw" (199 : Nat) ({ cls := "BadCodesLaw", name := "count", desc := "(LBadCodes;I[J)I" } : Jvm.MethodName)) ∈ lw_all := lw_g (lw_at lw_m5 233 rfl) rfl
theorem q1305 : (Jvm.Cond.static ({ cls := "BadCodesLaw", name := "count", desc := "(LBadCodes;I[J)I" } : Jvm.MethodName)) ∈ lw_all := lw_g (lw_at lw_m5 234 rfl) rfl
theorem q1306 : (Jvm.Cond.codeWith ({ cls := "BadCodesLaw", name := "count", desc := "(LBadCodes;I[J)I" } : Jvm.MethodName) method_4_code (4 : Nat) (Option.some Jvm.ClassFile.FieldType.int) [((0 : Nat), (9 : Nat), (12 : Nat), (20 : Nat)), ((0 : Nat), (9 : Nat), (15 : Nat), (15 : Nat))]) ∈ lw_all := lw_g (lw_at lw_m5 235 rfl) rfl
theorem q1307 : (Jvm.Cond.classLink "BadCodesLaw" (20 : Nat) "java/lang/IllegalStateException") ∈ lw_all := lw_g (lw_at lw_m5 236 rfl) rfl
theorem q1308 : (Jvm.Cond.methodLink "BadCodesLaw" (17 : Nat) ({ cls := "BadCodes", name := "count", desc := "(I)I" } : Jvm.MethodName)) ∈ lw_all := lw_g (lw_at lw_m5 237 rfl) rfl
theorem q1364 : (Jvm.Cond.methodLink "BadCodesLaw" (202 : Nat) ({ cls := "BadCodesLaw", name := "town", desc := "(LBadCodes;II[J)I" } : Jvm.MethodName)) ∈ lw_all := lw_g (lw_at lw_m6 53 rfl) rfl
theorem q1365 : (Jvm.Cond.static ({ cls := "BadCodesLaw", name := "town", desc := "(LBadCodes;II[J)I" } : Jvm.MethodName)) ∈ lw_all := lw_g (lw_at lw_m6 54 rfl) rfl
theorem q1366 : (Jvm.Cond.codeWith ({ cls := "BadCodesLaw", name := "town", desc := "(LBadCodes;II[J)I" } : Jvm.MethodName) method_5_code (5 : Nat) (Option.some Jvm.ClassFile.FieldType.int) [((0 : Nat), (10 : Nat), (13 : Nat), (20 : Nat)), ((0 : Nat), (10 : Nat), (17 : Nat), (13 : Nat)), ((0 : Nat), (10 : Nat), (21 : Nat), (15 : Nat))]) ∈ lw_all := lw_g (lw_at lw_m6 55 rfl) rfl
theorem q1367 : (Jvm.Cond.methodLink "BadCodesLaw" (22 : Nat) ({ cls := "BadCodes", name := "town", desc := "(II)I" } : Jvm.MethodName)) ∈ lw_all := lw_g (lw_at lw_m6 56 rfl) rfl
theorem q1390 : (Jvm.Cond.methodLink "BadCodesLaw" (206 : Nat) ({ cls := "BadCodesLaw", name := "codeDigit", desc := "(LBadCodes;II[J)I" } : Jvm.MethodName)) ∈ lw_all := lw_g (lw_at lw_m6 79 rfl) rfl
theorem q1391 : (Jvm.Cond.static ({ cls := "BadCodesLaw", name := "codeDigit", desc := "(LBadCodes;II[J)I" } : Jvm.MethodName)) ∈ lw_all := lw_g (lw_at lw_m6 80 rfl) rfl
theorem q1392 : (Jvm.Cond.codeWith ({ cls := "BadCodesLaw", name := "codeDigit", desc := "(LBadCodes;II[J)I" } : Jvm.MethodName) method_6_code (5 : Nat) (Option.some Jvm.ClassFile.FieldType.int) [((0 : Nat), (10 : Nat), (13 : Nat), (20 : Nat)), ((0 : Nat), (10 : Nat), (17 : Nat), (13 : Nat))]) ∈ lw_all := lw_g (lw_at lw_m6 81 rfl) rfl
theorem q1393 : (Jvm.Cond.methodLink "BadCodesLaw" (26 : Nat) ({ cls := "BadCodes", name := "codeDigit", desc := "(II)I" } : Jvm.MethodName)) ∈ lw_all := lw_g (lw_at lw_m6 82 rfl) rfl
theorem q1398 : (Jvm.Cond.methodLink "BadCodesLaw" (209 : Nat) ({ cls := "BadCodesLaw", name := "checkDigit", desc := "(LBadCodes;I[J)I" } : Jvm.MethodName)) ∈ lw_all := lw_g (lw_at lw_m6 87 rfl) rfl
theorem q1399 : (Jvm.Cond.static ({ cls := "BadCodesLaw", name := "checkDigit", desc := "(LBadCodes;I[J)I" } : Jvm.MethodName)) ∈ lw_all := lw_g (lw_at lw_m6 88 rfl) rfl
theorem q1400 : (Jvm.Cond.codeWith ({ cls := "BadCodesLaw", name := "checkDigit", desc := "(LBadCodes;I[J)I" } : Jvm.MethodName) method_7_code (4 : Nat) (Option.some Jvm.ClassFile.FieldType.int) [((0 : Nat), (9 : Nat), (12 : Nat), (20 : Nat)), ((0 : Nat), (9 : Nat), (15 : Nat), (15 : Nat))]) ∈ lw_all := lw_g (lw_at lw_m6 89 rfl) rfl
theorem q1401 : (Jvm.Cond.methodLink "BadCodesLaw" (29 : Nat) ({ cls := "BadCodes", name := "checkDigit", desc := "(I)I" } : Jvm.MethodName)) ∈ lw_all := lw_g (lw_at lw_m6 90 rfl) rfl
theorem q1409 : (Jvm.Cond.methodLink "BadCodesLaw" (212 : Nat) ({ cls := "BadCodesLaw", name := "apart", desc := "(LBadCodes;II[J)I" } : Jvm.MethodName)) ∈ lw_all := lw_g (lw_at lw_m6 98 rfl) rfl
theorem q1410 : (Jvm.Cond.static ({ cls := "BadCodesLaw", name := "apart", desc := "(LBadCodes;II[J)I" } : Jvm.MethodName)) ∈ lw_all := lw_g (lw_at lw_m6 99 rfl) rfl
theorem q1411 : (Jvm.Cond.codeWith ({ cls := "BadCodesLaw", name := "apart", desc := "(LBadCodes;II[J)I" } : Jvm.MethodName) method_8_code (5 : Nat) (Option.some Jvm.ClassFile.FieldType.int) [((0 : Nat), (10 : Nat), (13 : Nat), (20 : Nat)), ((0 : Nat), (10 : Nat), (17 : Nat), (13 : Nat))]) ∈ lw_all := lw_g (lw_at lw_m6 100 rfl) rfl
theorem q1412 : (Jvm.Cond.methodLink "BadCodesLaw" (32 : Nat) ({ cls := "BadCodes", name := "apart", desc := "(II)I" } : Jvm.MethodName)) ∈ lw_all := lw_g (lw_at lw_m6 101 rfl) rfl
theorem q1420 : (Jvm.Cond.methodLink "BadCodesLaw" (215 : Nat) ({ cls := "BadCodesLaw", name := "closest", desc := "(LBadCodes;I[J)I" } : Jvm.MethodName)) ∈ lw_all := lw_g (lw_at lw_m6 109 rfl) rfl
theorem q1421 : (Jvm.Cond.static ({ cls := "BadCodesLaw", name := "closest", desc := "(LBadCodes;I[J)I" } : Jvm.MethodName)) ∈ lw_all := lw_g (lw_at lw_m6 110 rfl) rfl
theorem q1422 : (Jvm.Cond.codeWith ({ cls := "BadCodesLaw", name := "closest", desc := "(LBadCodes;I[J)I" } : Jvm.MethodName) method_9_code (4 : Nat) (Option.some Jvm.ClassFile.FieldType.int) [((0 : Nat), (9 : Nat), (12 : Nat), (20 : Nat)), ((0 : Nat), (9 : Nat), (15 : Nat), (13 : Nat))]) ∈ lw_all := lw_g (lw_at lw_m6 111 rfl) rfl
theorem q1423 : (Jvm.Cond.methodLink "BadCodesLaw" (35 : Nat) ({ cls := "BadCodes", name := "closest", desc := "(I)I" } : Jvm.MethodName)) ∈ lw_all := lw_g (lw_at lw_m6 112 rfl) rfl
theorem q1427 : (Jvm.Cond.methodLink "BadCodesLaw" (218 : Nat) ({ cls := "BadCodesLaw", name := "letter", desc := "(LBadCodes;II[J)I" } : Jvm.MethodName)) ∈ lw_all := lw_g (lw_at lw_m6 116 rfl) rfl
theorem q1428 : (Jvm.Cond.static ({ cls := "BadCodesLaw", name := "letter", desc := "(LBadCodes;II[J)I" } : Jvm.MethodName)) ∈ lw_all := lw_g (lw_at lw_m6 117 rfl) rfl
theorem q1429 : (Jvm.Cond.codeWith ({ cls := "BadCodesLaw", name := "letter", desc := "(LBadCodes;II[J)I" } : Jvm.MethodName) method_10_code (5 : Nat) (Option.some Jvm.ClassFile.FieldType.int) [((0 : Nat), (10 : Nat), (13 : Nat), (20 : Nat)), ((0 : Nat), (10 : Nat), (17 : Nat), (13 : Nat)), ((0 : Nat), (10 : Nat), (21 : Nat), (15 : Nat))]) ∈ lw_all := lw_g (lw_at lw_m6 118 rfl) rfl
theorem q1430 : (Jvm.Cond.methodLink "BadCodesLaw" (38 : Nat) ({ cls := "BadCodes", name := "letter", desc := "(II)I" } : Jvm.MethodName)) ∈ lw_all := lw_g (lw_at lw_m6 119 rfl) rfl
theorem q1444 : (Jvm.Cond.methodLink "BadCodesLaw" (221 : Nat) ({ cls := "BadCodesLaw", name := "read", desc := "(LBadCodes;II[J)I" } : Jvm.MethodName)) ∈ lw_all := lw_g (lw_at lw_m6 133 rfl) rfl
theorem q1445 : (Jvm.Cond.static ({ cls := "BadCodesLaw", name := "read", desc := "(LBadCodes;II[J)I" } : Jvm.MethodName)) ∈ lw_all := lw_g (lw_at lw_m6 134 rfl) rfl
theorem q1446 : (Jvm.Cond.codeWith ({ cls := "BadCodesLaw", name := "read", desc := "(LBadCodes;II[J)I" } : Jvm.MethodName) method_11_code (5 : Nat) (Option.some Jvm.ClassFile.FieldType.int) [((0 : Nat), (10 : Nat), (13 : Nat), (20 : Nat)), ((0 : Nat), (10 : Nat), (17 : Nat), (13 : Nat))]) ∈ lw_all := lw_g (lw_at lw_m6 135 rfl) rfl
theorem q1447 : (Jvm.Cond.methodLink "BadCodesLaw" (41 : Nat) ({ cls := "BadCodes", name := "read", desc := "(II)I" } : Jvm.MethodName)) ∈ lw_all := lw_g (lw_at lw_m6 136 rfl) rfl
theorem q1455 : (Jvm.Cond.methodLink "BadCodesLaw" (224 : Nat) ({ cls := "BadCodesLaw", name := "isRight", desc := "(LBadCodes;I[J)I" } : Jvm.MethodName)) ∈ lw_all := lw_g (lw_at lw_m6 144 rfl) rfl
theorem q1456 : (Jvm.Cond.static ({ cls := "BadCodesLaw", name := "isRight", desc := "(LBadCodes;I[J)I" } : Jvm.MethodName)) ∈ lw_all := lw_g (lw_at lw_m6 145 rfl) rfl
theorem q1457 : (Jvm.Cond.codeWith ({ cls := "BadCodesLaw", name := "isRight", desc := "(LBadCodes;I[J)I" } : Jvm.MethodName) method_12_code (4 : Nat) (Option.some Jvm.ClassFile.FieldType.int) [((0 : Nat), (16 : Nat), (19 : Nat), (20 : Nat)), ((0 : Nat), (16 : Nat), (22 : Nat), (13 : Nat))]) ∈ lw_all := lw_g (lw_at lw_m6 146 rfl) rfl
theorem q1458 : (Jvm.Cond.methodLink "BadCodesLaw" (44 : Nat) ({ cls := "BadCodes", name := "isRight", desc := "(I)Z" } : Jvm.MethodName)) ∈ lw_all := lw_g (lw_at lw_m6 147 rfl) rfl
theorem q1462 : (Jvm.Cond.methodLink "BadCodesLaw" (227 : Nat) ({ cls := "BadCodesLaw", name := "distance", desc := "(LBadCodes;II[J)I" } : Jvm.MethodName)) ∈ lw_all := lw_g (lw_at lw_m6 151 rfl) rfl
theorem q1463 : (Jvm.Cond.static ({ cls := "BadCodesLaw", name := "distance", desc := "(LBadCodes;II[J)I" } : Jvm.MethodName)) ∈ lw_all := lw_g (lw_at lw_m6 152 rfl) rfl
theorem q1464 : (Jvm.Cond.codeWith ({ cls := "BadCodesLaw", name := "distance", desc := "(LBadCodes;II[J)I" } : Jvm.MethodName) method_13_code (5 : Nat) (Option.some Jvm.ClassFile.FieldType.int) [((0 : Nat), (10 : Nat), (13 : Nat), (20 : Nat)), ((0 : Nat), (10 : Nat), (17 : Nat), (13 : Nat))]) ∈ lw_all := lw_g (lw_at lw_m6 153 rfl) rfl
theorem q1465 : (Jvm.Cond.methodLink "BadCodesLaw" (48 : Nat) ({ cls := "BadCodes", name := "distance", desc := "(II)I" } : Jvm.MethodName)) ∈ lw_all := lw_g (lw_at lw_m6 154 rfl) rfl
theorem q1469 : (Jvm.Cond.methodLink "BadCodesLaw" (230 : Nat) ({ cls := "BadCodesLaw", name := "near", desc := "(LBadCodes;II[J)I" } : Jvm.MethodName)) ∈ lw_all := lw_g (lw_at lw_m6 158 rfl) rfl
theorem q1470 : (Jvm.Cond.static ({ cls := "BadCodesLaw", name := "near", desc := "(LBadCodes;II[J)I" } : Jvm.MethodName)) ∈ lw_all := lw_g (lw_at lw_m6 159 rfl) rfl
theorem q1471 : (Jvm.Cond.codeWith ({ cls := "BadCodesLaw", name := "near", desc := "(LBadCodes;II[J)I" } : Jvm.MethodName) method_14_code (5 : Nat) (Option.some Jvm.ClassFile.FieldType.int) [((0 : Nat), (10 : Nat), (13 : Nat), (20 : Nat)), ((0 : Nat), (10 : Nat), (17 : Nat), (13 : Nat))]) ∈ lw_all := lw_g (lw_at lw_m6 160 rfl) rfl
theorem q1472 : (Jvm.Cond.methodLink "BadCodesLaw" (51 : Nat) ({ cls := "BadCodes", name := "near", desc := "(II)I" } : Jvm.MethodName)) ∈ lw_all := lw_g (lw_at lw_m6 161 rfl) rfl
theorem q1484 : (Jvm.Cond.methodLink "BadCodesLaw" (233 : Nat) ({ cls := "BadCodesLaw", name := "decided", desc := "(LBadCodes;I[J)I" } : Jvm.MethodName)) ∈ lw_all := lw_g (lw_at lw_m6 173 rfl) rfl
theorem q1485 : (Jvm.Cond.static ({ cls := "BadCodesLaw", name := "decided", desc := "(LBadCodes;I[J)I" } : Jvm.MethodName)) ∈ lw_all := lw_g (lw_at lw_m6 174 rfl) rfl
theorem q1486 : (Jvm.Cond.codeWith ({ cls := "BadCodesLaw", name := "decided", desc := "(LBadCodes;I[J)I" } : Jvm.MethodName) method_15_code (4 : Nat) (Option.some Jvm.ClassFile.FieldType.int) [((0 : Nat), (9 : Nat), (12 : Nat), (20 : Nat)), ((0 : Nat), (9 : Nat), (15 : Nat), (13 : Nat))]) ∈ lw_all := lw_g (lw_at lw_m6 175 rfl) rfl
theorem q1487 : (Jvm.Cond.methodLink "BadCodesLaw" (54 : Nat) ({ cls := "BadCodes", name := "decided", desc := "(I)I" } : Jvm.MethodName)) ∈ lw_all := lw_g (lw_at lw_m6 176 rfl) rfl
theorem q1491 : (Jvm.Cond.methodLink "BadCodesLaw" (236 : Nat) ({ cls := "BadCodesLaw", name := "how", desc := "(LBadCodes;I[J)I" } : Jvm.MethodName)) ∈ lw_all := lw_g (lw_at lw_m6 180 rfl) rfl
theorem q1492 : (Jvm.Cond.static ({ cls := "BadCodesLaw", name := "how", desc := "(LBadCodes;I[J)I" } : Jvm.MethodName)) ∈ lw_all := lw_g (lw_at lw_m6 181 rfl) rfl
theorem q1493 : (Jvm.Cond.codeWith ({ cls := "BadCodesLaw", name := "how", desc := "(LBadCodes;I[J)I" } : Jvm.MethodName) method_16_code (4 : Nat) (Option.some Jvm.ClassFile.FieldType.int) [((0 : Nat), (9 : Nat), (12 : Nat), (20 : Nat)), ((0 : Nat), (9 : Nat), (15 : Nat), (13 : Nat))]) ∈ lw_all := lw_g (lw_at lw_m6 182 rfl) rfl
theorem q1494 : (Jvm.Cond.methodLink "BadCodesLaw" (57 : Nat) ({ cls := "BadCodes", name := "how", desc := "(I)I" } : Jvm.MethodName)) ∈ lw_all := lw_g (lw_at lw_m6 183 rfl) rfl
theorem q1500 : (Jvm.Cond.methodLink "BadCodesLaw" (239 : Nat) ({ cls := "BadCodesLaw", name := "whyNot", desc := "(LBadCodes;I[J)I" } : Jvm.MethodName)) ∈ lw_all := lw_g (lw_at lw_m6 189 rfl) rfl
theorem q1501 : (Jvm.Cond.static ({ cls := "BadCodesLaw", name := "whyNot", desc := "(LBadCodes;I[J)I" } : Jvm.MethodName)) ∈ lw_all := lw_g (lw_at lw_m6 190 rfl) rfl
theorem q1502 : (Jvm.Cond.codeWith ({ cls := "BadCodesLaw", name := "whyNot", desc := "(LBadCodes;I[J)I" } : Jvm.MethodName) method_17_code (4 : Nat) (Option.some Jvm.ClassFile.FieldType.int) [((0 : Nat), (9 : Nat), (12 : Nat), (20 : Nat)), ((0 : Nat), (9 : Nat), (15 : Nat), (13 : Nat))]) ∈ lw_all := lw_g (lw_at lw_m6 191 rfl) rfl
theorem q1503 : (Jvm.Cond.methodLink "BadCodesLaw" (60 : Nat) ({ cls := "BadCodes", name := "whyNot", desc := "(I)I" } : Jvm.MethodName)) ∈ lw_all := lw_g (lw_at lw_m6 192 rfl) rfl
theorem q1508 : (Jvm.Cond.methodLink "BadCodesLaw" (242 : Nat) ({ cls := "BadCodesLaw", name := "margin", desc := "(LBadCodes;I[J)I" } : Jvm.MethodName)) ∈ lw_all := lw_g (lw_at lw_m6 197 rfl) rfl
theorem q1509 : (Jvm.Cond.static ({ cls := "BadCodesLaw", name := "margin", desc := "(LBadCodes;I[J)I" } : Jvm.MethodName)) ∈ lw_all := lw_g (lw_at lw_m6 198 rfl) rfl
theorem q1510 : (Jvm.Cond.codeWith ({ cls := "BadCodesLaw", name := "margin", desc := "(LBadCodes;I[J)I" } : Jvm.MethodName) method_18_code (4 : Nat) (Option.some Jvm.ClassFile.FieldType.int) [((0 : Nat), (9 : Nat), (12 : Nat), (20 : Nat)), ((0 : Nat), (9 : Nat), (15 : Nat), (13 : Nat))]) ∈ lw_all := lw_g (lw_at lw_m6 199 rfl) rfl
theorem q1511 : (Jvm.Cond.methodLink "BadCodesLaw" (63 : Nat) ({ cls := "BadCodes", name := "margin", desc := "(I)I" } : Jvm.MethodName)) ∈ lw_all := lw_g (lw_at lw_m6 200 rfl) rfl
theorem q1515 : (Jvm.Cond.methodLink "BadCodesLaw" (245 : Nat) ({ cls := "BadCodesLaw", name := "mended", desc := "(LBadCodes;I[J)I" } : Jvm.MethodName)) ∈ lw_all := lw_g (lw_at lw_m6 204 rfl) rfl
theorem q1516 : (Jvm.Cond.static ({ cls := "BadCodesLaw", name := "mended", desc := "(LBadCodes;I[J)I" } : Jvm.MethodName)) ∈ lw_all := lw_g (lw_at lw_m6 205 rfl) rfl
theorem q1517 : (Jvm.Cond.codeWith ({ cls := "BadCodesLaw", name := "mended", desc := "(LBadCodes;I[J)I" } : Jvm.MethodName) method_19_code (4 : Nat) (Option.some Jvm.ClassFile.FieldType.int) [((0 : Nat), (9 : Nat), (12 : Nat), (20 : Nat)), ((0 : Nat), (9 : Nat), (15 : Nat), (13 : Nat))]) ∈ lw_all := lw_g (lw_at lw_m6 206 rfl) rfl
theorem q1518 : (Jvm.Cond.methodLink "BadCodesLaw" (66 : Nat) ({ cls := "BadCodes", name := "mended", desc := "(I)I" } : Jvm.MethodName)) ∈ lw_all := lw_g (lw_at lw_m6 207 rfl) rfl
theorem q1522 : (Jvm.Cond.methodLink "BadCodesLaw" (248 : Nat) ({ cls := "BadCodesLaw", name := "whyNotAgain", desc := "(LBadCodes;I[J)I" } : Jvm.MethodName)) ∈ lw_all := lw_g (lw_at lw_m6 211 rfl) rfl
theorem q1523 : (Jvm.Cond.static ({ cls := "BadCodesLaw", name := "whyNotAgain", desc := "(LBadCodes;I[J)I" } : Jvm.MethodName)) ∈ lw_all := lw_g (lw_at lw_m6 212 rfl) rfl
theorem q1524 : (Jvm.Cond.codeWith ({ cls := "BadCodesLaw", name := "whyNotAgain", desc := "(LBadCodes;I[J)I" } : Jvm.MethodName) method_20_code (4 : Nat) (Option.some Jvm.ClassFile.FieldType.int) [((0 : Nat), (9 : Nat), (12 : Nat), (20 : Nat)), ((0 : Nat), (9 : Nat), (15 : Nat), (13 : Nat))]) ∈ lw_all := lw_g (lw_at lw_m6 213 rfl) rfl
theorem q1525 : (Jvm.Cond.methodLink "BadCodesLaw" (69 : Nat) ({ cls := "BadCodes", name := "whyNotAgain", desc := "(I)I" } : Jvm.MethodName)) ∈ lw_all := lw_g (lw_at lw_m6 214 rfl) rfl
theorem q1533 : (Jvm.Cond.methodLink "BadCodesLaw" (251 : Nat) ({ cls := "BadCodesLaw", name := "leastFix", desc := "(LBadCodes;I[J)I" } : Jvm.MethodName)) ∈ lw_all := lw_g (lw_at lw_m6 222 rfl) rfl
theorem q1534 : (Jvm.Cond.static ({ cls := "BadCodesLaw", name := "leastFix", desc := "(LBadCodes;I[J)I" } : Jvm.MethodName)) ∈ lw_all := lw_g (lw_at lw_m6 223 rfl) rfl
theorem q1535 : (Jvm.Cond.codeWith ({ cls := "BadCodesLaw", name := "leastFix", desc := "(LBadCodes;I[J)I" } : Jvm.MethodName) method_21_code (4 : Nat) (Option.some Jvm.ClassFile.FieldType.int) [((0 : Nat), (9 : Nat), (12 : Nat), (20 : Nat)), ((0 : Nat), (9 : Nat), (15 : Nat), (13 : Nat))]) ∈ lw_all := lw_g (lw_at lw_m6 224 rfl) rfl
theorem q1536 : (Jvm.Cond.methodLink "BadCodesLaw" (72 : Nat) ({ cls := "BadCodes", name := "leastFix", desc := "(I)I" } : Jvm.MethodName)) ∈ lw_all := lw_g (lw_at lw_m6 225 rfl) rfl
theorem q1550 : (Jvm.Cond.methodLink "BadCodesLaw" (254 : Nat) ({ cls := "BadCodesLaw", name := "codesNear", desc := "(LBadCodes;II[J)I" } : Jvm.MethodName)) ∈ lw_all := lw_g (lw_at lw_m6 239 rfl) rfl
theorem q1551 : (Jvm.Cond.static ({ cls := "BadCodesLaw", name := "codesNear", desc := "(LBadCodes;II[J)I" } : Jvm.MethodName)) ∈ lw_all := lw_g (lw_at lw_m7 0 rfl) rfl
theorem q1552 : (Jvm.Cond.codeWith ({ cls := "BadCodesLaw", name := "codesNear", desc := "(LBadCodes;II[J)I" } : Jvm.MethodName) method_22_code (5 : Nat) (Option.some Jvm.ClassFile.FieldType.int) [((0 : Nat), (10 : Nat), (13 : Nat), (20 : Nat)), ((0 : Nat), (10 : Nat), (17 : Nat), (13 : Nat)), ((0 : Nat), (10 : Nat), (21 : Nat), (15 : Nat))]) ∈ lw_all := lw_g (lw_at lw_m7 1 rfl) rfl
theorem q1553 : (Jvm.Cond.methodLink "BadCodesLaw" (75 : Nat) ({ cls := "BadCodes", name := "codesNear", desc := "(II)I" } : Jvm.MethodName)) ∈ lw_all := lw_g (lw_at lw_m7 2 rfl) rfl
theorem q1557 : (Jvm.Cond.methodLink "BadCodesLaw" (257 : Nat) ({ cls := "BadCodesLaw", name := "firstFix", desc := "(LBadCodes;I[J)I" } : Jvm.MethodName)) ∈ lw_all := lw_g (lw_at lw_m7 6 rfl) rfl
theorem q1558 : (Jvm.Cond.static ({ cls := "BadCodesLaw", name := "firstFix", desc := "(LBadCodes;I[J)I" } : Jvm.MethodName)) ∈ lw_all := lw_g (lw_at lw_m7 7 rfl) rfl
theorem q1559 : (Jvm.Cond.codeWith ({ cls := "BadCodesLaw", name := "firstFix", desc := "(LBadCodes;I[J)I" } : Jvm.MethodName) method_23_code (4 : Nat) (Option.some Jvm.ClassFile.FieldType.int) [((0 : Nat), (9 : Nat), (12 : Nat), (20 : Nat)), ((0 : Nat), (9 : Nat), (15 : Nat), (13 : Nat))]) ∈ lw_all := lw_g (lw_at lw_m7 8 rfl) rfl
theorem q1560 : (Jvm.Cond.methodLink "BadCodesLaw" (78 : Nat) ({ cls := "BadCodes", name := "firstFix", desc := "(I)I" } : Jvm.MethodName)) ∈ lw_all := lw_g (lw_at lw_m7 9 rfl) rfl
theorem q1567 : (Jvm.Cond.methodLink "BadCodesLaw" (260 : Nat) ({ cls := "BadCodesLaw", name := "bundle", desc := "(LBadCodes;II[J)I" } : Jvm.MethodName)) ∈ lw_all := lw_g (lw_at lw_m7 16 rfl) rfl
theorem q1568 : (Jvm.Cond.static ({ cls := "BadCodesLaw", name := "bundle", desc := "(LBadCodes;II[J)I" } : Jvm.MethodName)) ∈ lw_all := lw_g (lw_at lw_m7 17 rfl) rfl
theorem q1569 : (Jvm.Cond.codeWith ({ cls := "BadCodesLaw", name := "bundle", desc := "(LBadCodes;II[J)I" } : Jvm.MethodName) method_24_code (5 : Nat) (Option.some Jvm.ClassFile.FieldType.int) [((0 : Nat), (10 : Nat), (13 : Nat), (20 : Nat)), ((0 : Nat), (10 : Nat), (17 : Nat), (13 : Nat)), ((0 : Nat), (10 : Nat), (21 : Nat), (15 : Nat))]) ∈ lw_all := lw_g (lw_at lw_m7 18 rfl) rfl
theorem q1570 : (Jvm.Cond.methodLink "BadCodesLaw" (81 : Nat) ({ cls := "BadCodes", name := "bundle", desc := "(II)I" } : Jvm.MethodName)) ∈ lw_all := lw_g (lw_at lw_m7 19 rfl) rfl
theorem q1586 : (Jvm.Cond.methodLink "BadCodesLaw" (263 : Nat) ({ cls := "BadCodesLaw", name := "bag", desc := "(LBadCodes;II[J)I" } : Jvm.MethodName)) ∈ lw_all := lw_g (lw_at lw_m7 35 rfl) rfl
theorem q1587 : (Jvm.Cond.static ({ cls := "BadCodesLaw", name := "bag", desc := "(LBadCodes;II[J)I" } : Jvm.MethodName)) ∈ lw_all := lw_g (lw_at lw_m7 36 rfl) rfl
theorem q1588 : (Jvm.Cond.codeWith ({ cls := "BadCodesLaw", name := "bag", desc := "(LBadCodes;II[J)I" } : Jvm.MethodName) method_25_code (5 : Nat) (Option.some Jvm.ClassFile.FieldType.int) [((0 : Nat), (10 : Nat), (13 : Nat), (20 : Nat)), ((0 : Nat), (10 : Nat), (17 : Nat), (13 : Nat)), ((0 : Nat), (10 : Nat), (21 : Nat), (15 : Nat))]) ∈ lw_all := lw_g (lw_at lw_m7 37 rfl) rfl
theorem q1589 : (Jvm.Cond.methodLink "BadCodesLaw" (84 : Nat) ({ cls := "BadCodes", name := "bag", desc := "(II)I" } : Jvm.MethodName)) ∈ lw_all := lw_g (lw_at lw_m7 38 rfl) rfl
theorem q1601 : (Jvm.Cond.methodLink "BadCodesLaw" (266 : Nat) ({ cls := "BadCodesLaw", name := "causes", desc := "(LBadCodes;I[J)I" } : Jvm.MethodName)) ∈ lw_all := lw_g (lw_at lw_m7 50 rfl) rfl
theorem q1602 : (Jvm.Cond.static ({ cls := "BadCodesLaw", name := "causes", desc := "(LBadCodes;I[J)I" } : Jvm.MethodName)) ∈ lw_all := lw_g (lw_at lw_m7 51 rfl) rfl
theorem q1603 : (Jvm.Cond.codeWith ({ cls := "BadCodesLaw", name := "causes", desc := "(LBadCodes;I[J)I" } : Jvm.MethodName) method_26_code (4 : Nat) (Option.some Jvm.ClassFile.FieldType.int) [((0 : Nat), (9 : Nat), (12 : Nat), (20 : Nat)), ((0 : Nat), (9 : Nat), (15 : Nat), (15 : Nat))]) ∈ lw_all := lw_g (lw_at lw_m7 52 rfl) rfl
theorem q1604 : (Jvm.Cond.methodLink "BadCodesLaw" (87 : Nat) ({ cls := "BadCodes", name := "causes", desc := "(I)I" } : Jvm.MethodName)) ∈ lw_all := lw_g (lw_at lw_m7 53 rfl) rfl
theorem q1612 : (Jvm.Cond.methodLink "BadCodesLaw" (269 : Nat) ({ cls := "BadCodesLaw", name := "gap", desc := "(LBadCodes;[J)I" } : Jvm.MethodName)) ∈ lw_all := lw_g (lw_at lw_m7 61 rfl) rfl
theorem q1613 : (Jvm.Cond.static ({ cls := "BadCodesLaw", name := "gap", desc := "(LBadCodes;[J)I" } : Jvm.MethodName)) ∈ lw_all := lw_g (lw_at lw_m7 62 rfl) rfl
theorem q1614 : (Jvm.Cond.codeWith ({ cls := "BadCodesLaw", name := "gap", desc := "(LBadCodes;[J)I" } : Jvm.MethodName) method_27_code (3 : Nat) (Option.some Jvm.ClassFile.FieldType.int) [((0 : Nat), (8 : Nat), (11 : Nat), (20 : Nat))]) ∈ lw_all := lw_g (lw_at lw_m7 63 rfl) rfl
theorem q1615 : (Jvm.Cond.methodLink "BadCodesLaw" (90 : Nat) ({ cls := "BadCodes", name := "gap", desc := "()I" } : Jvm.MethodName)) ∈ lw_all := lw_g (lw_at lw_m7 64 rfl) rfl
theorem q1629 : (Jvm.Cond.methodLink "BadCodesLaw" (273 : Nat) ({ cls := "BadCodesLaw", name := "decidedIf", desc := "(LBadCodes;III[J)I" } : Jvm.MethodName)) ∈ lw_all := lw_g (lw_at lw_m7 78 rfl) rfl
theorem q1630 : (Jvm.Cond.static ({ cls := "BadCodesLaw", name := "decidedIf", desc := "(LBadCodes;III[J)I" } : Jvm.MethodName)) ∈ lw_all := lw_g (lw_at lw_m7 79 rfl) rfl
theorem q1631 : (Jvm.Cond.codeWith ({ cls := "BadCodesLaw", name := "decidedIf", desc := "(LBadCodes;III[J)I" } : Jvm.MethodName) method_28_code (6 : Nat) (Option.some Jvm.ClassFile.FieldType.int) [((0 : Nat), (12 : Nat), (15 : Nat), (20 : Nat)), ((0 : Nat), (12 : Nat), (19 : Nat), (13 : Nat)), ((0 : Nat), (12 : Nat), (23 : Nat), (15 : Nat))]) ∈ lw_all := lw_g (lw_at lw_m7 80 rfl) rfl
theorem q1632 : (Jvm.Cond.methodLink "BadCodesLaw" (94 : Nat) ({ cls := "BadCodes", name := "decidedIf", desc := "(III)I" } : Jvm.MethodName)) ∈ lw_all := lw_g (lw_at lw_m7 81 rfl) rfl
theorem q1642 : (Jvm.Cond.methodLink "BadCodesLaw" (277 : Nat) ({ cls := "BadCodesLaw", name := "sortedIf", desc := "(LBadCodes;I[J)I" } : Jvm.MethodName)) ∈ lw_all := lw_g (lw_at lw_m7 91 rfl) rfl
theorem q1643 : (Jvm.Cond.static ({ cls := "BadCodesLaw", name := "sortedIf", desc := "(LBadCodes;I[J)I" } : Jvm.MethodName)) ∈ lw_all := lw_g (lw_at lw_m7 92 rfl) rfl
theorem q1644 : (Jvm.Cond.codeWith ({ cls := "BadCodesLaw", name := "sortedIf", desc := "(LBadCodes;I[J)I" } : Jvm.MethodName) method_29_code (4 : Nat) (Option.some Jvm.ClassFile.FieldType.int) [((0 : Nat), (9 : Nat), (12 : Nat), (20 : Nat)), ((0 : Nat), (9 : Nat), (15 : Nat), (15 : Nat))]) ∈ lw_all := lw_g (lw_at lw_m7 93 rfl) rfl
theorem q1645 : (Jvm.Cond.methodLink "BadCodesLaw" (98 : Nat) ({ cls := "BadCodes", name := "sortedIf", desc := "(I)I" } : Jvm.MethodName)) ∈ lw_all := lw_g (lw_at lw_m7 94 rfl) rfl
theorem q1667 : (Jvm.Cond.methodLink "BadCodesLaw" (280 : Nat) ({ cls := "BadCodesLaw", name := "bestLimit", desc := "(LBadCodes;[J)I" } : Jvm.MethodName)) ∈ lw_all := lw_g (lw_at lw_m7 116 rfl) rfl
theorem q1668 : (Jvm.Cond.static ({ cls := "BadCodesLaw", name := "bestLimit", desc := "(LBadCodes;[J)I" } : Jvm.MethodName)) ∈ lw_all := lw_g (lw_at lw_m7 117 rfl) rfl
theorem q1669 : (Jvm.Cond.codeWith ({ cls := "BadCodesLaw", name := "bestLimit", desc := "(LBadCodes;[J)I" } : Jvm.MethodName) method_30_code (3 : Nat) (Option.some Jvm.ClassFile.FieldType.int) [((0 : Nat), (8 : Nat), (11 : Nat), (20 : Nat))]) ∈ lw_all := lw_g (lw_at lw_m7 118 rfl) rfl
theorem q1670 : (Jvm.Cond.methodLink "BadCodesLaw" (101 : Nat) ({ cls := "BadCodes", name := "bestLimit", desc := "()I" } : Jvm.MethodName)) ∈ lw_all := lw_g (lw_at lw_m7 119 rfl) rfl
theorem q1674 : (Jvm.Cond.methodLink "BadCodesLaw" (283 : Nat) ({ cls := "BadCodesLaw", name := "sumFor", desc := "(LBadCodes;I[J)I" } : Jvm.MethodName)) ∈ lw_all := lw_g (lw_at lw_m7 123 rfl) rfl
theorem q1675 : (Jvm.Cond.static ({ cls := "BadCodesLaw", name := "sumFor", desc := "(LBadCodes;I[J)I" } : Jvm.MethodName)) ∈ lw_all := lw_g (lw_at lw_m7 124 rfl) rfl
theorem q1676 : (Jvm.Cond.codeWith ({ cls := "BadCodesLaw", name := "sumFor", desc := "(LBadCodes;I[J)I" } : Jvm.MethodName) method_31_code (4 : Nat) (Option.some Jvm.ClassFile.FieldType.int) [((0 : Nat), (9 : Nat), (12 : Nat), (20 : Nat)), ((0 : Nat), (9 : Nat), (15 : Nat), (13 : Nat))]) ∈ lw_all := lw_g (lw_at lw_m7 125 rfl) rfl
theorem q1677 : (Jvm.Cond.methodLink "BadCodesLaw" (104 : Nat) ({ cls := "BadCodes", name := "sumFor", desc := "(I)I" } : Jvm.MethodName)) ∈ lw_all := lw_g (lw_at lw_m7 126 rfl) rfl
theorem q1689 : (Jvm.Cond.methodLink "BadCodesLaw" (286 : Nat) ({ cls := "BadCodesLaw", name := "bagsIf", desc := "(LBadCodes;I[J)I" } : Jvm.MethodName)) ∈ lw_all := lw_g (lw_at lw_m7 138 rfl) rfl
theorem q1690 : (Jvm.Cond.static ({ cls := "BadCodesLaw", name := "bagsIf", desc := "(LBadCodes;I[J)I" } : Jvm.MethodName)) ∈ lw_all := lw_g (lw_at lw_m7 139 rfl) rfl
theorem q1691 : (Jvm.Cond.codeWith ({ cls := "BadCodesLaw", name := "bagsIf", desc := "(LBadCodes;I[J)I" } : Jvm.MethodName) method_32_code (4 : Nat) (Option.some Jvm.ClassFile.FieldType.int) [((0 : Nat), (9 : Nat), (12 : Nat), (20 : Nat)), ((0 : Nat), (9 : Nat), (15 : Nat), (15 : Nat))]) ∈ lw_all := lw_g (lw_at lw_m7 140 rfl) rfl
theorem q1692 : (Jvm.Cond.methodLink "BadCodesLaw" (107 : Nat) ({ cls := "BadCodes", name := "bagsIf", desc := "(I)I" } : Jvm.MethodName)) ∈ lw_all := lw_g (lw_at lw_m7 141 rfl) rfl
theorem q1697 : (Jvm.Cond.methodLink "BadCodesLaw" (289 : Nat) ({ cls := "BadCodesLaw", name := "helpful", desc := "(LBadCodes;I[J)I" } : Jvm.MethodName)) ∈ lw_all := lw_g (lw_at lw_m7 146 rfl) rfl
theorem q1698 : (Jvm.Cond.static ({ cls := "BadCodesLaw", name := "helpful", desc := "(LBadCodes;I[J)I" } : Jvm.MethodName)) ∈ lw_all := lw_g (lw_at lw_m7 147 rfl) rfl
theorem q1699 : (Jvm.Cond.codeWith ({ cls := "BadCodesLaw", name := "helpful", desc := "(LBadCodes;I[J)I" } : Jvm.MethodName) method_33_code (4 : Nat) (Option.some Jvm.ClassFile.FieldType.int) [((0 : Nat), (9 : Nat), (12 : Nat), (20 : Nat)), ((0 : Nat), (9 : Nat), (15 : Nat), (13 : Nat))]) ∈ lw_all := lw_g (lw_at lw_m7 148 rfl) rfl
theorem q1700 : (Jvm.Cond.methodLink "BadCodesLaw" (110 : Nat) ({ cls := "BadCodes", name := "helpful", desc := "(I)I" } : Jvm.MethodName)) ∈ lw_all := lw_g (lw_at lw_m7 149 rfl) rfl
theorem q1704 : (Jvm.Cond.methodLink "BadCodesLaw" (292 : Nat) ({ cls := "BadCodesLaw", name := "causeIf", desc := "(LBadCodes;I[J)I" } : Jvm.MethodName)) ∈ lw_all := lw_g (lw_at lw_m7 153 rfl) rfl
theorem q1705 : (Jvm.Cond.static ({ cls := "BadCodesLaw", name := "causeIf", desc := "(LBadCodes;I[J)I" } : Jvm.MethodName)) ∈ lw_all := lw_g (lw_at lw_m7 154 rfl) rfl
theorem q1706 : (Jvm.Cond.codeWith ({ cls := "BadCodesLaw", name := "causeIf", desc := "(LBadCodes;I[J)I" } : Jvm.MethodName) method_34_code (4 : Nat) (Option.some Jvm.ClassFile.FieldType.int) [((0 : Nat), (9 : Nat), (12 : Nat), (20 : Nat)), ((0 : Nat), (9 : Nat), (15 : Nat), (13 : Nat))]) ∈ lw_all := lw_g (lw_at lw_m7 155 rfl) rfl
theorem q1707 : (Jvm.Cond.methodLink "BadCodesLaw" (113 : Nat) ({ cls := "BadCodes", name := "causeIf", desc := "(I)I" } : Jvm.MethodName)) ∈ lw_all := lw_g (lw_at lw_m7 156 rfl) rfl
theorem q1715 : (Jvm.Cond.methodLink "BadCodesLaw" (295 : Nat) ({ cls := "BadCodesLaw", name := "share", desc := "(LBadCodes;[D)I" } : Jvm.MethodName)) ∈ lw_all := lw_g (lw_at lw_m7 164 rfl) rfl
theorem q1716 : (Jvm.Cond.static ({ cls := "BadCodesLaw", name := "share", desc := "(LBadCodes;[D)I" } : Jvm.MethodName)) ∈ lw_all := lw_g (lw_at lw_m7 165 rfl) rfl
theorem q1717 : (Jvm.Cond.codeWith ({ cls := "BadCodesLaw", name := "share", desc := "(LBadCodes;[D)I" } : Jvm.MethodName) method_35_code (3 : Nat) (Option.some Jvm.ClassFile.FieldType.int) [((0 : Nat), (8 : Nat), (11 : Nat), (20 : Nat))]) ∈ lw_all := lw_g (lw_at lw_m7 166 rfl) rfl
theorem q1718 : (Jvm.Cond.methodLink "BadCodesLaw" (116 : Nat) ({ cls := "BadCodes", name := "share", desc := "()F" } : Jvm.MethodName)) ∈ lw_all := lw_g (lw_at lw_m7 167 rfl) rfl
theorem q1722 : (Jvm.Cond.methodLink "BadCodesLaw" (299 : Nat) ({ cls := "BadCodesLaw", name := "meanDistance", desc := "(LBadCodes;[D)I" } : Jvm.MethodName)) ∈ lw_all := lw_g (lw_at lw_m7 171 rfl) rfl
theorem q1723 : (Jvm.Cond.static ({ cls := "BadCodesLaw", name := "meanDistance", desc := "(LBadCodes;[D)I" } : Jvm.MethodName)) ∈ lw_all := lw_g (lw_at lw_m7 172 rfl) rfl
theorem q1724 : (Jvm.Cond.codeWith ({ cls := "BadCodesLaw", name := "meanDistance", desc := "(LBadCodes;[D)I" } : Jvm.MethodName) method_36_code (3 : Nat) (Option.some Jvm.ClassFile.FieldType.int) [((0 : Nat), (7 : Nat), (10 : Nat), (20 : Nat))]) ∈ lw_all := lw_g (lw_at lw_m7 173 rfl) rfl
theorem q1725 : (Jvm.Cond.methodLink "BadCodesLaw" (120 : Nat) ({ cls := "BadCodes", name := "meanDistance", desc := "()D" } : Jvm.MethodName)) ∈ lw_all := lw_g (lw_at lw_m7 174 rfl) rfl
theorem q1729 : (Jvm.Cond.methodLink "BadCodesLaw" (302 : Nat) ({ cls := "BadCodesLaw", name := "writeLetter", desc := "(LBadCodes;I[J)I" } : Jvm.MethodName)) ∈ lw_all := lw_g (lw_at lw_m7 178 rfl) rfl
theorem q1730 : (Jvm.Cond.static ({ cls := "BadCodesLaw", name := "writeLetter", desc := "(LBadCodes;I[J)I" } : Jvm.MethodName)) ∈ lw_all := lw_g (lw_at lw_m7 179 rfl) rfl
theorem q1731 : (Jvm.Cond.codeWith ({ cls := "BadCodesLaw", name := "writeLetter", desc := "(LBadCodes;I[J)I" } : Jvm.MethodName) method_37_code (4 : Nat) (Option.some Jvm.ClassFile.FieldType.int) [((0 : Nat), (9 : Nat), (12 : Nat), (20 : Nat)), ((0 : Nat), (9 : Nat), (15 : Nat), (13 : Nat))]) ∈ lw_all := lw_g (lw_at lw_m7 180 rfl) rfl
theorem q1732 : (Jvm.Cond.methodLink "BadCodesLaw" (124 : Nat) ({ cls := "BadCodes", name := "writeLetter", desc := "(I)I" } : Jvm.MethodName)) ∈ lw_all := lw_g (lw_at lw_m7 181 rfl) rfl
theorem q1749 : (Jvm.Cond.methodLink "BadCodesLaw" (305 : Nat) ({ cls := "BadCodesLaw", name := "writeNear", desc := "(LBadCodes;I[J)I" } : Jvm.MethodName)) ∈ lw_all := lw_g (lw_at lw_m7 198 rfl) rfl
theorem q1750 : (Jvm.Cond.static ({ cls := "BadCodesLaw", name := "writeNear", desc := "(LBadCodes;I[J)I" } : Jvm.MethodName)) ∈ lw_all := lw_g (lw_at lw_m7 199 rfl) rfl
theorem q1751 : (Jvm.Cond.codeWith ({ cls := "BadCodesLaw", name := "writeNear", desc := "(LBadCodes;I[J)I" } : Jvm.MethodName) method_38_code (4 : Nat) (Option.some Jvm.ClassFile.FieldType.int) [((0 : Nat), (9 : Nat), (12 : Nat), (20 : Nat)), ((0 : Nat), (9 : Nat), (15 : Nat), (13 : Nat))]) ∈ lw_all := lw_g (lw_at lw_m7 200 rfl) rfl
theorem q1752 : (Jvm.Cond.methodLink "BadCodesLaw" (127 : Nat) ({ cls := "BadCodes", name := "writeNear", desc := "(I)I" } : Jvm.MethodName)) ∈ lw_all := lw_g (lw_at lw_m7 201 rfl) rfl
theorem q1757 : (Jvm.Cond.methodLink "BadCodesLaw" (308 : Nat) ({ cls := "BadCodesLaw", name := "writeBags", desc := "(LBadCodes;[J)I" } : Jvm.MethodName)) ∈ lw_all := lw_g (lw_at lw_m7 206 rfl) rfl
theorem q1758 : (Jvm.Cond.static ({ cls := "BadCodesLaw", name := "writeBags", desc := "(LBadCodes;[J)I" } : Jvm.MethodName)) ∈ lw_all := lw_g (lw_at lw_m7 207 rfl) rfl
theorem q1759 : (Jvm.Cond.codeWith ({ cls := "BadCodesLaw", name := "writeBags", desc := "(LBadCodes;[J)I" } : Jvm.MethodName) method_39_code (3 : Nat) (Option.some Jvm.ClassFile.FieldType.int) [((0 : Nat), (8 : Nat), (11 : Nat), (20 : Nat))]) ∈ lw_all := lw_g (lw_at lw_m7 208 rfl) rfl
theorem q1760 : (Jvm.Cond.methodLink "BadCodesLaw" (130 : Nat) ({ cls := "BadCodes", name := "writeBags", desc := "()I" } : Jvm.MethodName)) ∈ lw_all := lw_g (lw_at lw_m7 209 rfl) rfl
theorem q1767 : (Jvm.Cond.methodLink "BadCodesLaw" (311 : Nat) ({ cls := "BadCodesLaw", name := "textByte", desc := "(LBadCodes;I[J)I" } : Jvm.MethodName)) ∈ lw_all := lw_g (lw_at lw_m7 216 rfl) rfl
theorem q1768 : (Jvm.Cond.static ({ cls := "BadCodesLaw", name := "textByte", desc := "(LBadCodes;I[J)I" } : Jvm.MethodName)) ∈ lw_all := lw_g (lw_at lw_m7 217 rfl) rfl
theorem q1769 : (Jvm.Cond.codeWith ({ cls := "BadCodesLaw", name := "textByte", desc := "(LBadCodes;I[J)I" } : Jvm.MethodName) method_40_code (4 : Nat) (Option.some Jvm.ClassFile.FieldType.int) [((0 : Nat), (9 : Nat), (12 : Nat), (13 : Nat))]) ∈ lw_all := lw_g (lw_at lw_m7 218 rfl) rfl
theorem q1770 : (Jvm.Cond.methodLink "BadCodesLaw" (133 : Nat) ({ cls := "BadCodes", name := "textByte", desc := "(I)I" } : Jvm.MethodName)) ∈ lw_all := lw_g (lw_at lw_m7 219 rfl) rfl
theorem q1785 : (Jvm.Cond.methodLink "BadCodesLaw" (314 : Nat) ({ cls := "BadCodesLaw", name := "sort", desc := "(LBadCodes;I[J)I" } : Jvm.MethodName)) ∈ lw_all := lw_g (lw_at lw_m7 234 rfl) rfl
theorem q1786 : (Jvm.Cond.static ({ cls := "BadCodesLaw", name := "sort", desc := "(LBadCodes;I[J)I" } : Jvm.MethodName)) ∈ lw_all := lw_g (lw_at lw_m7 235 rfl) rfl
theorem q1787 : (Jvm.Cond.codeWith ({ cls := "BadCodesLaw", name := "sort", desc := "(LBadCodes;I[J)I" } : Jvm.MethodName) method_41_code (4 : Nat) (Option.some Jvm.ClassFile.FieldType.int) [((0 : Nat), (9 : Nat), (12 : Nat), (20 : Nat)), ((0 : Nat), (9 : Nat), (15 : Nat), (13 : Nat)), ((0 : Nat), (9 : Nat), (18 : Nat), (15 : Nat))]) ∈ lw_all := lw_g (lw_at lw_m7 236 rfl) rfl
theorem q1788 : (Jvm.Cond.methodLink "BadCodesLaw" (136 : Nat) ({ cls := "BadCodes", name := "sort", desc := "(I)I" } : Jvm.MethodName)) ∈ lw_all := lw_g (lw_at lw_m7 237 rfl) rfl
theorem q1842 : (Jvm.Cond.methodLink "BadCodesLaw" (317 : Nat) ({ cls := "BadCodesLaw", name := "sortAll", desc := "(LBadCodes;[J)I" } : Jvm.MethodName)) ∈ lw_all := lw_g (lw_at lw_m8 51 rfl) rfl
theorem q1843 : (Jvm.Cond.static ({ cls := "BadCodesLaw", name := "sortAll", desc := "(LBadCodes;[J)I" } : Jvm.MethodName)) ∈ lw_all := lw_g (lw_at lw_m8 52 rfl) rfl
theorem q1844 : (Jvm.Cond.codeWith ({ cls := "BadCodesLaw", name := "sortAll", desc := "(LBadCodes;[J)I" } : Jvm.MethodName) method_42_code (3 : Nat) (Option.some Jvm.ClassFile.FieldType.int) [((0 : Nat), (8 : Nat), (11 : Nat), (20 : Nat))]) ∈ lw_all := lw_g (lw_at lw_m8 53 rfl) rfl
theorem q1845 : (Jvm.Cond.methodLink "BadCodesLaw" (139 : Nat) ({ cls := "BadCodes", name := "sortAll", desc := "()I" } : Jvm.MethodName)) ∈ lw_all := lw_g (lw_at lw_m8 54 rfl) rfl
theorem q1849 : (Jvm.Cond.methodLink "BadCodesLaw" (320 : Nat) ({ cls := "BadCodesLaw", name := "again", desc := "(LBadCodes;III[J)I" } : Jvm.MethodName)) ∈ lw_all := lw_g (lw_at lw_m8 58 rfl) rfl
theorem q1850 : (Jvm.Cond.static ({ cls := "BadCodesLaw", name := "again", desc := "(LBadCodes;III[J)I" } : Jvm.MethodName)) ∈ lw_all := lw_g (lw_at lw_m8 59 rfl) rfl
theorem q1851 : (Jvm.Cond.codeWith ({ cls := "BadCodesLaw", name := "again", desc := "(LBadCodes;III[J)I" } : Jvm.MethodName) method_43_code (6 : Nat) (Option.some Jvm.ClassFile.FieldType.int) [((0 : Nat), (12 : Nat), (15 : Nat), (20 : Nat)), ((0 : Nat), (12 : Nat), (19 : Nat), (13 : Nat)), ((0 : Nat), (12 : Nat), (23 : Nat), (15 : Nat))]) ∈ lw_all := lw_g (lw_at lw_m8 60 rfl) rfl
theorem q1852 : (Jvm.Cond.methodLink "BadCodesLaw" (142 : Nat) ({ cls := "BadCodes", name := "again", desc := "(III)I" } : Jvm.MethodName)) ∈ lw_all := lw_g (lw_at lw_m8 61 rfl) rfl
theorem q1860 : (Jvm.Cond.methodLink "BadCodesLaw" (323 : Nat) ({ cls := "BadCodesLaw", name := "addLetter", desc := "(LBadCodes;III[J)I" } : Jvm.MethodName)) ∈ lw_all := lw_g (lw_at lw_m8 69 rfl) rfl
theorem q1861 : (Jvm.Cond.static ({ cls := "BadCodesLaw", name := "addLetter", desc := "(LBadCodes;III[J)I" } : Jvm.MethodName)) ∈ lw_all := lw_g (lw_at lw_m8 70 rfl) rfl
theorem q1862 : (Jvm.Cond.codeWith ({ cls := "BadCodesLaw", name := "addLetter", desc := "(LBadCodes;III[J)I" } : Jvm.MethodName) method_44_code (6 : Nat) (Option.some Jvm.ClassFile.FieldType.int) [((0 : Nat), (12 : Nat), (15 : Nat), (20 : Nat)), ((0 : Nat), (12 : Nat), (19 : Nat), (13 : Nat)), ((0 : Nat), (12 : Nat), (23 : Nat), (15 : Nat))]) ∈ lw_all := lw_g (lw_at lw_m8 71 rfl) rfl
theorem q1863 : (Jvm.Cond.methodLink "BadCodesLaw" (145 : Nat) ({ cls := "BadCodes", name := "addLetter", desc := "(III)I" } : Jvm.MethodName)) ∈ lw_all := lw_g (lw_at lw_m8 72 rfl) rfl
theorem q1872 : (Jvm.Cond.methodLink "BadCodesLaw" (326 : Nat) ({ cls := "BadCodesLaw", name := "setSum", desc := "(LBadCodes;II[J)I" } : Jvm.MethodName)) ∈ lw_all := lw_g (lw_at lw_m8 81 rfl) rfl
theorem q1873 : (Jvm.Cond.static ({ cls := "BadCodesLaw", name := "setSum", desc := "(LBadCodes;II[J)I" } : Jvm.MethodName)) ∈ lw_all := lw_g (lw_at lw_m8 82 rfl) rfl
theorem q1874 : (Jvm.Cond.codeWith ({ cls := "BadCodesLaw", name := "setSum", desc := "(LBadCodes;II[J)I" } : Jvm.MethodName) method_45_code (5 : Nat) (Option.some Jvm.ClassFile.FieldType.int) [((0 : Nat), (10 : Nat), (13 : Nat), (20 : Nat)), ((0 : Nat), (10 : Nat), (17 : Nat), (13 : Nat)), ((0 : Nat), (10 : Nat), (21 : Nat), (15 : Nat))]) ∈ lw_all := lw_g (lw_at lw_m8 83 rfl) rfl
theorem q1875 : (Jvm.Cond.methodLink "BadCodesLaw" (148 : Nat) ({ cls := "BadCodes", name := "setSum", desc := "(II)I" } : Jvm.MethodName)) ∈ lw_all := lw_g (lw_at lw_m8 84 rfl) rfl
theorem q1879 : (Jvm.Cond.methodLink "BadCodesLaw" (329 : Nat) ({ cls := "BadCodesLaw", name := "move", desc := "(LBadCodes;II[J)I" } : Jvm.MethodName)) ∈ lw_all := lw_g (lw_at lw_m8 88 rfl) rfl
theorem q1880 : (Jvm.Cond.static ({ cls := "BadCodesLaw", name := "move", desc := "(LBadCodes;II[J)I" } : Jvm.MethodName)) ∈ lw_all := lw_g (lw_at lw_m8 89 rfl) rfl
theorem q1881 : (Jvm.Cond.codeWith ({ cls := "BadCodesLaw", name := "move", desc := "(LBadCodes;II[J)I" } : Jvm.MethodName) method_46_code (5 : Nat) (Option.some Jvm.ClassFile.FieldType.int) [((0 : Nat), (10 : Nat), (13 : Nat), (20 : Nat)), ((0 : Nat), (10 : Nat), (17 : Nat), (13 : Nat)), ((0 : Nat), (10 : Nat), (21 : Nat), (15 : Nat))]) ∈ lw_all := lw_g (lw_at lw_m8 90 rfl) rfl
theorem q1882 : (Jvm.Cond.methodLink "BadCodesLaw" (151 : Nat) ({ cls := "BadCodes", name := "move", desc := "(II)I" } : Jvm.MethodName)) ∈ lw_all := lw_g (lw_at lw_m8 91 rfl) rfl
theorem q1886 : (Jvm.Cond.methodLink "BadCodesLaw" (332 : Nat) ({ cls := "BadCodesLaw", name := "setLimit", desc := "(LBadCodes;I[J)I" } : Jvm.MethodName)) ∈ lw_all := lw_g (lw_at lw_m8 95 rfl) rfl
theorem q1887 : (Jvm.Cond.static ({ cls := "BadCodesLaw", name := "setLimit", desc := "(LBadCodes;I[J)I" } : Jvm.MethodName)) ∈ lw_all := lw_g (lw_at lw_m8 96 rfl) rfl
theorem q1888 : (Jvm.Cond.codeWith ({ cls := "BadCodesLaw", name := "setLimit", desc := "(LBadCodes;I[J)I" } : Jvm.MethodName) method_47_code (4 : Nat) (Option.some Jvm.ClassFile.FieldType.int) [((0 : Nat), (9 : Nat), (12 : Nat), (20 : Nat)), ((0 : Nat), (9 : Nat), (15 : Nat), (15 : Nat))]) ∈ lw_all := lw_g (lw_at lw_m8 97 rfl) rfl
theorem q1889 : (Jvm.Cond.methodLink "BadCodesLaw" (154 : Nat) ({ cls := "BadCodes", name := "setLimit", desc := "(I)I" } : Jvm.MethodName)) ∈ lw_all := lw_g (lw_at lw_m8 98 rfl) rfl
theorem q1893 : (Jvm.Cond.methodLink "BadCodesLaw" (335 : Nat) ({ cls := "BadCodesLaw", name := "turnRoute", desc := "(LBadCodes;I[J)I" } : Jvm.MethodName)) ∈ lw_all := lw_g (lw_at lw_m8 102 rfl) rfl
theorem q1894 : (Jvm.Cond.static ({ cls := "BadCodesLaw", name := "turnRoute", desc := "(LBadCodes;I[J)I" } : Jvm.MethodName)) ∈ lw_all := lw_g (lw_at lw_m8 103 rfl) rfl
theorem q1895 : (Jvm.Cond.codeWith ({ cls := "BadCodesLaw", name := "turnRoute", desc := "(LBadCodes;I[J)I" } : Jvm.MethodName) method_48_code (4 : Nat) (Option.some Jvm.ClassFile.FieldType.int) [((0 : Nat), (9 : Nat), (12 : Nat), (20 : Nat)), ((0 : Nat), (9 : Nat), (15 : Nat), (13 : Nat))]) ∈ lw_all := lw_g (lw_at lw_m8 104 rfl) rfl
theorem q1896 : (Jvm.Cond.methodLink "BadCodesLaw" (157 : Nat) ({ cls := "BadCodes", name := "turnRoute", desc := "(I)I" } : Jvm.MethodName)) ∈ lw_all := lw_g (lw_at lw_m8 105 rfl) rfl
theorem q1900 : (Jvm.Cond.methodLink "BadCodesLaw" (338 : Nat) ({ cls := "BadCodesLaw", name := "undo", desc := "(LBadCodes;[J)I" } : Jvm.MethodName)) ∈ lw_all := lw_g (lw_at lw_m8 109 rfl) rfl
theorem q1901 : (Jvm.Cond.static ({ cls := "BadCodesLaw", name := "undo", desc := "(LBadCodes;[J)I" } : Jvm.MethodName)) ∈ lw_all := lw_g (lw_at lw_m8 110 rfl) rfl
theorem q1902 : (Jvm.Cond.codeWith ({ cls := "BadCodesLaw", name := "undo", desc := "(LBadCodes;[J)I" } : Jvm.MethodName) method_49_code (3 : Nat) (Option.some Jvm.ClassFile.FieldType.int) [((0 : Nat), (8 : Nat), (11 : Nat), (20 : Nat))]) ∈ lw_all := lw_g (lw_at lw_m8 111 rfl) rfl
theorem q1903 : (Jvm.Cond.methodLink "BadCodesLaw" (160 : Nat) ({ cls := "BadCodes", name := "undo", desc := "()I" } : Jvm.MethodName)) ∈ lw_all := lw_g (lw_at lw_m8 112 rfl) rfl
theorem q1931 : (Jvm.Cond.methodLink "BadCodesLaw" (345 : Nat) ({ cls := "BadCodesLaw", name := "save", desc := "(LBadCodes;I[J)I" } : Jvm.MethodName)) ∈ lw_all := lw_g (lw_at lw_m8 140 rfl) rfl
theorem q1932 : (Jvm.Cond.static ({ cls := "BadCodesLaw", name := "save", desc := "(LBadCodes;I[J)I" } : Jvm.MethodName)) ∈ lw_all := lw_g (lw_at lw_m8 141 rfl) rfl
theorem q1933 : (Jvm.Cond.codeWith ({ cls := "BadCodesLaw", name := "save", desc := "(LBadCodes;I[J)I" } : Jvm.MethodName) method_50_code (4 : Nat) (Option.some Jvm.ClassFile.FieldType.int) [((0 : Nat), (9 : Nat), (12 : Nat), (20 : Nat)), ((0 : Nat), (9 : Nat), (15 : Nat), (13 : Nat))]) ∈ lw_all := lw_g (lw_at lw_m8 142 rfl) rfl
theorem q1934 : (Jvm.Cond.methodLink "BadCodesLaw" (163 : Nat) ({ cls := "BadCodes", name := "save", desc := "(I)I" } : Jvm.MethodName)) ∈ lw_all := lw_g (lw_at lw_m8 143 rfl) rfl
theorem q1938 : (Jvm.Cond.methodLink "BadCodesLaw" (348 : Nat) ({ cls := "BadCodesLaw", name := "restore", desc := "(LBadCodes;I[J)I" } : Jvm.MethodName)) ∈ lw_all := lw_g (lw_at lw_m8 147 rfl) rfl
theorem q1939 : (Jvm.Cond.static ({ cls := "BadCodesLaw", name := "restore", desc := "(LBadCodes;I[J)I" } : Jvm.MethodName)) ∈ lw_all := lw_g (lw_at lw_m8 148 rfl) rfl
theorem q1940 : (Jvm.Cond.codeWith ({ cls := "BadCodesLaw", name := "restore", desc := "(LBadCodes;I[J)I" } : Jvm.MethodName) method_51_code (4 : Nat) (Option.some Jvm.ClassFile.FieldType.int) [((0 : Nat), (9 : Nat), (12 : Nat), (13 : Nat)), ((0 : Nat), (9 : Nat), (15 : Nat), (20 : Nat))]) ∈ lw_all := lw_g (lw_at lw_m8 149 rfl) rfl
theorem q1941 : (Jvm.Cond.methodLink "BadCodesLaw" (166 : Nat) ({ cls := "BadCodes", name := "restore", desc := "(I)I" } : Jvm.MethodName)) ∈ lw_all := lw_g (lw_at lw_m8 150 rfl) rfl
theorem q1945 : (Jvm.Cond.classLink "BadCodesLaw" (170 : Nat) "BadCodesModel") ∈ lw_all := lw_g (lw_at lw_m8 154 rfl) rfl
theorem q1947 : (Jvm.Cond.methodLink "BadCodesLaw" (172 : Nat) ({ cls := "BadCodesModel", name := "<init>", desc := "()V" } : Jvm.MethodName)) ∈ lw_all := lw_g (lw_at lw_m8 156 rfl) rfl
theorem q2018 : (Jvm.Cond.methodLink "BadCodesLaw" (184 : Nat) ({ cls := "BadCodesModel", name := "thrown", desc := "()I" } : Jvm.MethodName)) ∈ lw_all := lw_g (lw_at lw_m8 227 rfl) rfl
theorem q2022 : (Jvm.Cond.methodLink "BadCodesLaw" (177 : Nat) ({ cls := "BadCodesModel", name := "append", desc := "(IIIII)I" } : Jvm.MethodName)) ∈ lw_all := lw_g (lw_at lw_m8 231 rfl) rfl
theorem q2026 : (Jvm.Cond.methodLink "BadCodesLaw" (198 : Nat) ({ cls := "BadCodesModel", name := "buffered", desc := "()I" } : Jvm.MethodName)) ∈ lw_all := lw_g (lw_at lw_m8 235 rfl) rfl
theorem q2030 : (Jvm.Cond.methodLink "BadCodesLaw" (190 : Nat) ({ cls := "BadCodesModel", name := "parseError", desc := "()I" } : Jvm.MethodName)) ∈ lw_all := lw_g (lw_at lw_m8 239 rfl) rfl
theorem q2034 : (Jvm.Cond.methodLink "BadCodesLaw" (194 : Nat) ({ cls := "BadCodesModel", name := "errorPosition", desc := "()I" } : Jvm.MethodName)) ∈ lw_all := lw_g (lw_at lw_m9 3 rfl) rfl
theorem q2038 : (Jvm.Cond.methodLink "BadCodesLaw" (183 : Nat) ({ cls := "BadCodesModel", name := "load", desc := "(I)I" } : Jvm.MethodName)) ∈ lw_all := lw_g (lw_at lw_m9 7 rfl) rfl
theorem q2232 : (Jvm.Cond.methodLink "BadCodesLaw" (201 : Nat) ({ cls := "BadCodesModel", name := "count", desc := "(I)I" } : Jvm.MethodName)) ∈ lw_all := lw_g (lw_at lw_m9 201 rfl) rfl
theorem q2253 : (Jvm.Cond.methodLink "BadCodesLaw" (205 : Nat) ({ cls := "BadCodesModel", name := "town", desc := "(II)I" } : Jvm.MethodName)) ∈ lw_all := lw_g (lw_at lw_m9 222 rfl) rfl
theorem q2274 : (Jvm.Cond.methodLink "BadCodesLaw" (208 : Nat) ({ cls := "BadCodesModel", name := "codeDigit", desc := "(II)I" } : Jvm.MethodName)) ∈ lw_all := lw_g (lw_at lw_m10 3 rfl) rfl
theorem q2282 : (Jvm.Cond.methodLink "BadCodesLaw" (211 : Nat) ({ cls := "BadCodesModel", name := "checkDigit", desc := "(I)I" } : Jvm.MethodName)) ∈ lw_all := lw_g (lw_at lw_m10 11 rfl) rfl
theorem q2287 : (Jvm.Cond.methodLink "BadCodesLaw" (214 : Nat) ({ cls := "BadCodesModel", name := "apart", desc := "(II)I" } : Jvm.MethodName)) ∈ lw_all := lw_g (lw_at lw_m10 16 rfl) rfl
theorem q2295 : (Jvm.Cond.methodLink "BadCodesLaw" (217 : Nat) ({ cls := "BadCodesModel", name := "closest", desc := "(I)I" } : Jvm.MethodName)) ∈ lw_all := lw_g (lw_at lw_m10 24 rfl) rfl
theorem q2299 : (Jvm.Cond.methodLink "BadCodesLaw" (220 : Nat) ({ cls := "BadCodesModel", name := "letter", desc := "(II)I" } : Jvm.MethodName)) ∈ lw_all := lw_g (lw_at lw_m10 28 rfl) rfl
theorem q2308 : (Jvm.Cond.methodLink "BadCodesLaw" (223 : Nat) ({ cls := "BadCodesModel", name := "read", desc := "(II)I" } : Jvm.MethodName)) ∈ lw_all := lw_g (lw_at lw_m10 37 rfl) rfl
theorem q2316 : (Jvm.Cond.methodLink "BadCodesLaw" (226 : Nat) ({ cls := "BadCodesModel", name := "isRight", desc := "(I)Z" } : Jvm.MethodName)) ∈ lw_all := lw_g (lw_at lw_m10 45 rfl) rfl
theorem q2320 : (Jvm.Cond.methodLink "BadCodesLaw" (229 : Nat) ({ cls := "BadCodesModel", name := "distance", desc := "(II)I" } : Jvm.MethodName)) ∈ lw_all := lw_g (lw_at lw_m10 49 rfl) rfl
theorem q2324 : (Jvm.Cond.methodLink "BadCodesLaw" (232 : Nat) ({ cls := "BadCodesModel", name := "near", desc := "(II)I" } : Jvm.MethodName)) ∈ lw_all := lw_g (lw_at lw_m10 53 rfl) rfl
theorem q2332 : (Jvm.Cond.methodLink "BadCodesLaw" (235 : Nat) ({ cls := "BadCodesModel", name := "decided", desc := "(I)I" } : Jvm.MethodName)) ∈ lw_all := lw_g (lw_at lw_m10 61 rfl) rfl
theorem q2336 : (Jvm.Cond.methodLink "BadCodesLaw" (238 : Nat) ({ cls := "BadCodesModel", name := "how", desc := "(I)I" } : Jvm.MethodName)) ∈ lw_all := lw_g (lw_at lw_m10 65 rfl) rfl
theorem q2340 : (Jvm.Cond.methodLink "BadCodesLaw" (241 : Nat) ({ cls := "BadCodesModel", name := "whyNot", desc := "(I)I" } : Jvm.MethodName)) ∈ lw_all := lw_g (lw_at lw_m10 69 rfl) rfl
theorem q2344 : (Jvm.Cond.methodLink "BadCodesLaw" (244 : Nat) ({ cls := "BadCodesModel", name := "margin", desc := "(I)I" } : Jvm.MethodName)) ∈ lw_all := lw_g (lw_at lw_m10 73 rfl) rfl
theorem q2348 : (Jvm.Cond.methodLink "BadCodesLaw" (247 : Nat) ({ cls := "BadCodesModel", name := "mended", desc := "(I)I" } : Jvm.MethodName)) ∈ lw_all := lw_g (lw_at lw_m10 77 rfl) rfl
theorem q2352 : (Jvm.Cond.methodLink "BadCodesLaw" (250 : Nat) ({ cls := "BadCodesModel", name := "whyNotAgain", desc := "(I)I" } : Jvm.MethodName)) ∈ lw_all := lw_g (lw_at lw_m10 81 rfl) rfl
theorem q2360 : (Jvm.Cond.methodLink "BadCodesLaw" (253 : Nat) ({ cls := "BadCodesModel", name := "leastFix", desc := "(I)I" } : Jvm.MethodName)) ∈ lw_all := lw_g (lw_at lw_m10 89 rfl) rfl
theorem q2368 : (Jvm.Cond.methodLink "BadCodesLaw" (256 : Nat) ({ cls := "BadCodesModel", name := "codesNear", desc := "(II)I" } : Jvm.MethodName)) ∈ lw_all := lw_g (lw_at lw_m10 97 rfl) rfl
theorem q2373 : (Jvm.Cond.methodLink "BadCodesLaw" (259 : Nat) ({ cls := "BadCodesModel", name := "firstFix", desc := "(I)I" } : Jvm.MethodName)) ∈ lw_all := lw_g (lw_at lw_m10 102 rfl) rfl
theorem q2377 : (Jvm.Cond.methodLink "BadCodesLaw" (262 : Nat) ({ cls := "BadCodesModel", name := "bundle", desc := "(II)I" } : Jvm.MethodName)) ∈ lw_all := lw_g (lw_at lw_m10 106 rfl) rfl
theorem q2395 : (Jvm.Cond.methodLink "BadCodesLaw" (265 : Nat) ({ cls := "BadCodesModel", name := "bag", desc := "(II)I" } : Jvm.MethodName)) ∈ lw_all := lw_g (lw_at lw_m10 124 rfl) rfl
theorem q2407 : (Jvm.Cond.methodLink "BadCodesLaw" (268 : Nat) ({ cls := "BadCodesModel", name := "causes", desc := "(I)I" } : Jvm.MethodName)) ∈ lw_all := lw_g (lw_at lw_m10 136 rfl) rfl
theorem q2411 : (Jvm.Cond.methodLink "BadCodesLaw" (272 : Nat) ({ cls := "BadCodesModel", name := "gap", desc := "()I" } : Jvm.MethodName)) ∈ lw_all := lw_g (lw_at lw_m10 140 rfl) rfl
theorem q2416 : (Jvm.Cond.methodLink "BadCodesLaw" (276 : Nat) ({ cls := "BadCodesModel", name := "decidedIf", desc := "(III)I" } : Jvm.MethodName)) ∈ lw_all := lw_g (lw_at lw_m10 145 rfl) rfl
theorem q2426 : (Jvm.Cond.methodLink "BadCodesLaw" (279 : Nat) ({ cls := "BadCodesModel", name := "sortedIf", desc := "(I)I" } : Jvm.MethodName)) ∈ lw_all := lw_g (lw_at lw_m10 155 rfl) rfl
theorem q2439 : (Jvm.Cond.methodLink "BadCodesLaw" (282 : Nat) ({ cls := "BadCodesModel", name := "bestLimit", desc := "()I" } : Jvm.MethodName)) ∈ lw_all := lw_g (lw_at lw_m10 168 rfl) rfl
theorem q2443 : (Jvm.Cond.methodLink "BadCodesLaw" (285 : Nat) ({ cls := "BadCodesModel", name := "sumFor", desc := "(I)I" } : Jvm.MethodName)) ∈ lw_all := lw_g (lw_at lw_m10 172 rfl) rfl
theorem q2451 : (Jvm.Cond.methodLink "BadCodesLaw" (288 : Nat) ({ cls := "BadCodesModel", name := "bagsIf", desc := "(I)I" } : Jvm.MethodName)) ∈ lw_all := lw_g (lw_at lw_m10 180 rfl) rfl
theorem q2455 : (Jvm.Cond.methodLink "BadCodesLaw" (291 : Nat) ({ cls := "BadCodesModel", name := "helpful", desc := "(I)I" } : Jvm.MethodName)) ∈ lw_all := lw_g (lw_at lw_m10 184 rfl) rfl
theorem q2459 : (Jvm.Cond.methodLink "BadCodesLaw" (294 : Nat) ({ cls := "BadCodesModel", name := "causeIf", desc := "(I)I" } : Jvm.MethodName)) ∈ lw_all := lw_g (lw_at lw_m10 188 rfl) rfl
theorem q2463 : (Jvm.Cond.methodLink "BadCodesLaw" (298 : Nat) ({ cls := "BadCodesModel", name := "share", desc := "()F" } : Jvm.MethodName)) ∈ lw_all := lw_g (lw_at lw_m10 192 rfl) rfl
theorem q2467 : (Jvm.Cond.methodLink "BadCodesLaw" (301 : Nat) ({ cls := "BadCodesModel", name := "meanDistance", desc := "()D" } : Jvm.MethodName)) ∈ lw_all := lw_g (lw_at lw_m10 196 rfl) rfl
theorem q2471 : (Jvm.Cond.methodLink "BadCodesLaw" (304 : Nat) ({ cls := "BadCodesModel", name := "writeLetter", desc := "(I)I" } : Jvm.MethodName)) ∈ lw_all := lw_g (lw_at lw_m10 200 rfl) rfl
theorem q2483 : (Jvm.Cond.methodLink "BadCodesLaw" (307 : Nat) ({ cls := "BadCodesModel", name := "writeNear", desc := "(I)I" } : Jvm.MethodName)) ∈ lw_all := lw_g (lw_at lw_m10 212 rfl) rfl
theorem q2491 : (Jvm.Cond.methodLink "BadCodesLaw" (310 : Nat) ({ cls := "BadCodesModel", name := "writeBags", desc := "()I" } : Jvm.MethodName)) ∈ lw_all := lw_g (lw_at lw_m10 220 rfl) rfl
theorem q2495 : (Jvm.Cond.methodLink "BadCodesLaw" (313 : Nat) ({ cls := "BadCodesModel", name := "textByte", desc := "(I)I" } : Jvm.MethodName)) ∈ lw_all := lw_g (lw_at lw_m10 224 rfl) rfl
theorem q2499 : (Jvm.Cond.methodLink "BadCodesLaw" (316 : Nat) ({ cls := "BadCodesModel", name := "sort", desc := "(I)I" } : Jvm.MethodName)) ∈ lw_all := lw_g (lw_at lw_m10 228 rfl) rfl
theorem q2511 : (Jvm.Cond.methodLink "BadCodesLaw" (319 : Nat) ({ cls := "BadCodesModel", name := "sortAll", desc := "()I" } : Jvm.MethodName)) ∈ lw_all := lw_g (lw_at lw_m11 0 rfl) rfl
theorem q2515 : (Jvm.Cond.methodLink "BadCodesLaw" (322 : Nat) ({ cls := "BadCodesModel", name := "again", desc := "(III)I" } : Jvm.MethodName)) ∈ lw_all := lw_g (lw_at lw_m11 4 rfl) rfl
theorem q2519 : (Jvm.Cond.methodLink "BadCodesLaw" (325 : Nat) ({ cls := "BadCodesModel", name := "addLetter", desc := "(III)I" } : Jvm.MethodName)) ∈ lw_all := lw_g (lw_at lw_m11 8 rfl) rfl
theorem q2525 : (Jvm.Cond.methodLink "BadCodesLaw" (328 : Nat) ({ cls := "BadCodesModel", name := "setSum", desc := "(II)I" } : Jvm.MethodName)) ∈ lw_all := lw_g (lw_at lw_m11 14 rfl) rfl
theorem q2529 : (Jvm.Cond.methodLink "BadCodesLaw" (331 : Nat) ({ cls := "BadCodesModel", name := "move", desc := "(II)I" } : Jvm.MethodName)) ∈ lw_all := lw_g (lw_at lw_m11 18 rfl) rfl
theorem q2533 : (Jvm.Cond.methodLink "BadCodesLaw" (334 : Nat) ({ cls := "BadCodesModel", name := "setLimit", desc := "(I)I" } : Jvm.MethodName)) ∈ lw_all := lw_g (lw_at lw_m11 22 rfl) rfl
theorem q2537 : (Jvm.Cond.methodLink "BadCodesLaw" (337 : Nat) ({ cls := "BadCodesModel", name := "turnRoute", desc := "(I)I" } : Jvm.MethodName)) ∈ lw_all := lw_g (lw_at lw_m11 26 rfl) rfl
theorem q2541 : (Jvm.Cond.methodLink "BadCodesLaw" (340 : Nat) ({ cls := "BadCodesModel", name := "undo", desc := "()I" } : Jvm.MethodName)) ∈ lw_all := lw_g (lw_at lw_m11 30 rfl) rfl
theorem q2545 : (Jvm.Cond.methodLink "BadCodesLaw" (344 : Nat) ({ cls := "BadCodesModel", name := "undoable", desc := "()I" } : Jvm.MethodName)) ∈ lw_all := lw_g (lw_at lw_m11 34 rfl) rfl
theorem q2549 : (Jvm.Cond.methodLink "BadCodesLaw" (347 : Nat) ({ cls := "BadCodesModel", name := "save", desc := "(I)I" } : Jvm.MethodName)) ∈ lw_all := lw_g (lw_at lw_m11 38 rfl) rfl
theorem q2553 : (Jvm.Cond.methodLink "BadCodesLaw" (350 : Nat) ({ cls := "BadCodesModel", name := "restore", desc := "(I)I" } : Jvm.MethodName)) ∈ lw_all := lw_g (lw_at lw_m11 42 rfl) rfl
/-! BadCodes$FormatException -/
set_option maxRecDepth 100000
def RX4 : String := "BadCodes$FormatException"
def TX4 : u_T := fun k => match k with
  | 0 => ("java/lang/Throwable", "cause", "Ljava/lang/Throwable;", false)
  | 1 => ("java/lang/Throwable", "stackTrace", "[Ljava/lang/StackTraceElement;", false)
  | 2 => ("java/lang/Throwable", "suppressedExceptions", "Ljava/util/List;", false)
  | 3 => ("java/lang/Throwable", "detailMessage", "Ljava/lang/String;", false)
  | 4 => ("java/lang/Throwable", "backtrace", "Ljava/lang/Object;", false)
  | 5 => ("java/lang/Throwable", "depth", "I", false)
  | 6 => ("BadCodes$FormatException", "kind", "I", true)
  | _ => ("BadCodes$FormatException", "position", "I", true)
def tyX4 : Nat → FieldType := fun k => match k with
  | 0 => .object "java/lang/Throwable"
  | 1 => .array (.object "java/lang/StackTraceElement")
  | 2 => .object "java/util/List"
  | 3 => .object "java/lang/String"
  | 4 => .object "java/lang/Object"
  | 5 => .int
  | 6 => .int
  | _ => .int
abbrev wsX40 : List Cond := u_ws RX4 TX4 8
theorem nmX4 : ∀ a, a < 8 → ∀ b, b < 8 → a ≠ b → (TX4 a).2.1 ≠ (TX4 b).2.1 := by decide +kernel
theorem tyX4_ok : ∀ k, k < 8 → parseFieldDescriptor (TX4 k).2.2.1 = some (tyX4 k) := by decide +kernel
abbrev cX4_init : ByteArray := prog_3_method_1_code
def yX4_init : MethodName := ⟨RX4, "<init>", "(II)V"⟩
def dkwX4_init_0 : List UInt8 := [42, 1, 1, 3, 3, 183, 0, 1, 42, 27, 181, 0, 7, 42, 28, 181, 0, 13, 177]
abbrev dktX4_init_0 : List UInt8 := dkwX4_init_0 ++ []
theorem dksX4_init_0 : cX4_init.data.toList.drop 0 = dktX4_init_0 := by decide +kernel
theorem dX4_init_0 : decode cX4_init 0 = .ok (.aload_n 0, 1) := dk_42 (dk_at dksX4_init_0 0 rfl rfl)
theorem dX4_init_1 : decode cX4_init 1 = .ok (.aconst_null, 1) := dk_1 (dk_at dksX4_init_0 1 rfl rfl)
theorem dX4_init_2 : decode cX4_init 2 = .ok (.aconst_null, 1) := dk_1 (dk_at dksX4_init_0 2 rfl rfl)
theorem dX4_init_3 : decode cX4_init 3 = .ok (.iconst 0, 1) := dk_3 (dk_at dksX4_init_0 3 rfl rfl)
theorem dX4_init_4 : decode cX4_init 4 = .ok (.iconst 0, 1) := dk_3 (dk_at dksX4_init_0 4 rfl rfl)
theorem dX4_init_5 : decode cX4_init 5 = .ok (.invokespecial 1, 3) := dk_183 0 1 (dk_at dksX4_init_0 5 rfl rfl)
theorem dX4_init_8 : decode cX4_init 8 = .ok (.aload_n 0, 1) := dk_42 (dk_at dksX4_init_0 8 rfl rfl)
theorem dX4_init_9 : decode cX4_init 9 = .ok (.iload_n 1, 1) := dk_27 (dk_at dksX4_init_0 9 rfl rfl)
theorem dX4_init_10 : decode cX4_init 10 = .ok (.putfield 7, 3) := dk_181 0 7 (dk_at dksX4_init_0 10 rfl rfl)
theorem dX4_init_13 : decode cX4_init 13 = .ok (.aload_n 0, 1) := dk_42 (dk_at dksX4_init_0 13 rfl rfl)
theorem dX4_init_14 : decode cX4_init 14 = .ok (.iload_n 2, 1) := dk_28 (dk_at dksX4_init_0 14 rfl rfl)
theorem dX4_init_15 : decode cX4_init 15 = .ok (.putfield 13, 3) := dk_181 0 13 (dk_at dksX4_init_0 15 rfl rfl)
theorem dX4_init_18 : decode cX4_init 18 = .ok (.return_, 1) := dk_177 (dk_at dksX4_init_0 18 rfl rfl)
theorem q138 : (Jvm.Cond.initialized "BadCodes$FormatException") ∈ lw_all := lw_g (lw_at lw_m1 27 rfl) rfl
theorem q310 : (Jvm.Cond.selects "BadCodes$FormatException" ({ cls := "java/lang/Throwable", name := "fillInStackTrace", desc := "()Ljava/lang/Throwable;" } : Jvm.MethodName) ({ cls := "java/lang/Throwable", name := "fillInStackTrace", desc := "()Ljava/lang/Throwable;" } : Jvm.MethodName)) ∈ lw_all := lw_g (lw_at lw_m1 199 rfl) rfl
theorem q758 : (Jvm.Cond.instantiable "BadCodes$FormatException" (8 : Nat)) ∈ lw_all := lw_g (lw_at lw_m3 167 rfl) rfl
theorem q759 : (Jvm.Cond.castable "BadCodes$FormatException" "BadCodes$FormatException") ∈ lw_tbl := lw_at lw_m3 168 rfl
theorem q760 : (Jvm.Cond.selects "BadCodes$FormatException" ({ cls := "java/lang/Throwable", name := "fillInStackTrace", desc := "(I)Ljava/lang/Throwable;" } : Jvm.MethodName) ({ cls := "java/lang/Throwable", name := "fillInStackTrace", desc := "(I)Ljava/lang/Throwable;" } : Jvm.MethodName)) ∈ lw_all := lw_g (lw_at lw_m3 169 rfl) rfl
theorem q761 : (Jvm.Cond.lays "BadCodes$FormatException" "java/lang/Throwable" "cause" "Ljava/lang/Throwable;") ∈ lw_all := lw_g (lw_at lw_m3 170 rfl) rfl
theorem q762 : (Jvm.Cond.lays "BadCodes$FormatException" "java/lang/Throwable" "stackTrace" "[Ljava/lang/StackTraceElement;") ∈ lw_all := lw_g (lw_at lw_m3 171 rfl) rfl
theorem q763 : (Jvm.Cond.lays "BadCodes$FormatException" "java/lang/Throwable" "suppressedExceptions" "Ljava/util/List;") ∈ lw_all := lw_g (lw_at lw_m3 172 rfl) rfl
theorem q764 : (Jvm.Cond.lays "BadCodes$FormatException" "java/lang/Throwable" "detailMessage" "Ljava/lang/String;") ∈ lw_all := lw_g (lw_at lw_m3 173 rfl) rfl
theorem q765 : (Jvm.Cond.lays "BadCodes$FormatException" "java/lang/Throwable" "backtrace" "Ljava/lang/Object;") ∈ lw_all := lw_g (lw_at lw_m3 174 rfl) rfl
theorem q767 : (Jvm.Cond.instanceMethod ({ cls := "BadCodes$FormatException", name := "<init>", desc := "(II)V" } : Jvm.MethodName)) ∈ lw_all := lw_g (lw_at lw_m3 176 rfl) rfl
theorem q768 : (Jvm.Cond.code ({ cls := "BadCodes$FormatException", name := "<init>", desc := "(II)V" } : Jvm.MethodName) prog_3_method_1_code (3 : Nat) (Option.none : Option Jvm.ClassFile.FieldType)) ∈ lw_all := lw_g (lw_at lw_m3 177 rfl) rfl
theorem q769 : (Jvm.Cond.methodLink "BadCodes$FormatException" (1 : Nat) ({ cls := "java/lang/Exception", name := "<init>", desc := "(Ljava/lang/String;Ljava/lang/Throwable;ZZ)V" } : Jvm.MethodName)) ∈ lw_all := lw_g (lw_at lw_m3 178 rfl) rfl
theorem q775 : (Jvm.Cond.fieldLink "BadCodes$FormatException" (7 : Nat) "BadCodes$FormatException" "kind" "I") ∈ lw_all := lw_g (lw_at lw_m3 184 rfl) rfl
theorem q777 : (Jvm.Cond.fieldLink "BadCodes$FormatException" (13 : Nat) "BadCodes$FormatException" "position" "I") ∈ lw_all := lw_g (lw_at lw_m3 186 rfl) rfl
theorem q779 : (Jvm.Cond.laysFinal "BadCodes$FormatException" "BadCodes$FormatException" "kind" "I") ∈ lw_all := lw_g (lw_at lw_m3 188 rfl) rfl
theorem q780 : (Jvm.Cond.soleField "BadCodes$FormatException" "kind") ∈ lw_all := lw_g (lw_at lw_m3 189 rfl) rfl
theorem q781 : (Jvm.Cond.laysFinal "BadCodes$FormatException" "BadCodes$FormatException" "position" "I") ∈ lw_all := lw_g (lw_at lw_m3 190 rfl) rfl
theorem q782 : (Jvm.Cond.soleField "BadCodes$FormatException" "position") ∈ lw_all := lw_g (lw_at lw_m3 191 rfl) rfl
theorem q783 : (Jvm.Cond.lays "BadCodes$FormatException" "java/lang/Throwable" "depth" "I") ∈ lw_all := lw_g (lw_at lw_m3 192 rfl) rfl
theorem q784 : (Jvm.Cond.superclass "BadCodes$FormatException" "java/lang/Exception") ∈ lw_all := lw_g (lw_at lw_m3 193 rfl) rfl
theorem q1034 : (Jvm.Cond.selects "BadCodes$FormatException" ({ cls := "java/lang/Object", name := "getClass", desc := "()Ljava/lang/Class;" } : Jvm.MethodName) ({ cls := "java/lang/Object", name := "getClass", desc := "()Ljava/lang/Class;" } : Jvm.MethodName)) ∈ lw_all := lw_g (lw_at lw_m4 203 rfl) rfl
theorem q2584 : (Jvm.Cond.castable "BadCodes$FormatException" "java/lang/Object") ∈ lw_tbl := lw_at lw_m11 73 rfl
theorem in_X4 : ∀ w ∈ wsX40, w ∈ lw_all := lw_in wsX40 [761, 762, 763, 764, 765, 783, 779, 781] (by decide +kernel) (by decide +kernel)
/-! BadCodes$Unsorted -/
set_option maxRecDepth 100000
def RX8 : String := "BadCodes$Unsorted"
abbrev cX8_init : ByteArray := prog_12_method_1_code
def yX8_init : MethodName := ⟨RX8, "<init>", "(ILBadCodes$Unsorted;)V"⟩
def dkwX8_init_0 : List UInt8 := [42, 1, 1, 3, 3, 183, 0, 1, 42, 27, 181, 0, 7, 42, 44, 181, 0, 13, 177]
abbrev dktX8_init_0 : List UInt8 := dkwX8_init_0 ++ []
theorem dksX8_init_0 : cX8_init.data.toList.drop 0 = dktX8_init_0 := by decide +kernel
theorem dX8_init_0 : decode cX8_init 0 = .ok (.aload_n 0, 1) := dk_42 (dk_at dksX8_init_0 0 rfl rfl)
theorem dX8_init_1 : decode cX8_init 1 = .ok (.aconst_null, 1) := dk_1 (dk_at dksX8_init_0 1 rfl rfl)
theorem dX8_init_2 : decode cX8_init 2 = .ok (.aconst_null, 1) := dk_1 (dk_at dksX8_init_0 2 rfl rfl)
theorem dX8_init_3 : decode cX8_init 3 = .ok (.iconst 0, 1) := dk_3 (dk_at dksX8_init_0 3 rfl rfl)
theorem dX8_init_4 : decode cX8_init 4 = .ok (.iconst 0, 1) := dk_3 (dk_at dksX8_init_0 4 rfl rfl)
theorem dX8_init_5 : decode cX8_init 5 = .ok (.invokespecial 1, 3) := dk_183 0 1 (dk_at dksX8_init_0 5 rfl rfl)
theorem dX8_init_8 : decode cX8_init 8 = .ok (.aload_n 0, 1) := dk_42 (dk_at dksX8_init_0 8 rfl rfl)
theorem dX8_init_9 : decode cX8_init 9 = .ok (.iload_n 1, 1) := dk_27 (dk_at dksX8_init_0 9 rfl rfl)
theorem dX8_init_10 : decode cX8_init 10 = .ok (.putfield 7, 3) := dk_181 0 7 (dk_at dksX8_init_0 10 rfl rfl)
theorem dX8_init_13 : decode cX8_init 13 = .ok (.aload_n 0, 1) := dk_42 (dk_at dksX8_init_0 13 rfl rfl)
theorem dX8_init_14 : decode cX8_init 14 = .ok (.aload_n 2, 1) := dk_44 (dk_at dksX8_init_0 14 rfl rfl)
theorem dX8_init_15 : decode cX8_init 15 = .ok (.putfield 13, 3) := dk_181 0 13 (dk_at dksX8_init_0 15 rfl rfl)
theorem dX8_init_18 : decode cX8_init 18 = .ok (.return_, 1) := dk_177 (dk_at dksX8_init_0 18 rfl rfl)
abbrev cX8_firstReason : ByteArray := prog_12_method_2_code
def yX8_firstReason : MethodName := ⟨RX8, "firstReason", "()I"⟩
def dkwX8_firstReason_0 : List UInt8 := [42, 76, 43, 180, 0, 13, 198, 0, 11, 43, 180, 0, 13, 76, 167, 255, 244, 43, 180, 0, 7, 172]
abbrev dktX8_firstReason_0 : List UInt8 := dkwX8_firstReason_0 ++ []
theorem dksX8_firstReason_0 : cX8_firstReason.data.toList.drop 0 = dktX8_firstReason_0 := by decide +kernel
theorem dX8_firstReason_0 : decode cX8_firstReason 0 = .ok (.aload_n 0, 1) := dk_42 (dk_at dksX8_firstReason_0 0 rfl rfl)
theorem dX8_firstReason_1 : decode cX8_firstReason 1 = .ok (.astore_n 1, 1) := dk_76 (dk_at dksX8_firstReason_0 1 rfl rfl)
theorem dX8_firstReason_2 : decode cX8_firstReason 2 = .ok (.aload_n 1, 1) := dk_43 (dk_at dksX8_firstReason_0 2 rfl rfl)
theorem dX8_firstReason_3 : decode cX8_firstReason 3 = .ok (.getfield 13, 3) := dk_180 0 13 (dk_at dksX8_firstReason_0 3 rfl rfl)
theorem dX8_firstReason_6 : decode cX8_firstReason 6 = .ok (.ifnull 11, 3) := dk_198 0 11 (dk_at dksX8_firstReason_0 6 rfl rfl)
theorem dX8_firstReason_9 : decode cX8_firstReason 9 = .ok (.aload_n 1, 1) := dk_43 (dk_at dksX8_firstReason_0 9 rfl rfl)
theorem dX8_firstReason_10 : decode cX8_firstReason 10 = .ok (.getfield 13, 3) := dk_180 0 13 (dk_at dksX8_firstReason_0 10 rfl rfl)
theorem dX8_firstReason_13 : decode cX8_firstReason 13 = .ok (.astore_n 1, 1) := dk_76 (dk_at dksX8_firstReason_0 13 rfl rfl)
theorem dX8_firstReason_14 : decode cX8_firstReason 14 = .ok (.goto (-12), 3) := dk_167 255 244 (dk_at dksX8_firstReason_0 14 rfl rfl)
theorem dX8_firstReason_17 : decode cX8_firstReason 17 = .ok (.aload_n 1, 1) := dk_43 (dk_at dksX8_firstReason_0 17 rfl rfl)
theorem dX8_firstReason_18 : decode cX8_firstReason 18 = .ok (.getfield 7, 3) := dk_180 0 7 (dk_at dksX8_firstReason_0 18 rfl rfl)
theorem dX8_firstReason_21 : decode cX8_firstReason 21 = .ok (.ireturn, 1) := dk_172 (dk_at dksX8_firstReason_0 21 rfl rfl)
theorem q145 : (Jvm.Cond.initialized "BadCodes$Unsorted") ∈ lw_all := lw_g (lw_at lw_m1 34 rfl) rfl
theorem q1213 : (Jvm.Cond.instanceMethod ({ cls := "BadCodes$Unsorted", name := "<init>", desc := "(ILBadCodes$Unsorted;)V" } : Jvm.MethodName)) ∈ lw_all := lw_g (lw_at lw_m5 142 rfl) rfl
theorem q1214 : (Jvm.Cond.code ({ cls := "BadCodes$Unsorted", name := "<init>", desc := "(ILBadCodes$Unsorted;)V" } : Jvm.MethodName) prog_12_method_1_code (3 : Nat) (Option.none : Option Jvm.ClassFile.FieldType)) ∈ lw_all := lw_g (lw_at lw_m5 143 rfl) rfl
theorem q1215 : (Jvm.Cond.methodLink "BadCodes$Unsorted" (1 : Nat) ({ cls := "java/lang/Exception", name := "<init>", desc := "(Ljava/lang/String;Ljava/lang/Throwable;ZZ)V" } : Jvm.MethodName)) ∈ lw_all := lw_g (lw_at lw_m5 144 rfl) rfl
theorem q1216 : (Jvm.Cond.fieldLink "BadCodes$Unsorted" (7 : Nat) "BadCodes$Unsorted" "reason" "I") ∈ lw_all := lw_g (lw_at lw_m5 145 rfl) rfl
theorem q1217 : (Jvm.Cond.fieldLink "BadCodes$Unsorted" (13 : Nat) "BadCodes$Unsorted" "source" "LBadCodes$Unsorted;") ∈ lw_all := lw_g (lw_at lw_m5 146 rfl) rfl
theorem q1219 : (Jvm.Cond.soleField "BadCodes$Unsorted" "reason") ∈ lw_all := lw_g (lw_at lw_m5 148 rfl) rfl
theorem q1221 : (Jvm.Cond.soleField "BadCodes$Unsorted" "source") ∈ lw_all := lw_g (lw_at lw_m5 150 rfl) rfl
theorem q1270 : (Jvm.Cond.declares ({ cls := "BadCodes$Unsorted", name := "firstReason", desc := "()I" } : Jvm.MethodName)) ∈ lw_tbl := lw_at lw_m5 199 rfl
theorem q1272 : (Jvm.Cond.instanceMethod ({ cls := "BadCodes$Unsorted", name := "firstReason", desc := "()I" } : Jvm.MethodName)) ∈ lw_all := lw_g (lw_at lw_m5 201 rfl) rfl
theorem q1273 : (Jvm.Cond.code ({ cls := "BadCodes$Unsorted", name := "firstReason", desc := "()I" } : Jvm.MethodName) prog_12_method_2_code (2 : Nat) (Option.some Jvm.ClassFile.FieldType.int)) ∈ lw_all := lw_g (lw_at lw_m5 202 rfl) rfl
/-! BadCodes$Undecided -/
set_option maxRecDepth 100000
def RX9 : String := "BadCodes$Undecided"
def TX9 : u_T := fun k => match k with
  | 0 => ("BadCodes$Unsorted", "reason", "I", true)
  | 1 => ("BadCodes$Unsorted", "source", "LBadCodes$Unsorted;", true)
  | 2 => ("java/lang/Throwable", "cause", "Ljava/lang/Throwable;", false)
  | 3 => ("java/lang/Throwable", "stackTrace", "[Ljava/lang/StackTraceElement;", false)
  | 4 => ("java/lang/Throwable", "suppressedExceptions", "Ljava/util/List;", false)
  | 5 => ("java/lang/Throwable", "detailMessage", "Ljava/lang/String;", false)
  | 6 => ("java/lang/Throwable", "backtrace", "Ljava/lang/Object;", false)
  | _ => ("java/lang/Throwable", "depth", "I", false)
def tyX9 : Nat → FieldType := fun k => match k with
  | 0 => .int
  | 1 => .object "BadCodes$Unsorted"
  | 2 => .object "java/lang/Throwable"
  | 3 => .array (.object "java/lang/StackTraceElement")
  | 4 => .object "java/util/List"
  | 5 => .object "java/lang/String"
  | 6 => .object "java/lang/Object"
  | _ => .int
abbrev wsX90 : List Cond := u_ws RX9 TX9 8
theorem nmX9 : ∀ a, a < 8 → ∀ b, b < 8 → a ≠ b → (TX9 a).2.1 ≠ (TX9 b).2.1 := by decide +kernel
theorem tyX9_ok : ∀ k, k < 8 → parseFieldDescriptor (TX9 k).2.2.1 = some (tyX9 k) := by decide +kernel
abbrev cX9_init : ByteArray := prog_11_method_1_code
def yX9_init : MethodName := ⟨RX9, "<init>", "(I)V"⟩
def dkwX9_init_0 : List UInt8 := [42, 27, 1, 183, 0, 1, 177]
abbrev dktX9_init_0 : List UInt8 := dkwX9_init_0 ++ []
theorem dksX9_init_0 : cX9_init.data.toList.drop 0 = dktX9_init_0 := by decide +kernel
theorem dX9_init_0 : decode cX9_init 0 = .ok (.aload_n 0, 1) := dk_42 (dk_at dksX9_init_0 0 rfl rfl)
theorem dX9_init_1 : decode cX9_init 1 = .ok (.iload_n 1, 1) := dk_27 (dk_at dksX9_init_0 1 rfl rfl)
theorem dX9_init_2 : decode cX9_init 2 = .ok (.aconst_null, 1) := dk_1 (dk_at dksX9_init_0 2 rfl rfl)
theorem dX9_init_3 : decode cX9_init 3 = .ok (.invokespecial 1, 3) := dk_183 0 1 (dk_at dksX9_init_0 3 rfl rfl)
theorem dX9_init_6 : decode cX9_init 6 = .ok (.return_, 1) := dk_177 (dk_at dksX9_init_0 6 rfl rfl)
theorem q146 : (Jvm.Cond.initialized "BadCodes$Undecided") ∈ lw_all := lw_g (lw_at lw_m1 35 rfl) rfl
theorem q312 : (Jvm.Cond.selects "BadCodes$Undecided" ({ cls := "java/lang/Throwable", name := "fillInStackTrace", desc := "()Ljava/lang/Throwable;" } : Jvm.MethodName) ({ cls := "java/lang/Throwable", name := "fillInStackTrace", desc := "()Ljava/lang/Throwable;" } : Jvm.MethodName)) ∈ lw_all := lw_g (lw_at lw_m1 201 rfl) rfl
theorem q1041 : (Jvm.Cond.selects "BadCodes$Undecided" ({ cls := "java/lang/Object", name := "getClass", desc := "()Ljava/lang/Class;" } : Jvm.MethodName) ({ cls := "java/lang/Object", name := "getClass", desc := "()Ljava/lang/Class;" } : Jvm.MethodName)) ∈ lw_all := lw_g (lw_at lw_m4 210 rfl) rfl
theorem q1201 : (Jvm.Cond.instantiable "BadCodes$Undecided" (8 : Nat)) ∈ lw_all := lw_g (lw_at lw_m5 130 rfl) rfl
theorem q1202 : (Jvm.Cond.castable "BadCodes$Undecided" "BadCodes$Undecided") ∈ lw_tbl := lw_at lw_m5 131 rfl
theorem q1203 : (Jvm.Cond.selects "BadCodes$Undecided" ({ cls := "java/lang/Throwable", name := "fillInStackTrace", desc := "(I)Ljava/lang/Throwable;" } : Jvm.MethodName) ({ cls := "java/lang/Throwable", name := "fillInStackTrace", desc := "(I)Ljava/lang/Throwable;" } : Jvm.MethodName)) ∈ lw_all := lw_g (lw_at lw_m5 132 rfl) rfl
theorem q1204 : (Jvm.Cond.lays "BadCodes$Undecided" "java/lang/Throwable" "cause" "Ljava/lang/Throwable;") ∈ lw_all := lw_g (lw_at lw_m5 133 rfl) rfl
theorem q1205 : (Jvm.Cond.lays "BadCodes$Undecided" "java/lang/Throwable" "stackTrace" "[Ljava/lang/StackTraceElement;") ∈ lw_all := lw_g (lw_at lw_m5 134 rfl) rfl
theorem q1206 : (Jvm.Cond.lays "BadCodes$Undecided" "java/lang/Throwable" "suppressedExceptions" "Ljava/util/List;") ∈ lw_all := lw_g (lw_at lw_m5 135 rfl) rfl
theorem q1207 : (Jvm.Cond.lays "BadCodes$Undecided" "java/lang/Throwable" "detailMessage" "Ljava/lang/String;") ∈ lw_all := lw_g (lw_at lw_m5 136 rfl) rfl
theorem q1208 : (Jvm.Cond.lays "BadCodes$Undecided" "java/lang/Throwable" "backtrace" "Ljava/lang/Object;") ∈ lw_all := lw_g (lw_at lw_m5 137 rfl) rfl
theorem q1210 : (Jvm.Cond.instanceMethod ({ cls := "BadCodes$Undecided", name := "<init>", desc := "(I)V" } : Jvm.MethodName)) ∈ lw_all := lw_g (lw_at lw_m5 139 rfl) rfl
theorem q1211 : (Jvm.Cond.code ({ cls := "BadCodes$Undecided", name := "<init>", desc := "(I)V" } : Jvm.MethodName) prog_11_method_1_code (2 : Nat) (Option.none : Option Jvm.ClassFile.FieldType)) ∈ lw_all := lw_g (lw_at lw_m5 140 rfl) rfl
theorem q1212 : (Jvm.Cond.methodLink "BadCodes$Undecided" (1 : Nat) ({ cls := "BadCodes$Unsorted", name := "<init>", desc := "(ILBadCodes$Unsorted;)V" } : Jvm.MethodName)) ∈ lw_all := lw_g (lw_at lw_m5 141 rfl) rfl
theorem q1218 : (Jvm.Cond.laysFinal "BadCodes$Undecided" "BadCodes$Unsorted" "reason" "I") ∈ lw_all := lw_g (lw_at lw_m5 147 rfl) rfl
theorem q1220 : (Jvm.Cond.laysFinal "BadCodes$Undecided" "BadCodes$Unsorted" "source" "LBadCodes$Unsorted;") ∈ lw_all := lw_g (lw_at lw_m5 149 rfl) rfl
theorem q1222 : (Jvm.Cond.lays "BadCodes$Undecided" "java/lang/Throwable" "depth" "I") ∈ lw_all := lw_g (lw_at lw_m5 151 rfl) rfl
theorem q1223 : (Jvm.Cond.superclass "BadCodes$Undecided" "BadCodes$Unsorted") ∈ lw_all := lw_g (lw_at lw_m5 152 rfl) rfl
theorem q2589 : (Jvm.Cond.castable "BadCodes$Undecided" "java/lang/Object") ∈ lw_tbl := lw_at lw_m11 78 rfl
theorem in_X9 : ∀ w ∈ wsX90, w ∈ lw_all := lw_in wsX90 [1218, 1220, 1204, 1205, 1206, 1207, 1208, 1222] (by decide +kernel) (by decide +kernel)
/-! BadCodes$ClosedRoute -/
set_option maxRecDepth 100000
def RX10 : String := "BadCodes$ClosedRoute"
def TX10 : u_T := fun k => match k with
  | 0 => ("BadCodes$Unsorted", "reason", "I", true)
  | 1 => ("BadCodes$Unsorted", "source", "LBadCodes$Unsorted;", true)
  | 2 => ("java/lang/Throwable", "cause", "Ljava/lang/Throwable;", false)
  | 3 => ("java/lang/Throwable", "stackTrace", "[Ljava/lang/StackTraceElement;", false)
  | 4 => ("java/lang/Throwable", "suppressedExceptions", "Ljava/util/List;", false)
  | 5 => ("java/lang/Throwable", "detailMessage", "Ljava/lang/String;", false)
  | 6 => ("java/lang/Throwable", "backtrace", "Ljava/lang/Object;", false)
  | _ => ("java/lang/Throwable", "depth", "I", false)
def tyX10 : Nat → FieldType := fun k => match k with
  | 0 => .int
  | 1 => .object "BadCodes$Unsorted"
  | 2 => .object "java/lang/Throwable"
  | 3 => .array (.object "java/lang/StackTraceElement")
  | 4 => .object "java/util/List"
  | 5 => .object "java/lang/String"
  | 6 => .object "java/lang/Object"
  | _ => .int
abbrev wsX100 : List Cond := u_ws RX10 TX10 8
theorem nmX10 : ∀ a, a < 8 → ∀ b, b < 8 → a ≠ b → (TX10 a).2.1 ≠ (TX10 b).2.1 := by decide +kernel
theorem tyX10_ok : ∀ k, k < 8 → parseFieldDescriptor (TX10 k).2.2.1 = some (tyX10 k) := by decide +kernel
abbrev cX10_init : ByteArray := prog_2_method_1_code
def yX10_init : MethodName := ⟨RX10, "<init>", "()V"⟩
def dkwX10_init_0 : List UInt8 := [42, 7, 1, 183, 0, 3, 177]
abbrev dktX10_init_0 : List UInt8 := dkwX10_init_0 ++ []
theorem dksX10_init_0 : cX10_init.data.toList.drop 0 = dktX10_init_0 := by decide +kernel
theorem dX10_init_0 : decode cX10_init 0 = .ok (.aload_n 0, 1) := dk_42 (dk_at dksX10_init_0 0 rfl rfl)
theorem dX10_init_1 : decode cX10_init 1 = .ok (.iconst 4, 1) := dk_7 (dk_at dksX10_init_0 1 rfl rfl)
theorem dX10_init_2 : decode cX10_init 2 = .ok (.aconst_null, 1) := dk_1 (dk_at dksX10_init_0 2 rfl rfl)
theorem dX10_init_3 : decode cX10_init 3 = .ok (.invokespecial 3, 3) := dk_183 0 3 (dk_at dksX10_init_0 3 rfl rfl)
theorem dX10_init_6 : decode cX10_init 6 = .ok (.return_, 1) := dk_177 (dk_at dksX10_init_0 6 rfl rfl)
theorem q147 : (Jvm.Cond.initialized "BadCodes$ClosedRoute") ∈ lw_all := lw_g (lw_at lw_m1 36 rfl) rfl
theorem q309 : (Jvm.Cond.selects "BadCodes$ClosedRoute" ({ cls := "java/lang/Throwable", name := "fillInStackTrace", desc := "()Ljava/lang/Throwable;" } : Jvm.MethodName) ({ cls := "java/lang/Throwable", name := "fillInStackTrace", desc := "()Ljava/lang/Throwable;" } : Jvm.MethodName)) ∈ lw_all := lw_g (lw_at lw_m1 198 rfl) rfl
theorem q1033 : (Jvm.Cond.selects "BadCodes$ClosedRoute" ({ cls := "java/lang/Object", name := "getClass", desc := "()Ljava/lang/Class;" } : Jvm.MethodName) ({ cls := "java/lang/Object", name := "getClass", desc := "()Ljava/lang/Class;" } : Jvm.MethodName)) ∈ lw_all := lw_g (lw_at lw_m4 202 rfl) rfl
theorem q1232 : (Jvm.Cond.instantiable "BadCodes$ClosedRoute" (8 : Nat)) ∈ lw_all := lw_g (lw_at lw_m5 161 rfl) rfl
theorem q1233 : (Jvm.Cond.castable "BadCodes$ClosedRoute" "BadCodes$ClosedRoute") ∈ lw_tbl := lw_at lw_m5 162 rfl
theorem q1234 : (Jvm.Cond.selects "BadCodes$ClosedRoute" ({ cls := "java/lang/Throwable", name := "fillInStackTrace", desc := "(I)Ljava/lang/Throwable;" } : Jvm.MethodName) ({ cls := "java/lang/Throwable", name := "fillInStackTrace", desc := "(I)Ljava/lang/Throwable;" } : Jvm.MethodName)) ∈ lw_all := lw_g (lw_at lw_m5 163 rfl) rfl
theorem q1235 : (Jvm.Cond.lays "BadCodes$ClosedRoute" "java/lang/Throwable" "cause" "Ljava/lang/Throwable;") ∈ lw_all := lw_g (lw_at lw_m5 164 rfl) rfl
theorem q1236 : (Jvm.Cond.lays "BadCodes$ClosedRoute" "java/lang/Throwable" "stackTrace" "[Ljava/lang/StackTraceElement;") ∈ lw_all := lw_g (lw_at lw_m5 165 rfl) rfl
theorem q1237 : (Jvm.Cond.lays "BadCodes$ClosedRoute" "java/lang/Throwable" "suppressedExceptions" "Ljava/util/List;") ∈ lw_all := lw_g (lw_at lw_m5 166 rfl) rfl
theorem q1238 : (Jvm.Cond.lays "BadCodes$ClosedRoute" "java/lang/Throwable" "detailMessage" "Ljava/lang/String;") ∈ lw_all := lw_g (lw_at lw_m5 167 rfl) rfl
theorem q1239 : (Jvm.Cond.lays "BadCodes$ClosedRoute" "java/lang/Throwable" "backtrace" "Ljava/lang/Object;") ∈ lw_all := lw_g (lw_at lw_m5 168 rfl) rfl
theorem q1241 : (Jvm.Cond.instanceMethod ({ cls := "BadCodes$ClosedRoute", name := "<init>", desc := "()V" } : Jvm.MethodName)) ∈ lw_all := lw_g (lw_at lw_m5 170 rfl) rfl
theorem q1242 : (Jvm.Cond.code ({ cls := "BadCodes$ClosedRoute", name := "<init>", desc := "()V" } : Jvm.MethodName) prog_2_method_1_code (1 : Nat) (Option.none : Option Jvm.ClassFile.FieldType)) ∈ lw_all := lw_g (lw_at lw_m5 171 rfl) rfl
theorem q1243 : (Jvm.Cond.methodLink "BadCodes$ClosedRoute" (3 : Nat) ({ cls := "BadCodes$Unsorted", name := "<init>", desc := "(ILBadCodes$Unsorted;)V" } : Jvm.MethodName)) ∈ lw_all := lw_g (lw_at lw_m5 172 rfl) rfl
theorem q1244 : (Jvm.Cond.laysFinal "BadCodes$ClosedRoute" "BadCodes$Unsorted" "reason" "I") ∈ lw_all := lw_g (lw_at lw_m5 173 rfl) rfl
theorem q1245 : (Jvm.Cond.laysFinal "BadCodes$ClosedRoute" "BadCodes$Unsorted" "source" "LBadCodes$Unsorted;") ∈ lw_all := lw_g (lw_at lw_m5 174 rfl) rfl
theorem q1246 : (Jvm.Cond.lays "BadCodes$ClosedRoute" "java/lang/Throwable" "depth" "I") ∈ lw_all := lw_g (lw_at lw_m5 175 rfl) rfl
theorem q1247 : (Jvm.Cond.superclass "BadCodes$ClosedRoute" "BadCodes$Unsorted") ∈ lw_all := lw_g (lw_at lw_m5 176 rfl) rfl
theorem q2590 : (Jvm.Cond.castable "BadCodes$ClosedRoute" "java/lang/Object") ∈ lw_tbl := lw_at lw_m11 79 rfl
theorem in_X10 : ∀ w ∈ wsX100, w ∈ lw_all := lw_in wsX100 [1244, 1245, 1235, 1236, 1237, 1238, 1239, 1246] (by decide +kernel) (by decide +kernel)
/-! BadCodes$Returned -/
set_option maxRecDepth 100000
def RX11 : String := "BadCodes$Returned"
def TX11 : u_T := fun k => match k with
  | 0 => ("BadCodes$Unsorted", "reason", "I", true)
  | 1 => ("BadCodes$Unsorted", "source", "LBadCodes$Unsorted;", true)
  | 2 => ("java/lang/Throwable", "cause", "Ljava/lang/Throwable;", false)
  | 3 => ("java/lang/Throwable", "stackTrace", "[Ljava/lang/StackTraceElement;", false)
  | 4 => ("java/lang/Throwable", "suppressedExceptions", "Ljava/util/List;", false)
  | 5 => ("java/lang/Throwable", "detailMessage", "Ljava/lang/String;", false)
  | 6 => ("java/lang/Throwable", "backtrace", "Ljava/lang/Object;", false)
  | _ => ("java/lang/Throwable", "depth", "I", false)
def tyX11 : Nat → FieldType := fun k => match k with
  | 0 => .int
  | 1 => .object "BadCodes$Unsorted"
  | 2 => .object "java/lang/Throwable"
  | 3 => .array (.object "java/lang/StackTraceElement")
  | 4 => .object "java/util/List"
  | 5 => .object "java/lang/String"
  | 6 => .object "java/lang/Object"
  | _ => .int
abbrev wsX110 : List Cond := u_ws RX11 TX11 8
theorem nmX11 : ∀ a, a < 8 → ∀ b, b < 8 → a ≠ b → (TX11 a).2.1 ≠ (TX11 b).2.1 := by decide +kernel
theorem tyX11_ok : ∀ k, k < 8 → parseFieldDescriptor (TX11 k).2.2.1 = some (tyX11 k) := by decide +kernel
abbrev cX11_init : ByteArray := prog_7_method_1_code
def yX11_init : MethodName := ⟨RX11, "<init>", "(LBadCodes$Unsorted;)V"⟩
def dkwX11_init_0 : List UInt8 := [42, 3, 43, 183, 0, 1, 177]
abbrev dktX11_init_0 : List UInt8 := dkwX11_init_0 ++ []
theorem dksX11_init_0 : cX11_init.data.toList.drop 0 = dktX11_init_0 := by decide +kernel
theorem dX11_init_0 : decode cX11_init 0 = .ok (.aload_n 0, 1) := dk_42 (dk_at dksX11_init_0 0 rfl rfl)
theorem dX11_init_1 : decode cX11_init 1 = .ok (.iconst 0, 1) := dk_3 (dk_at dksX11_init_0 1 rfl rfl)
theorem dX11_init_2 : decode cX11_init 2 = .ok (.aload_n 1, 1) := dk_43 (dk_at dksX11_init_0 2 rfl rfl)
theorem dX11_init_3 : decode cX11_init 3 = .ok (.invokespecial 1, 3) := dk_183 0 1 (dk_at dksX11_init_0 3 rfl rfl)
theorem dX11_init_6 : decode cX11_init 6 = .ok (.return_, 1) := dk_177 (dk_at dksX11_init_0 6 rfl rfl)
theorem q148 : (Jvm.Cond.initialized "BadCodes$Returned") ∈ lw_all := lw_g (lw_at lw_m1 37 rfl) rfl
theorem q311 : (Jvm.Cond.selects "BadCodes$Returned" ({ cls := "java/lang/Throwable", name := "fillInStackTrace", desc := "()Ljava/lang/Throwable;" } : Jvm.MethodName) ({ cls := "java/lang/Throwable", name := "fillInStackTrace", desc := "()Ljava/lang/Throwable;" } : Jvm.MethodName)) ∈ lw_all := lw_g (lw_at lw_m1 200 rfl) rfl
theorem q1038 : (Jvm.Cond.selects "BadCodes$Returned" ({ cls := "java/lang/Object", name := "getClass", desc := "()Ljava/lang/Class;" } : Jvm.MethodName) ({ cls := "java/lang/Object", name := "getClass", desc := "()Ljava/lang/Class;" } : Jvm.MethodName)) ∈ lw_all := lw_g (lw_at lw_m4 207 rfl) rfl
theorem q1248 : (Jvm.Cond.instantiable "BadCodes$Returned" (8 : Nat)) ∈ lw_all := lw_g (lw_at lw_m5 177 rfl) rfl
theorem q1249 : (Jvm.Cond.castable "BadCodes$Returned" "BadCodes$Returned") ∈ lw_tbl := lw_at lw_m5 178 rfl
theorem q1250 : (Jvm.Cond.selects "BadCodes$Returned" ({ cls := "java/lang/Throwable", name := "fillInStackTrace", desc := "(I)Ljava/lang/Throwable;" } : Jvm.MethodName) ({ cls := "java/lang/Throwable", name := "fillInStackTrace", desc := "(I)Ljava/lang/Throwable;" } : Jvm.MethodName)) ∈ lw_all := lw_g (lw_at lw_m5 179 rfl) rfl
theorem q1251 : (Jvm.Cond.lays "BadCodes$Returned" "java/lang/Throwable" "cause" "Ljava/lang/Throwable;") ∈ lw_all := lw_g (lw_at lw_m5 180 rfl) rfl
theorem q1252 : (Jvm.Cond.lays "BadCodes$Returned" "java/lang/Throwable" "stackTrace" "[Ljava/lang/StackTraceElement;") ∈ lw_all := lw_g (lw_at lw_m5 181 rfl) rfl
theorem q1253 : (Jvm.Cond.lays "BadCodes$Returned" "java/lang/Throwable" "suppressedExceptions" "Ljava/util/List;") ∈ lw_all := lw_g (lw_at lw_m5 182 rfl) rfl
theorem q1254 : (Jvm.Cond.lays "BadCodes$Returned" "java/lang/Throwable" "detailMessage" "Ljava/lang/String;") ∈ lw_all := lw_g (lw_at lw_m5 183 rfl) rfl
theorem q1255 : (Jvm.Cond.lays "BadCodes$Returned" "java/lang/Throwable" "backtrace" "Ljava/lang/Object;") ∈ lw_all := lw_g (lw_at lw_m5 184 rfl) rfl
theorem q1257 : (Jvm.Cond.instanceMethod ({ cls := "BadCodes$Returned", name := "<init>", desc := "(LBadCodes$Unsorted;)V" } : Jvm.MethodName)) ∈ lw_all := lw_g (lw_at lw_m5 186 rfl) rfl
theorem q1258 : (Jvm.Cond.code ({ cls := "BadCodes$Returned", name := "<init>", desc := "(LBadCodes$Unsorted;)V" } : Jvm.MethodName) prog_7_method_1_code (2 : Nat) (Option.none : Option Jvm.ClassFile.FieldType)) ∈ lw_all := lw_g (lw_at lw_m5 187 rfl) rfl
theorem q1259 : (Jvm.Cond.methodLink "BadCodes$Returned" (1 : Nat) ({ cls := "BadCodes$Unsorted", name := "<init>", desc := "(ILBadCodes$Unsorted;)V" } : Jvm.MethodName)) ∈ lw_all := lw_g (lw_at lw_m5 188 rfl) rfl
theorem q1260 : (Jvm.Cond.laysFinal "BadCodes$Returned" "BadCodes$Unsorted" "reason" "I") ∈ lw_all := lw_g (lw_at lw_m5 189 rfl) rfl
theorem q1261 : (Jvm.Cond.laysFinal "BadCodes$Returned" "BadCodes$Unsorted" "source" "LBadCodes$Unsorted;") ∈ lw_all := lw_g (lw_at lw_m5 190 rfl) rfl
theorem q1262 : (Jvm.Cond.lays "BadCodes$Returned" "java/lang/Throwable" "depth" "I") ∈ lw_all := lw_g (lw_at lw_m5 191 rfl) rfl
theorem q1263 : (Jvm.Cond.superclass "BadCodes$Returned" "BadCodes$Unsorted") ∈ lw_all := lw_g (lw_at lw_m5 192 rfl) rfl
theorem q1269 : (Jvm.Cond.sameMethod "BadCodes$Returned" "BadCodes$Unsorted" "firstReason" "()I") ∈ lw_all := lw_g (lw_at lw_m5 198 rfl) rfl
theorem q1271 : (Jvm.Cond.selects "BadCodes$Returned" ({ cls := "BadCodes$Returned", name := "firstReason", desc := "()I" } : Jvm.MethodName) ({ cls := "BadCodes$Unsorted", name := "firstReason", desc := "()I" } : Jvm.MethodName)) ∈ lw_all := lw_g (lw_at lw_m5 200 rfl) rfl
theorem q2591 : (Jvm.Cond.castable "BadCodes$Returned" "java/lang/Object") ∈ lw_tbl := lw_at lw_m11 80 rfl
theorem in_X11 : ∀ w ∈ wsX110, w ∈ lw_all := lw_in wsX110 [1260, 1261, 1251, 1252, 1253, 1254, 1255, 1262] (by decide +kernel) (by decide +kernel)
