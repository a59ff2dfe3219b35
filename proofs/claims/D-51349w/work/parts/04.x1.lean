/-! BadCodes -/
set_option maxRecDepth 100000
def RX1 : String := "BadCodes"
def TX1 : u_T := fun k => match k with
  | 0 => ("BadCodes", "buffer", "[B", true)
  | 1 => ("BadCodes", "buffered", "I", false)
  | 2 => ("BadCodes", "parseError", "I", false)
  | 3 => ("BadCodes", "errorPosition", "I", false)
  | 4 => ("BadCodes", "now", "LBadCodes$Office;", false)
  | 5 => ("BadCodes", "undos", "Ljava/util/Deque;", true)
  | 6 => ("BadCodes", "saved", "[LBadCodes$Office;", true)
  | 7 => ("BadCodes", "written", "Ljava/lang/String;", false)
  | _ => ("BadCodes", "waits", "LBadCodes$Test;", true)
def tyX1 : Nat → FieldType := fun k => match k with
  | 0 => .array .byte
  | 1 => .int
  | 2 => .int
  | 3 => .int
  | 4 => .object "BadCodes$Office"
  | 5 => .object "java/util/Deque"
  | 6 => .array (.object "BadCodes$Office")
  | 7 => .object "java/lang/String"
  | _ => .object "BadCodes$Test"
abbrev wsX10 : List Cond := u_ws RX1 TX1 9
theorem nmX1 : ∀ a, a < 9 → ∀ b, b < 9 → a ≠ b → (TX1 a).2.1 ≠ (TX1 b).2.1 := by decide +kernel
theorem tyX1_ok : ∀ k, k < 9 → parseFieldDescriptor (TX1 k).2.2.1 = some (tyX1 k) := by decide +kernel
abbrev cX1_init : ByteArray := prog_1_method_8_code
def yX1_init : MethodName := ⟨RX1, "<init>", "()V"⟩
def dkwX1_init_2 : List UInt8 := [186, 0, 58, 0, 0, 181, 0, 62, 177]
abbrev dktX1_init_2 : List UInt8 := dkwX1_init_2 ++ []
def dkwX1_init_1 : List UInt8 := [16, 16, 183, 0, 39, 181, 0, 42, 42, 5, 189, 0, 46, 181, 0, 48, 42, 18, 52, 181, 0, 54, 42, 42]
abbrev dktX1_init_1 : List UInt8 := dkwX1_init_1 ++ dktX1_init_2
def dkwX1_init_0 : List UInt8 := [42, 183, 0, 23, 42, 17, 2, 88, 188, 8, 181, 0, 29, 42, 2, 181, 0, 33, 42, 187, 0, 37, 89]
abbrev dktX1_init_0 : List UInt8 := dkwX1_init_0 ++ dktX1_init_1
theorem dksX1_init_0 : cX1_init.data.toList.drop 0 = dktX1_init_0 := by decide +kernel
theorem dksX1_init_1 : cX1_init.data.toList.drop 23 = dktX1_init_1 := dk_seg dksX1_init_0 23 rfl rfl
theorem dksX1_init_2 : cX1_init.data.toList.drop 47 = dktX1_init_2 := dk_seg dksX1_init_1 24 rfl rfl
theorem dX1_init_0 : decode cX1_init 0 = .ok (.aload_n 0, 1) := dk_42 (dk_at dksX1_init_0 0 rfl rfl)
theorem dX1_init_1 : decode cX1_init 1 = .ok (.invokespecial 23, 3) := dk_183 0 23 (dk_at dksX1_init_0 1 rfl rfl)
theorem dX1_init_4 : decode cX1_init 4 = .ok (.aload_n 0, 1) := dk_42 (dk_at dksX1_init_0 4 rfl rfl)
theorem dX1_init_5 : decode cX1_init 5 = .ok (.sipush 600, 3) := dk_17 2 88 (dk_at dksX1_init_0 5 rfl rfl)
theorem dX1_init_8 : decode cX1_init 8 = .ok (.newarray .byte, 2) := dk_188_8 (dk_at dksX1_init_0 8 rfl rfl)
theorem dX1_init_10 : decode cX1_init 10 = .ok (.putfield 29, 3) := dk_181 0 29 (dk_at dksX1_init_0 10 rfl rfl)
theorem dX1_init_13 : decode cX1_init 13 = .ok (.aload_n 0, 1) := dk_42 (dk_at dksX1_init_0 13 rfl rfl)
theorem dX1_init_14 : decode cX1_init 14 = .ok (.iconst (-1), 1) := dk_2 (dk_at dksX1_init_0 14 rfl rfl)
theorem dX1_init_15 : decode cX1_init 15 = .ok (.putfield 33, 3) := dk_181 0 33 (dk_at dksX1_init_0 15 rfl rfl)
theorem dX1_init_18 : decode cX1_init 18 = .ok (.aload_n 0, 1) := dk_42 (dk_at dksX1_init_0 18 rfl rfl)
theorem dX1_init_19 : decode cX1_init 19 = .ok (.new 37, 3) := dk_187 0 37 (dk_at dksX1_init_0 19 rfl rfl)
theorem dX1_init_22 : decode cX1_init 22 = .ok (.dup, 1) := dk_89 (dk_at dksX1_init_0 22 rfl rfl)
theorem dX1_init_23 : decode cX1_init 23 = .ok (.bipush 16, 2) := dk_16 16 (dk_at dksX1_init_1 0 rfl rfl)
theorem dX1_init_25 : decode cX1_init 25 = .ok (.invokespecial 39, 3) := dk_183 0 39 (dk_at dksX1_init_1 2 rfl rfl)
theorem dX1_init_28 : decode cX1_init 28 = .ok (.putfield 42, 3) := dk_181 0 42 (dk_at dksX1_init_1 5 rfl rfl)
theorem dX1_init_31 : decode cX1_init 31 = .ok (.aload_n 0, 1) := dk_42 (dk_at dksX1_init_1 8 rfl rfl)
theorem dX1_init_32 : decode cX1_init 32 = .ok (.iconst 2, 1) := dk_5 (dk_at dksX1_init_1 9 rfl rfl)
theorem dX1_init_33 : decode cX1_init 33 = .ok (.anewarray 46, 3) := dk_189 0 46 (dk_at dksX1_init_1 10 rfl rfl)
theorem dX1_init_36 : decode cX1_init 36 = .ok (.putfield 48, 3) := dk_181 0 48 (dk_at dksX1_init_1 13 rfl rfl)
theorem dX1_init_39 : decode cX1_init 39 = .ok (.aload_n 0, 1) := dk_42 (dk_at dksX1_init_1 16 rfl rfl)
theorem dX1_init_40 : decode cX1_init 40 = .ok (.ldc 52, 2) := dk_18 52 (dk_at dksX1_init_1 17 rfl rfl)
theorem dX1_init_42 : decode cX1_init 42 = .ok (.putfield 54, 3) := dk_181 0 54 (dk_at dksX1_init_1 19 rfl rfl)
theorem dX1_init_45 : decode cX1_init 45 = .ok (.aload_n 0, 1) := dk_42 (dk_at dksX1_init_1 22 rfl rfl)
theorem dX1_init_46 : decode cX1_init 46 = .ok (.aload_n 0, 1) := dk_42 (dk_at dksX1_init_1 23 rfl rfl)
theorem dX1_init_47 : decode cX1_init 47 = .ok (.invokedynamic 58, 5) := by decide +kernel
theorem dX1_init_52 : decode cX1_init 52 = .ok (.putfield 62, 3) := dk_181 0 62 (dk_at dksX1_init_2 5 rfl rfl)
theorem dX1_init_55 : decode cX1_init 55 = .ok (.return_, 1) := dk_177 (dk_at dksX1_init_2 8 rfl rfl)
abbrev cX1_lambda_new_0 : ByteArray := prog_1_method_105_code
def yX1_lambda_new_0 : MethodName := ⟨RX1, "lambda$new$0", "(I)Z"⟩
def dkwX1_lambda_new_0_0 : List UInt8 := [42, 180, 0, 90, 27, 182, 0, 236, 180, 0, 245, 154, 0, 7, 4, 167, 0, 4, 3, 172]
abbrev dktX1_lambda_new_0_0 : List UInt8 := dkwX1_lambda_new_0_0 ++ []
theorem dksX1_lambda_new_0_0 : cX1_lambda_new_0.data.toList.drop 0 = dktX1_lambda_new_0_0 := by decide +kernel
theorem dX1_lambda_new_0_0 : decode cX1_lambda_new_0 0 = .ok (.aload_n 0, 1) := dk_42 (dk_at dksX1_lambda_new_0_0 0 rfl rfl)
theorem dX1_lambda_new_0_1 : decode cX1_lambda_new_0 1 = .ok (.getfield 90, 3) := dk_180 0 90 (dk_at dksX1_lambda_new_0_0 1 rfl rfl)
theorem dX1_lambda_new_0_4 : decode cX1_lambda_new_0 4 = .ok (.iload_n 1, 1) := dk_27 (dk_at dksX1_lambda_new_0_0 4 rfl rfl)
theorem dX1_lambda_new_0_5 : decode cX1_lambda_new_0 5 = .ok (.invokevirtual 236, 3) := dk_182 0 236 (dk_at dksX1_lambda_new_0_0 5 rfl rfl)
theorem dX1_lambda_new_0_8 : decode cX1_lambda_new_0 8 = .ok (.getfield 245, 3) := dk_180 0 245 (dk_at dksX1_lambda_new_0_0 8 rfl rfl)
theorem dX1_lambda_new_0_11 : decode cX1_lambda_new_0 11 = .ok (.ifCond .ne 7, 3) := dk_154 0 7 (dk_at dksX1_lambda_new_0_0 11 rfl rfl)
theorem dX1_lambda_new_0_14 : decode cX1_lambda_new_0 14 = .ok (.iconst 1, 1) := dk_4 (dk_at dksX1_lambda_new_0_0 14 rfl rfl)
theorem dX1_lambda_new_0_15 : decode cX1_lambda_new_0 15 = .ok (.goto 4, 3) := dk_167 0 4 (dk_at dksX1_lambda_new_0_0 15 rfl rfl)
theorem dX1_lambda_new_0_18 : decode cX1_lambda_new_0 18 = .ok (.iconst 0, 1) := dk_3 (dk_at dksX1_lambda_new_0_0 18 rfl rfl)
theorem dX1_lambda_new_0_19 : decode cX1_lambda_new_0 19 = .ok (.ireturn, 1) := dk_172 (dk_at dksX1_lambda_new_0_0 19 rfl rfl)
abbrev cX1_append : ByteArray := prog_1_method_9_code
def yX1_append : MethodName := ⟨RX1, "append", "(IIIII)I"⟩
def dkwX1_append_2 : List UInt8 := [172]
abbrev dktX1_append_2 : List UInt8 := dkwX1_append_2 ++ []
def dkwX1_append_1 : List UInt8 := [4, 28, 79, 89, 5, 29, 79, 89, 6, 21, 4, 79, 89, 7, 21, 5, 79, 182, 0, 69, 42, 180, 0, 66]
abbrev dktX1_append_1 : List UInt8 := dkwX1_append_1 ++ dktX1_append_2
def dkwX1_append_0 : List UInt8 := [42, 180, 0, 66, 16, 20, 96, 17, 2, 88, 164, 0, 5, 2, 172, 42, 8, 188, 10, 89, 3, 27, 79, 89]
abbrev dktX1_append_0 : List UInt8 := dkwX1_append_0 ++ dktX1_append_1
theorem dksX1_append_0 : cX1_append.data.toList.drop 0 = dktX1_append_0 := by decide +kernel
theorem dksX1_append_1 : cX1_append.data.toList.drop 24 = dktX1_append_1 := dk_seg dksX1_append_0 24 rfl rfl
theorem dksX1_append_2 : cX1_append.data.toList.drop 48 = dktX1_append_2 := dk_seg dksX1_append_1 24 rfl rfl
theorem dX1_append_0 : decode cX1_append 0 = .ok (.aload_n 0, 1) := dk_42 (dk_at dksX1_append_0 0 rfl rfl)
theorem dX1_append_1 : decode cX1_append 1 = .ok (.getfield 66, 3) := dk_180 0 66 (dk_at dksX1_append_0 1 rfl rfl)
theorem dX1_append_4 : decode cX1_append 4 = .ok (.bipush 20, 2) := dk_16 20 (dk_at dksX1_append_0 4 rfl rfl)
theorem dX1_append_6 : decode cX1_append 6 = .ok (.iadd, 1) := dk_96 (dk_at dksX1_append_0 6 rfl rfl)
theorem dX1_append_7 : decode cX1_append 7 = .ok (.sipush 600, 3) := dk_17 2 88 (dk_at dksX1_append_0 7 rfl rfl)
theorem dX1_append_10 : decode cX1_append 10 = .ok (.if_icmp .le 5, 3) := dk_164 0 5 (dk_at dksX1_append_0 10 rfl rfl)
theorem dX1_append_13 : decode cX1_append 13 = .ok (.iconst (-1), 1) := dk_2 (dk_at dksX1_append_0 13 rfl rfl)
theorem dX1_append_14 : decode cX1_append 14 = .ok (.ireturn, 1) := dk_172 (dk_at dksX1_append_0 14 rfl rfl)
theorem dX1_append_15 : decode cX1_append 15 = .ok (.aload_n 0, 1) := dk_42 (dk_at dksX1_append_0 15 rfl rfl)
theorem dX1_append_16 : decode cX1_append 16 = .ok (.iconst 5, 1) := dk_8 (dk_at dksX1_append_0 16 rfl rfl)
theorem dX1_append_17 : decode cX1_append 17 = .ok (.newarray .int, 2) := dk_188_10 (dk_at dksX1_append_0 17 rfl rfl)
theorem dX1_append_19 : decode cX1_append 19 = .ok (.dup, 1) := dk_89 (dk_at dksX1_append_0 19 rfl rfl)
theorem dX1_append_20 : decode cX1_append 20 = .ok (.iconst 0, 1) := dk_3 (dk_at dksX1_append_0 20 rfl rfl)
theorem dX1_append_21 : decode cX1_append 21 = .ok (.iload_n 1, 1) := dk_27 (dk_at dksX1_append_0 21 rfl rfl)
theorem dX1_append_22 : decode cX1_append 22 = .ok (.iastore, 1) := dk_79 (dk_at dksX1_append_0 22 rfl rfl)
theorem dX1_append_23 : decode cX1_append 23 = .ok (.dup, 1) := dk_89 (dk_at dksX1_append_0 23 rfl rfl)
theorem dX1_append_24 : decode cX1_append 24 = .ok (.iconst 1, 1) := dk_4 (dk_at dksX1_append_1 0 rfl rfl)
theorem dX1_append_25 : decode cX1_append 25 = .ok (.iload_n 2, 1) := dk_28 (dk_at dksX1_append_1 1 rfl rfl)
theorem dX1_append_26 : decode cX1_append 26 = .ok (.iastore, 1) := dk_79 (dk_at dksX1_append_1 2 rfl rfl)
theorem dX1_append_27 : decode cX1_append 27 = .ok (.dup, 1) := dk_89 (dk_at dksX1_append_1 3 rfl rfl)
theorem dX1_append_28 : decode cX1_append 28 = .ok (.iconst 2, 1) := dk_5 (dk_at dksX1_append_1 4 rfl rfl)
theorem dX1_append_29 : decode cX1_append 29 = .ok (.iload_n 3, 1) := dk_29 (dk_at dksX1_append_1 5 rfl rfl)
theorem dX1_append_30 : decode cX1_append 30 = .ok (.iastore, 1) := dk_79 (dk_at dksX1_append_1 6 rfl rfl)
theorem dX1_append_31 : decode cX1_append 31 = .ok (.dup, 1) := dk_89 (dk_at dksX1_append_1 7 rfl rfl)
theorem dX1_append_32 : decode cX1_append 32 = .ok (.iconst 3, 1) := dk_6 (dk_at dksX1_append_1 8 rfl rfl)
theorem dX1_append_33 : decode cX1_append 33 = .ok (.iload 4, 2) := dk_21 4 (dk_at dksX1_append_1 9 rfl rfl)
theorem dX1_append_35 : decode cX1_append 35 = .ok (.iastore, 1) := dk_79 (dk_at dksX1_append_1 11 rfl rfl)
theorem dX1_append_36 : decode cX1_append 36 = .ok (.dup, 1) := dk_89 (dk_at dksX1_append_1 12 rfl rfl)
theorem dX1_append_37 : decode cX1_append 37 = .ok (.iconst 4, 1) := dk_7 (dk_at dksX1_append_1 13 rfl rfl)
theorem dX1_append_38 : decode cX1_append 38 = .ok (.iload 5, 2) := dk_21 5 (dk_at dksX1_append_1 14 rfl rfl)
theorem dX1_append_40 : decode cX1_append 40 = .ok (.iastore, 1) := dk_79 (dk_at dksX1_append_1 16 rfl rfl)
theorem dX1_append_41 : decode cX1_append 41 = .ok (.invokevirtual 69, 3) := dk_182 0 69 (dk_at dksX1_append_1 17 rfl rfl)
theorem dX1_append_44 : decode cX1_append 44 = .ok (.aload_n 0, 1) := dk_42 (dk_at dksX1_append_1 20 rfl rfl)
theorem dX1_append_45 : decode cX1_append 45 = .ok (.getfield 66, 3) := dk_180 0 66 (dk_at dksX1_append_1 21 rfl rfl)
theorem dX1_append_48 : decode cX1_append 48 = .ok (.ireturn, 1) := dk_172 (dk_at dksX1_append_2 0 rfl rfl)
abbrev cX1_puts : ByteArray := prog_1_method_10_code
def yX1_puts : MethodName := ⟨RX1, "puts", "([I)V"⟩
def dkwX1_puts_2 : List UInt8 := [122, 145, 84, 132, 6, 248, 167, 255, 226, 132, 4, 1, 167, 255, 204, 177]
abbrev dktX1_puts_2 : List UInt8 := dkwX1_puts_2 ++ []
def dkwX1_puts_1 : List UInt8 := [21, 6, 155, 0, 31, 42, 180, 0, 29, 42, 89, 180, 0, 66, 90, 4, 96, 181, 0, 66, 21, 5, 21, 6]
abbrev dktX1_puts_1 : List UInt8 := dkwX1_puts_1 ++ dktX1_puts_2
def dkwX1_puts_0 : List UInt8 := [43, 77, 44, 190, 62, 3, 54, 4, 21, 4, 29, 162, 0, 52, 44, 21, 4, 46, 54, 5, 16, 24, 54, 6]
abbrev dktX1_puts_0 : List UInt8 := dkwX1_puts_0 ++ dktX1_puts_1
theorem dksX1_puts_0 : cX1_puts.data.toList.drop 0 = dktX1_puts_0 := by decide +kernel
theorem dksX1_puts_1 : cX1_puts.data.toList.drop 24 = dktX1_puts_1 := dk_seg dksX1_puts_0 24 rfl rfl
theorem dksX1_puts_2 : cX1_puts.data.toList.drop 48 = dktX1_puts_2 := dk_seg dksX1_puts_1 24 rfl rfl
theorem dX1_puts_0 : decode cX1_puts 0 = .ok (.aload_n 1, 1) := dk_43 (dk_at dksX1_puts_0 0 rfl rfl)
theorem dX1_puts_1 : decode cX1_puts 1 = .ok (.astore_n 2, 1) := dk_77 (dk_at dksX1_puts_0 1 rfl rfl)
theorem dX1_puts_2 : decode cX1_puts 2 = .ok (.aload_n 2, 1) := dk_44 (dk_at dksX1_puts_0 2 rfl rfl)
theorem dX1_puts_3 : decode cX1_puts 3 = .ok (.arraylength, 1) := dk_190 (dk_at dksX1_puts_0 3 rfl rfl)
theorem dX1_puts_4 : decode cX1_puts 4 = .ok (.istore_n 3, 1) := dk_62 (dk_at dksX1_puts_0 4 rfl rfl)
theorem dX1_puts_5 : decode cX1_puts 5 = .ok (.iconst 0, 1) := dk_3 (dk_at dksX1_puts_0 5 rfl rfl)
theorem dX1_puts_6 : decode cX1_puts 6 = .ok (.istore 4, 2) := dk_54 4 (dk_at dksX1_puts_0 6 rfl rfl)
theorem dX1_puts_8 : decode cX1_puts 8 = .ok (.iload 4, 2) := dk_21 4 (dk_at dksX1_puts_0 8 rfl rfl)
theorem dX1_puts_10 : decode cX1_puts 10 = .ok (.iload_n 3, 1) := dk_29 (dk_at dksX1_puts_0 10 rfl rfl)
theorem dX1_puts_11 : decode cX1_puts 11 = .ok (.if_icmp .ge 52, 3) := dk_162 0 52 (dk_at dksX1_puts_0 11 rfl rfl)
theorem dX1_puts_14 : decode cX1_puts 14 = .ok (.aload_n 2, 1) := dk_44 (dk_at dksX1_puts_0 14 rfl rfl)
theorem dX1_puts_15 : decode cX1_puts 15 = .ok (.iload 4, 2) := dk_21 4 (dk_at dksX1_puts_0 15 rfl rfl)
theorem dX1_puts_17 : decode cX1_puts 17 = .ok (.iaload, 1) := dk_46 (dk_at dksX1_puts_0 17 rfl rfl)
theorem dX1_puts_18 : decode cX1_puts 18 = .ok (.istore 5, 2) := dk_54 5 (dk_at dksX1_puts_0 18 rfl rfl)
theorem dX1_puts_20 : decode cX1_puts 20 = .ok (.bipush 24, 2) := dk_16 24 (dk_at dksX1_puts_0 20 rfl rfl)
theorem dX1_puts_22 : decode cX1_puts 22 = .ok (.istore 6, 2) := dk_54 6 (dk_at dksX1_puts_0 22 rfl rfl)
theorem dX1_puts_24 : decode cX1_puts 24 = .ok (.iload 6, 2) := dk_21 6 (dk_at dksX1_puts_1 0 rfl rfl)
theorem dX1_puts_26 : decode cX1_puts 26 = .ok (.ifCond .lt 31, 3) := dk_155 0 31 (dk_at dksX1_puts_1 2 rfl rfl)
theorem dX1_puts_29 : decode cX1_puts 29 = .ok (.aload_n 0, 1) := dk_42 (dk_at dksX1_puts_1 5 rfl rfl)
theorem dX1_puts_30 : decode cX1_puts 30 = .ok (.getfield 29, 3) := dk_180 0 29 (dk_at dksX1_puts_1 6 rfl rfl)
theorem dX1_puts_33 : decode cX1_puts 33 = .ok (.aload_n 0, 1) := dk_42 (dk_at dksX1_puts_1 9 rfl rfl)
theorem dX1_puts_34 : decode cX1_puts 34 = .ok (.dup, 1) := dk_89 (dk_at dksX1_puts_1 10 rfl rfl)
theorem dX1_puts_35 : decode cX1_puts 35 = .ok (.getfield 66, 3) := dk_180 0 66 (dk_at dksX1_puts_1 11 rfl rfl)
theorem dX1_puts_38 : decode cX1_puts 38 = .ok (.dup_x1, 1) := dk_90 (dk_at dksX1_puts_1 14 rfl rfl)
theorem dX1_puts_39 : decode cX1_puts 39 = .ok (.iconst 1, 1) := dk_4 (dk_at dksX1_puts_1 15 rfl rfl)
theorem dX1_puts_40 : decode cX1_puts 40 = .ok (.iadd, 1) := dk_96 (dk_at dksX1_puts_1 16 rfl rfl)
theorem dX1_puts_41 : decode cX1_puts 41 = .ok (.putfield 66, 3) := dk_181 0 66 (dk_at dksX1_puts_1 17 rfl rfl)
theorem dX1_puts_44 : decode cX1_puts 44 = .ok (.iload 5, 2) := dk_21 5 (dk_at dksX1_puts_1 20 rfl rfl)
theorem dX1_puts_46 : decode cX1_puts 46 = .ok (.iload 6, 2) := dk_21 6 (dk_at dksX1_puts_1 22 rfl rfl)
theorem dX1_puts_48 : decode cX1_puts 48 = .ok (.ishr, 1) := dk_122 (dk_at dksX1_puts_2 0 rfl rfl)
theorem dX1_puts_49 : decode cX1_puts 49 = .ok (.i2b, 1) := dk_145 (dk_at dksX1_puts_2 1 rfl rfl)
theorem dX1_puts_50 : decode cX1_puts 50 = .ok (.bastore, 1) := dk_84 (dk_at dksX1_puts_2 2 rfl rfl)
theorem dX1_puts_51 : decode cX1_puts 51 = .ok (.iinc 6 (-8), 3) := dk_132 6 248 (dk_at dksX1_puts_2 3 rfl rfl)
theorem dX1_puts_54 : decode cX1_puts 54 = .ok (.goto (-30), 3) := dk_167 255 226 (dk_at dksX1_puts_2 6 rfl rfl)
theorem dX1_puts_57 : decode cX1_puts 57 = .ok (.iinc 4 1, 3) := dk_132 4 1 (dk_at dksX1_puts_2 9 rfl rfl)
theorem dX1_puts_60 : decode cX1_puts 60 = .ok (.goto (-52), 3) := dk_167 255 204 (dk_at dksX1_puts_2 12 rfl rfl)
theorem dX1_puts_63 : decode cX1_puts 63 = .ok (.return_, 1) := dk_177 (dk_at dksX1_puts_2 15 rfl rfl)
abbrev cX1_parseError : ByteArray := prog_1_method_12_code
def yX1_parseError : MethodName := ⟨RX1, "parseError", "()I"⟩
theorem dX1_parseError_0 : decode cX1_parseError 0 = .ok (.aload_n 0, 1) := by decide +kernel
theorem dX1_parseError_1 : decode cX1_parseError 1 = .ok (.getfield 99, 3) := by decide +kernel
theorem dX1_parseError_4 : decode cX1_parseError 4 = .ok (.ireturn, 1) := by decide +kernel
abbrev cX1_errorPosition : ByteArray := prog_1_method_13_code
def yX1_errorPosition : MethodName := ⟨RX1, "errorPosition", "()I"⟩
theorem dX1_errorPosition_0 : decode cX1_errorPosition 0 = .ok (.aload_n 0, 1) := by decide +kernel
theorem dX1_errorPosition_1 : decode cX1_errorPosition 1 = .ok (.getfield 33, 3) := by decide +kernel
theorem dX1_errorPosition_4 : decode cX1_errorPosition 4 = .ok (.ireturn, 1) := by decide +kernel
abbrev cX1_buffered : ByteArray := prog_1_method_14_code
def yX1_buffered : MethodName := ⟨RX1, "buffered", "()I"⟩
theorem dX1_buffered_0 : decode cX1_buffered 0 = .ok (.aload_n 0, 1) := by decide +kernel
theorem dX1_buffered_1 : decode cX1_buffered 1 = .ok (.getfield 66, 3) := by decide +kernel
theorem dX1_buffered_4 : decode cX1_buffered 4 = .ok (.ireturn, 1) := by decide +kernel
abbrev cX1_undoable : ByteArray := prog_1_method_91_code
def yX1_undoable : MethodName := ⟨RX1, "undoable", "()I"⟩
def dkwX1_undoable_0 : List UInt8 := [42, 180, 0, 42, 185, 1, 156, 1, 0, 172]
abbrev dktX1_undoable_0 : List UInt8 := dkwX1_undoable_0 ++ []
theorem dksX1_undoable_0 : cX1_undoable.data.toList.drop 0 = dktX1_undoable_0 := by decide +kernel
theorem dX1_undoable_0 : decode cX1_undoable 0 = .ok (.aload_n 0, 1) := dk_42 (dk_at dksX1_undoable_0 0 rfl rfl)
theorem dX1_undoable_1 : decode cX1_undoable 1 = .ok (.getfield 42, 3) := dk_180 0 42 (dk_at dksX1_undoable_0 1 rfl rfl)
theorem dX1_undoable_4 : decode cX1_undoable 4 = .ok (.invokeinterface 412 1, 5) := by decide +kernel
theorem dX1_undoable_9 : decode cX1_undoable 9 = .ok (.ireturn, 1) := dk_172 (dk_at dksX1_undoable_0 9 rfl rfl)
abbrev cX1_load : ByteArray := prog_1_method_11_code
def yX1_load : MethodName := ⟨RX1, "load", "(I)I"⟩
def dkwX1_load_3 : List UInt8 := [1, 184, 0, 113, 42, 180, 0, 90, 180, 0, 119, 185, 0, 123, 1, 0, 172]
abbrev dktX1_load_3 : List UInt8 := dkwX1_load_3 ++ []
def dkwX1_load_2 : List UInt8 := [181, 0, 33, 187, 0, 105, 89, 183, 0, 107, 191, 42, 180, 0, 42, 185, 0, 108, 1, 0, 42, 180, 0, 48]
abbrev dktX1_load_2 : List UInt8 := dkwX1_load_2 ++ dktX1_load_3
def dkwX1_load_1 : List UInt8 := [182, 0, 86, 181, 0, 90, 167, 0, 28, 77, 42, 44, 180, 0, 96, 181, 0, 99, 42, 44, 180, 0, 102]
abbrev dktX1_load_1 : List UInt8 := dkwX1_load_1 ++ dktX1_load_2
def dkwX1_load_0 : List UInt8 := [27, 3, 42, 180, 0, 66, 184, 0, 73, 184, 0, 77, 42, 187, 0, 81, 89, 42, 27, 183, 0, 83]
abbrev dktX1_load_0 : List UInt8 := dkwX1_load_0 ++ dktX1_load_1
theorem dksX1_load_0 : cX1_load.data.toList.drop 0 = dktX1_load_0 := by decide +kernel
theorem dksX1_load_1 : cX1_load.data.toList.drop 22 = dktX1_load_1 := dk_seg dksX1_load_0 22 rfl rfl
theorem dksX1_load_2 : cX1_load.data.toList.drop 45 = dktX1_load_2 := dk_seg dksX1_load_1 23 rfl rfl
theorem dksX1_load_3 : cX1_load.data.toList.drop 69 = dktX1_load_3 := dk_seg dksX1_load_2 24 rfl rfl
theorem dX1_load_0 : decode cX1_load 0 = .ok (.iload_n 1, 1) := dk_27 (dk_at dksX1_load_0 0 rfl rfl)
theorem dX1_load_1 : decode cX1_load 1 = .ok (.iconst 0, 1) := dk_3 (dk_at dksX1_load_0 1 rfl rfl)
theorem dX1_load_2 : decode cX1_load 2 = .ok (.aload_n 0, 1) := dk_42 (dk_at dksX1_load_0 2 rfl rfl)
theorem dX1_load_3 : decode cX1_load 3 = .ok (.getfield 66, 3) := dk_180 0 66 (dk_at dksX1_load_0 3 rfl rfl)
theorem dX1_load_6 : decode cX1_load 6 = .ok (.invokestatic 73, 3) := dk_184 0 73 (dk_at dksX1_load_0 6 rfl rfl)
theorem dX1_load_9 : decode cX1_load 9 = .ok (.invokestatic 77, 3) := dk_184 0 77 (dk_at dksX1_load_0 9 rfl rfl)
theorem dX1_load_12 : decode cX1_load 12 = .ok (.aload_n 0, 1) := dk_42 (dk_at dksX1_load_0 12 rfl rfl)
theorem dX1_load_13 : decode cX1_load 13 = .ok (.new 81, 3) := dk_187 0 81 (dk_at dksX1_load_0 13 rfl rfl)
theorem dX1_load_16 : decode cX1_load 16 = .ok (.dup, 1) := dk_89 (dk_at dksX1_load_0 16 rfl rfl)
theorem dX1_load_17 : decode cX1_load 17 = .ok (.aload_n 0, 1) := dk_42 (dk_at dksX1_load_0 17 rfl rfl)
theorem dX1_load_18 : decode cX1_load 18 = .ok (.iload_n 1, 1) := dk_27 (dk_at dksX1_load_0 18 rfl rfl)
theorem dX1_load_19 : decode cX1_load 19 = .ok (.invokespecial 83, 3) := dk_183 0 83 (dk_at dksX1_load_0 19 rfl rfl)
theorem dX1_load_22 : decode cX1_load 22 = .ok (.invokevirtual 86, 3) := dk_182 0 86 (dk_at dksX1_load_1 0 rfl rfl)
theorem dX1_load_25 : decode cX1_load 25 = .ok (.putfield 90, 3) := dk_181 0 90 (dk_at dksX1_load_1 3 rfl rfl)
theorem dX1_load_28 : decode cX1_load 28 = .ok (.goto 28, 3) := dk_167 0 28 (dk_at dksX1_load_1 6 rfl rfl)
theorem dX1_load_31 : decode cX1_load 31 = .ok (.astore_n 2, 1) := dk_77 (dk_at dksX1_load_1 9 rfl rfl)
theorem dX1_load_32 : decode cX1_load 32 = .ok (.aload_n 0, 1) := dk_42 (dk_at dksX1_load_1 10 rfl rfl)
theorem dX1_load_33 : decode cX1_load 33 = .ok (.aload_n 2, 1) := dk_44 (dk_at dksX1_load_1 11 rfl rfl)
theorem dX1_load_34 : decode cX1_load 34 = .ok (.getfield 96, 3) := dk_180 0 96 (dk_at dksX1_load_1 12 rfl rfl)
theorem dX1_load_37 : decode cX1_load 37 = .ok (.putfield 99, 3) := dk_181 0 99 (dk_at dksX1_load_1 15 rfl rfl)
theorem dX1_load_40 : decode cX1_load 40 = .ok (.aload_n 0, 1) := dk_42 (dk_at dksX1_load_1 18 rfl rfl)
theorem dX1_load_41 : decode cX1_load 41 = .ok (.aload_n 2, 1) := dk_44 (dk_at dksX1_load_1 19 rfl rfl)
theorem dX1_load_42 : decode cX1_load 42 = .ok (.getfield 102, 3) := dk_180 0 102 (dk_at dksX1_load_1 20 rfl rfl)
theorem dX1_load_45 : decode cX1_load 45 = .ok (.putfield 33, 3) := dk_181 0 33 (dk_at dksX1_load_2 0 rfl rfl)
theorem dX1_load_48 : decode cX1_load 48 = .ok (.new 105, 3) := dk_187 0 105 (dk_at dksX1_load_2 3 rfl rfl)
theorem dX1_load_51 : decode cX1_load 51 = .ok (.dup, 1) := dk_89 (dk_at dksX1_load_2 6 rfl rfl)
theorem dX1_load_52 : decode cX1_load 52 = .ok (.invokespecial 107, 3) := dk_183 0 107 (dk_at dksX1_load_2 7 rfl rfl)
theorem dX1_load_55 : decode cX1_load 55 = .ok (.athrow, 1) := dk_191 (dk_at dksX1_load_2 10 rfl rfl)
theorem dX1_load_56 : decode cX1_load 56 = .ok (.aload_n 0, 1) := dk_42 (dk_at dksX1_load_2 11 rfl rfl)
theorem dX1_load_57 : decode cX1_load 57 = .ok (.getfield 42, 3) := dk_180 0 42 (dk_at dksX1_load_2 12 rfl rfl)
theorem dX1_load_60 : decode cX1_load 60 = .ok (.invokeinterface 108 1, 5) := by decide +kernel
theorem dX1_load_65 : decode cX1_load 65 = .ok (.aload_n 0, 1) := dk_42 (dk_at dksX1_load_2 20 rfl rfl)
theorem dX1_load_66 : decode cX1_load 66 = .ok (.getfield 48, 3) := dk_180 0 48 (dk_at dksX1_load_2 21 rfl rfl)
theorem dX1_load_69 : decode cX1_load 69 = .ok (.aconst_null, 1) := dk_1 (dk_at dksX1_load_3 0 rfl rfl)
theorem dX1_load_70 : decode cX1_load 70 = .ok (.invokestatic 113, 3) := dk_184 0 113 (dk_at dksX1_load_3 1 rfl rfl)
theorem dX1_load_73 : decode cX1_load 73 = .ok (.aload_n 0, 1) := dk_42 (dk_at dksX1_load_3 4 rfl rfl)
theorem dX1_load_74 : decode cX1_load 74 = .ok (.getfield 90, 3) := dk_180 0 90 (dk_at dksX1_load_3 5 rfl rfl)
theorem dX1_load_77 : decode cX1_load 77 = .ok (.getfield 119, 3) := dk_180 0 119 (dk_at dksX1_load_3 8 rfl rfl)
theorem dX1_load_80 : decode cX1_load 80 = .ok (.invokeinterface 123 1, 5) := by decide +kernel
theorem dX1_load_85 : decode cX1_load 85 = .ok (.ireturn, 1) := dk_172 (dk_at dksX1_load_3 16 rfl rfl)
abbrev cX1_in : ByteArray := prog_1_method_1_code
def yX1_in : MethodName := ⟨RX1, "in", "(III)Z"⟩
def dkwX1_in_0 : List UInt8 := [27, 26, 163, 0, 12, 26, 28, 163, 0, 7, 4, 167, 0, 4, 3, 172]
abbrev dktX1_in_0 : List UInt8 := dkwX1_in_0 ++ []
theorem dksX1_in_0 : cX1_in.data.toList.drop 0 = dktX1_in_0 := by decide +kernel
theorem dX1_in_0 : decode cX1_in 0 = .ok (.iload_n 1, 1) := dk_27 (dk_at dksX1_in_0 0 rfl rfl)
theorem dX1_in_1 : decode cX1_in 1 = .ok (.iload_n 0, 1) := dk_26 (dk_at dksX1_in_0 1 rfl rfl)
theorem dX1_in_2 : decode cX1_in 2 = .ok (.if_icmp .gt 12, 3) := dk_163 0 12 (dk_at dksX1_in_0 2 rfl rfl)
theorem dX1_in_5 : decode cX1_in 5 = .ok (.iload_n 0, 1) := dk_26 (dk_at dksX1_in_0 5 rfl rfl)
theorem dX1_in_6 : decode cX1_in 6 = .ok (.iload_n 2, 1) := dk_28 (dk_at dksX1_in_0 6 rfl rfl)
theorem dX1_in_7 : decode cX1_in 7 = .ok (.if_icmp .gt 7, 3) := dk_163 0 7 (dk_at dksX1_in_0 7 rfl rfl)
theorem dX1_in_10 : decode cX1_in 10 = .ok (.iconst 1, 1) := dk_4 (dk_at dksX1_in_0 10 rfl rfl)
theorem dX1_in_11 : decode cX1_in 11 = .ok (.goto 4, 3) := dk_167 0 4 (dk_at dksX1_in_0 11 rfl rfl)
theorem dX1_in_14 : decode cX1_in 14 = .ok (.iconst 0, 1) := dk_3 (dk_at dksX1_in_0 14 rfl rfl)
theorem dX1_in_15 : decode cX1_in 15 = .ok (.ireturn, 1) := dk_172 (dk_at dksX1_in_0 15 rfl rfl)
abbrev cX1_checkIndex : ByteArray := prog_1_method_15_code
def yX1_checkIndex : MethodName := ⟨RX1, "checkIndex", "(Z)V"⟩
def dkwX1_checkIndex_0 : List UInt8 := [26, 154, 0, 11, 187, 0, 129, 89, 183, 0, 131, 191, 177]
abbrev dktX1_checkIndex_0 : List UInt8 := dkwX1_checkIndex_0 ++ []
theorem dksX1_checkIndex_0 : cX1_checkIndex.data.toList.drop 0 = dktX1_checkIndex_0 := by decide +kernel
theorem dX1_checkIndex_0 : decode cX1_checkIndex 0 = .ok (.iload_n 0, 1) := dk_26 (dk_at dksX1_checkIndex_0 0 rfl rfl)
theorem dX1_checkIndex_1 : decode cX1_checkIndex 1 = .ok (.ifCond .ne 11, 3) := dk_154 0 11 (dk_at dksX1_checkIndex_0 1 rfl rfl)
theorem dX1_checkIndex_4 : decode cX1_checkIndex 4 = .ok (.new 129, 3) := dk_187 0 129 (dk_at dksX1_checkIndex_0 4 rfl rfl)
theorem dX1_checkIndex_7 : decode cX1_checkIndex 7 = .ok (.dup, 1) := dk_89 (dk_at dksX1_checkIndex_0 7 rfl rfl)
theorem dX1_checkIndex_8 : decode cX1_checkIndex 8 = .ok (.invokespecial 131, 3) := dk_183 0 131 (dk_at dksX1_checkIndex_0 8 rfl rfl)
theorem dX1_checkIndex_11 : decode cX1_checkIndex 11 = .ok (.athrow, 1) := dk_191 (dk_at dksX1_checkIndex_0 11 rfl rfl)
theorem dX1_checkIndex_12 : decode cX1_checkIndex 12 = .ok (.return_, 1) := dk_177 (dk_at dksX1_checkIndex_0 12 rfl rfl)
abbrev cX1_check : ByteArray := prog_1_method_5_code
def yX1_check : MethodName := ⟨RX1, "check", "(I)I"⟩
def dkwX1_check_1 : List UInt8 := [132, 2, 1, 167, 255, 235, 16, 10, 27, 16, 10, 112, 100, 16, 10, 112, 172]
abbrev dktX1_check_1 : List UInt8 := dkwX1_check_1 ++ []
def dkwX1_check_0 : List UInt8 := [3, 60, 3, 61, 28, 7, 162, 0, 22, 27, 28, 184, 0, 3, 26, 28, 184, 0, 7, 104, 96, 60]
abbrev dktX1_check_0 : List UInt8 := dkwX1_check_0 ++ dktX1_check_1
theorem dksX1_check_0 : cX1_check.data.toList.drop 0 = dktX1_check_0 := by decide +kernel
theorem dksX1_check_1 : cX1_check.data.toList.drop 22 = dktX1_check_1 := dk_seg dksX1_check_0 22 rfl rfl
theorem dX1_check_0 : decode cX1_check 0 = .ok (.iconst 0, 1) := dk_3 (dk_at dksX1_check_0 0 rfl rfl)
theorem dX1_check_1 : decode cX1_check 1 = .ok (.istore_n 1, 1) := dk_60 (dk_at dksX1_check_0 1 rfl rfl)
theorem dX1_check_2 : decode cX1_check 2 = .ok (.iconst 0, 1) := dk_3 (dk_at dksX1_check_0 2 rfl rfl)
theorem dX1_check_3 : decode cX1_check 3 = .ok (.istore_n 2, 1) := dk_61 (dk_at dksX1_check_0 3 rfl rfl)
theorem dX1_check_4 : decode cX1_check 4 = .ok (.iload_n 2, 1) := dk_28 (dk_at dksX1_check_0 4 rfl rfl)
theorem dX1_check_5 : decode cX1_check 5 = .ok (.iconst 4, 1) := dk_7 (dk_at dksX1_check_0 5 rfl rfl)
theorem dX1_check_6 : decode cX1_check 6 = .ok (.if_icmp .ge 22, 3) := dk_162 0 22 (dk_at dksX1_check_0 6 rfl rfl)
theorem dX1_check_9 : decode cX1_check 9 = .ok (.iload_n 1, 1) := dk_27 (dk_at dksX1_check_0 9 rfl rfl)
theorem dX1_check_10 : decode cX1_check 10 = .ok (.iload_n 2, 1) := dk_28 (dk_at dksX1_check_0 10 rfl rfl)
theorem dX1_check_11 : decode cX1_check 11 = .ok (.invokestatic 3, 3) := dk_184 0 3 (dk_at dksX1_check_0 11 rfl rfl)
theorem dX1_check_14 : decode cX1_check 14 = .ok (.iload_n 0, 1) := dk_26 (dk_at dksX1_check_0 14 rfl rfl)
theorem dX1_check_15 : decode cX1_check 15 = .ok (.iload_n 2, 1) := dk_28 (dk_at dksX1_check_0 15 rfl rfl)
theorem dX1_check_16 : decode cX1_check 16 = .ok (.invokestatic 7, 3) := dk_184 0 7 (dk_at dksX1_check_0 16 rfl rfl)
theorem dX1_check_19 : decode cX1_check 19 = .ok (.imul, 1) := dk_104 (dk_at dksX1_check_0 19 rfl rfl)
theorem dX1_check_20 : decode cX1_check 20 = .ok (.iadd, 1) := dk_96 (dk_at dksX1_check_0 20 rfl rfl)
theorem dX1_check_21 : decode cX1_check 21 = .ok (.istore_n 1, 1) := dk_60 (dk_at dksX1_check_0 21 rfl rfl)
theorem dX1_check_22 : decode cX1_check 22 = .ok (.iinc 2 1, 3) := dk_132 2 1 (dk_at dksX1_check_1 0 rfl rfl)
theorem dX1_check_25 : decode cX1_check 25 = .ok (.goto (-21), 3) := dk_167 255 235 (dk_at dksX1_check_1 3 rfl rfl)
theorem dX1_check_28 : decode cX1_check 28 = .ok (.bipush 10, 2) := dk_16 10 (dk_at dksX1_check_1 6 rfl rfl)
theorem dX1_check_30 : decode cX1_check 30 = .ok (.iload_n 1, 1) := dk_27 (dk_at dksX1_check_1 8 rfl rfl)
theorem dX1_check_31 : decode cX1_check 31 = .ok (.bipush 10, 2) := dk_16 10 (dk_at dksX1_check_1 9 rfl rfl)
theorem dX1_check_33 : decode cX1_check 33 = .ok (.irem, 1) := dk_112 (dk_at dksX1_check_1 11 rfl rfl)
theorem dX1_check_34 : decode cX1_check 34 = .ok (.isub, 1) := dk_100 (dk_at dksX1_check_1 12 rfl rfl)
theorem dX1_check_35 : decode cX1_check 35 = .ok (.bipush 10, 2) := dk_16 10 (dk_at dksX1_check_1 13 rfl rfl)
theorem dX1_check_37 : decode cX1_check 37 = .ok (.irem, 1) := dk_112 (dk_at dksX1_check_1 15 rfl rfl)
theorem dX1_check_38 : decode cX1_check 38 = .ok (.ireturn, 1) := dk_172 (dk_at dksX1_check_1 16 rfl rfl)
abbrev cX1_weight : ByteArray := prog_1_method_3_code
def yX1_weight : MethodName := ⟨RX1, "weight", "(I)I"⟩
def dkwX1_weight_0 : List UInt8 := [26, 153, 0, 8, 26, 5, 160, 0, 7, 6, 167, 0, 4, 4, 172]
abbrev dktX1_weight_0 : List UInt8 := dkwX1_weight_0 ++ []
theorem dksX1_weight_0 : cX1_weight.data.toList.drop 0 = dktX1_weight_0 := by decide +kernel
theorem dX1_weight_0 : decode cX1_weight 0 = .ok (.iload_n 0, 1) := dk_26 (dk_at dksX1_weight_0 0 rfl rfl)
theorem dX1_weight_1 : decode cX1_weight 1 = .ok (.ifCond .eq 8, 3) := dk_153 0 8 (dk_at dksX1_weight_0 1 rfl rfl)
theorem dX1_weight_4 : decode cX1_weight 4 = .ok (.iload_n 0, 1) := dk_26 (dk_at dksX1_weight_0 4 rfl rfl)
theorem dX1_weight_5 : decode cX1_weight 5 = .ok (.iconst 2, 1) := dk_5 (dk_at dksX1_weight_0 5 rfl rfl)
theorem dX1_weight_6 : decode cX1_weight 6 = .ok (.if_icmp .ne 7, 3) := dk_160 0 7 (dk_at dksX1_weight_0 6 rfl rfl)
theorem dX1_weight_9 : decode cX1_weight 9 = .ok (.iconst 3, 1) := dk_6 (dk_at dksX1_weight_0 9 rfl rfl)
theorem dX1_weight_10 : decode cX1_weight 10 = .ok (.goto 4, 3) := dk_167 0 4 (dk_at dksX1_weight_0 10 rfl rfl)
theorem dX1_weight_13 : decode cX1_weight 13 = .ok (.iconst 1, 1) := dk_4 (dk_at dksX1_weight_0 13 rfl rfl)
theorem dX1_weight_14 : decode cX1_weight 14 = .ok (.ireturn, 1) := dk_172 (dk_at dksX1_weight_0 14 rfl rfl)
abbrev cX1_digitOf : ByteArray := prog_1_method_4_code
def yX1_digitOf : MethodName := ⟨RX1, "digitOf", "(II)I"⟩
def dkwX1_digitOf_1 : List UInt8 := [172]
abbrev dktX1_digitOf_1 : List UInt8 := dkwX1_digitOf_1 ++ []
def dkwX1_digitOf_0 : List UInt8 := [26, 61, 6, 62, 29, 27, 164, 0, 14, 28, 16, 10, 108, 61, 132, 3, 255, 167, 255, 243, 28, 16, 10, 112]
abbrev dktX1_digitOf_0 : List UInt8 := dkwX1_digitOf_0 ++ dktX1_digitOf_1
theorem dksX1_digitOf_0 : cX1_digitOf.data.toList.drop 0 = dktX1_digitOf_0 := by decide +kernel
theorem dksX1_digitOf_1 : cX1_digitOf.data.toList.drop 24 = dktX1_digitOf_1 := dk_seg dksX1_digitOf_0 24 rfl rfl
theorem dX1_digitOf_0 : decode cX1_digitOf 0 = .ok (.iload_n 0, 1) := dk_26 (dk_at dksX1_digitOf_0 0 rfl rfl)
theorem dX1_digitOf_1 : decode cX1_digitOf 1 = .ok (.istore_n 2, 1) := dk_61 (dk_at dksX1_digitOf_0 1 rfl rfl)
theorem dX1_digitOf_2 : decode cX1_digitOf 2 = .ok (.iconst 3, 1) := dk_6 (dk_at dksX1_digitOf_0 2 rfl rfl)
theorem dX1_digitOf_3 : decode cX1_digitOf 3 = .ok (.istore_n 3, 1) := dk_62 (dk_at dksX1_digitOf_0 3 rfl rfl)
theorem dX1_digitOf_4 : decode cX1_digitOf 4 = .ok (.iload_n 3, 1) := dk_29 (dk_at dksX1_digitOf_0 4 rfl rfl)
theorem dX1_digitOf_5 : decode cX1_digitOf 5 = .ok (.iload_n 1, 1) := dk_27 (dk_at dksX1_digitOf_0 5 rfl rfl)
theorem dX1_digitOf_6 : decode cX1_digitOf 6 = .ok (.if_icmp .le 14, 3) := dk_164 0 14 (dk_at dksX1_digitOf_0 6 rfl rfl)
theorem dX1_digitOf_9 : decode cX1_digitOf 9 = .ok (.iload_n 2, 1) := dk_28 (dk_at dksX1_digitOf_0 9 rfl rfl)
theorem dX1_digitOf_10 : decode cX1_digitOf 10 = .ok (.bipush 10, 2) := dk_16 10 (dk_at dksX1_digitOf_0 10 rfl rfl)
theorem dX1_digitOf_12 : decode cX1_digitOf 12 = .ok (.idiv, 1) := dk_108 (dk_at dksX1_digitOf_0 12 rfl rfl)
theorem dX1_digitOf_13 : decode cX1_digitOf 13 = .ok (.istore_n 2, 1) := dk_61 (dk_at dksX1_digitOf_0 13 rfl rfl)
theorem dX1_digitOf_14 : decode cX1_digitOf 14 = .ok (.iinc 3 (-1), 3) := dk_132 3 255 (dk_at dksX1_digitOf_0 14 rfl rfl)
theorem dX1_digitOf_17 : decode cX1_digitOf 17 = .ok (.goto (-13), 3) := dk_167 255 243 (dk_at dksX1_digitOf_0 17 rfl rfl)
theorem dX1_digitOf_20 : decode cX1_digitOf 20 = .ok (.iload_n 2, 1) := dk_28 (dk_at dksX1_digitOf_0 20 rfl rfl)
theorem dX1_digitOf_21 : decode cX1_digitOf 21 = .ok (.bipush 10, 2) := dk_16 10 (dk_at dksX1_digitOf_0 21 rfl rfl)
theorem dX1_digitOf_23 : decode cX1_digitOf 23 = .ok (.irem, 1) := dk_112 (dk_at dksX1_digitOf_0 23 rfl rfl)
theorem dX1_digitOf_24 : decode cX1_digitOf 24 = .ok (.ireturn, 1) := dk_172 (dk_at dksX1_digitOf_1 0 rfl rfl)
abbrev cX1_one : ByteArray := prog_1_method_2_code
def yX1_one : MethodName := ⟨RX1, "one", "(Z)I"⟩
def dkwX1_one_0 : List UInt8 := [26, 153, 0, 7, 4, 167, 0, 4, 3, 172]
abbrev dktX1_one_0 : List UInt8 := dkwX1_one_0 ++ []
theorem dksX1_one_0 : cX1_one.data.toList.drop 0 = dktX1_one_0 := by decide +kernel
theorem dX1_one_0 : decode cX1_one 0 = .ok (.iload_n 0, 1) := dk_26 (dk_at dksX1_one_0 0 rfl rfl)
theorem dX1_one_1 : decode cX1_one 1 = .ok (.ifCond .eq 7, 3) := dk_153 0 7 (dk_at dksX1_one_0 1 rfl rfl)
theorem dX1_one_4 : decode cX1_one 4 = .ok (.iconst 1, 1) := dk_4 (dk_at dksX1_one_0 4 rfl rfl)
theorem dX1_one_5 : decode cX1_one 5 = .ok (.goto 4, 3) := dk_167 0 4 (dk_at dksX1_one_0 5 rfl rfl)
theorem dX1_one_8 : decode cX1_one 8 = .ok (.iconst 0, 1) := dk_3 (dk_at dksX1_one_0 8 rfl rfl)
theorem dX1_one_9 : decode cX1_one 9 = .ok (.ireturn, 1) := dk_172 (dk_at dksX1_one_0 9 rfl rfl)
abbrev cX1_cost : ByteArray := prog_1_method_7_code
def yX1_cost : MethodName := ⟨RX1, "cost", "(II)I"⟩
def dkwX1_cost_1 : List UInt8 := [5, 172]
abbrev dktX1_cost_1 : List UInt8 := dkwX1_cost_1 ++ []
def dkwX1_cost_0 : List UInt8 := [26, 27, 160, 0, 5, 3, 172, 26, 2, 159, 0, 11, 26, 27, 184, 0, 19, 153, 0, 7, 4, 167, 0, 4]
abbrev dktX1_cost_0 : List UInt8 := dkwX1_cost_0 ++ dktX1_cost_1
theorem dksX1_cost_0 : cX1_cost.data.toList.drop 0 = dktX1_cost_0 := by decide +kernel
theorem dksX1_cost_1 : cX1_cost.data.toList.drop 24 = dktX1_cost_1 := dk_seg dksX1_cost_0 24 rfl rfl
theorem dX1_cost_0 : decode cX1_cost 0 = .ok (.iload_n 0, 1) := dk_26 (dk_at dksX1_cost_0 0 rfl rfl)
theorem dX1_cost_1 : decode cX1_cost 1 = .ok (.iload_n 1, 1) := dk_27 (dk_at dksX1_cost_0 1 rfl rfl)
theorem dX1_cost_2 : decode cX1_cost 2 = .ok (.if_icmp .ne 5, 3) := dk_160 0 5 (dk_at dksX1_cost_0 2 rfl rfl)
theorem dX1_cost_5 : decode cX1_cost 5 = .ok (.iconst 0, 1) := dk_3 (dk_at dksX1_cost_0 5 rfl rfl)
theorem dX1_cost_6 : decode cX1_cost 6 = .ok (.ireturn, 1) := dk_172 (dk_at dksX1_cost_0 6 rfl rfl)
theorem dX1_cost_7 : decode cX1_cost 7 = .ok (.iload_n 0, 1) := dk_26 (dk_at dksX1_cost_0 7 rfl rfl)
theorem dX1_cost_8 : decode cX1_cost 8 = .ok (.iconst (-1), 1) := dk_2 (dk_at dksX1_cost_0 8 rfl rfl)
theorem dX1_cost_9 : decode cX1_cost 9 = .ok (.if_icmp .eq 11, 3) := dk_159 0 11 (dk_at dksX1_cost_0 9 rfl rfl)
theorem dX1_cost_12 : decode cX1_cost 12 = .ok (.iload_n 0, 1) := dk_26 (dk_at dksX1_cost_0 12 rfl rfl)
theorem dX1_cost_13 : decode cX1_cost 13 = .ok (.iload_n 1, 1) := dk_27 (dk_at dksX1_cost_0 13 rfl rfl)
theorem dX1_cost_14 : decode cX1_cost 14 = .ok (.invokestatic 19, 3) := dk_184 0 19 (dk_at dksX1_cost_0 14 rfl rfl)
theorem dX1_cost_17 : decode cX1_cost 17 = .ok (.ifCond .eq 7, 3) := dk_153 0 7 (dk_at dksX1_cost_0 17 rfl rfl)
theorem dX1_cost_20 : decode cX1_cost 20 = .ok (.iconst 1, 1) := dk_4 (dk_at dksX1_cost_0 20 rfl rfl)
theorem dX1_cost_21 : decode cX1_cost 21 = .ok (.goto 4, 3) := dk_167 0 4 (dk_at dksX1_cost_0 21 rfl rfl)
theorem dX1_cost_24 : decode cX1_cost 24 = .ok (.iconst 2, 1) := dk_5 (dk_at dksX1_cost_1 0 rfl rfl)
theorem dX1_cost_25 : decode cX1_cost 25 = .ok (.ireturn, 1) := dk_172 (dk_at dksX1_cost_1 1 rfl rfl)
abbrev cX1_areAlike : ByteArray := prog_1_method_6_code
def yX1_areAlike : MethodName := ⟨RX1, "areAlike", "(II)Z"⟩
def dkwX1_areAlike_2 : List UInt8 := [4, 167, 0, 4, 3, 172]
abbrev dktX1_areAlike_2 : List UInt8 := dkwX1_areAlike_2 ++ []
def dkwX1_areAlike_1 : List UInt8 := [171, 0, 0, 0, 0, 54, 0, 0, 0, 5, 0, 0, 0, 6, 0, 0, 0, 50, 0, 0, 0, 17, 0, 0, 0, 50, 0, 0, 0, 38, 0, 0, 0, 50, 0, 0, 0, 49, 0, 0, 0, 50, 0, 0, 0, 56, 0, 0, 0, 50]
abbrev dktX1_areAlike_1 : List UInt8 := dkwX1_areAlike_1 ++ dktX1_areAlike_2
def dkwX1_areAlike_0 : List UInt8 := [16, 10, 26, 27, 184, 0, 11, 104, 26, 27, 184, 0, 16, 96]
abbrev dktX1_areAlike_0 : List UInt8 := dkwX1_areAlike_0 ++ dktX1_areAlike_1
theorem dksX1_areAlike_0 : cX1_areAlike.data.toList.drop 0 = dktX1_areAlike_0 := by decide +kernel
theorem dksX1_areAlike_1 : cX1_areAlike.data.toList.drop 14 = dktX1_areAlike_1 := dk_seg dksX1_areAlike_0 14 rfl rfl
theorem dksX1_areAlike_2 : cX1_areAlike.data.toList.drop 64 = dktX1_areAlike_2 := dk_seg dksX1_areAlike_1 50 rfl rfl
theorem dX1_areAlike_0 : decode cX1_areAlike 0 = .ok (.bipush 10, 2) := dk_16 10 (dk_at dksX1_areAlike_0 0 rfl rfl)
theorem dX1_areAlike_2 : decode cX1_areAlike 2 = .ok (.iload_n 0, 1) := dk_26 (dk_at dksX1_areAlike_0 2 rfl rfl)
theorem dX1_areAlike_3 : decode cX1_areAlike 3 = .ok (.iload_n 1, 1) := dk_27 (dk_at dksX1_areAlike_0 3 rfl rfl)
theorem dX1_areAlike_4 : decode cX1_areAlike 4 = .ok (.invokestatic 11, 3) := dk_184 0 11 (dk_at dksX1_areAlike_0 4 rfl rfl)
theorem dX1_areAlike_7 : decode cX1_areAlike 7 = .ok (.imul, 1) := dk_104 (dk_at dksX1_areAlike_0 7 rfl rfl)
theorem dX1_areAlike_8 : decode cX1_areAlike 8 = .ok (.iload_n 0, 1) := dk_26 (dk_at dksX1_areAlike_0 8 rfl rfl)
theorem dX1_areAlike_9 : decode cX1_areAlike 9 = .ok (.iload_n 1, 1) := dk_27 (dk_at dksX1_areAlike_0 9 rfl rfl)
theorem dX1_areAlike_10 : decode cX1_areAlike 10 = .ok (.invokestatic 16, 3) := dk_184 0 16 (dk_at dksX1_areAlike_0 10 rfl rfl)
theorem dX1_areAlike_13 : decode cX1_areAlike 13 = .ok (.iadd, 1) := dk_96 (dk_at dksX1_areAlike_0 13 rfl rfl)
theorem dX1_areAlike_14 : decode cX1_areAlike 14 = .ok (.lookupswitch 54 #[(6, 50), (17, 50), (38, 50), (49, 50), (56, 50)], 50) := by decide +kernel
theorem dX1_areAlike_64 : decode cX1_areAlike 64 = .ok (.iconst 1, 1) := dk_4 (dk_at dksX1_areAlike_2 0 rfl rfl)
theorem dX1_areAlike_65 : decode cX1_areAlike 65 = .ok (.goto 4, 3) := dk_167 0 4 (dk_at dksX1_areAlike_2 1 rfl rfl)
theorem dX1_areAlike_68 : decode cX1_areAlike 68 = .ok (.iconst 0, 1) := dk_3 (dk_at dksX1_areAlike_2 4 rfl rfl)
theorem dX1_areAlike_69 : decode cX1_areAlike 69 = .ok (.ireturn, 1) := dk_172 (dk_at dksX1_areAlike_2 5 rfl rfl)
abbrev cX1_count : ByteArray := prog_1_method_28_code
def yX1_count : MethodName := ⟨RX1, "count", "(I)I"⟩
def dkwX1_count_6 : List UInt8 := [44, 180, 0, 189, 167, 0, 11, 187, 0, 105, 89, 183, 0, 107, 191, 172]
abbrev dktX1_count_6 : List UInt8 := dkwX1_count_6 ++ []
def dkwX1_count_5 : List UInt8 := [167, 0, 39, 44, 182, 0, 180, 167, 0, 32, 42, 182, 0, 183, 167, 0, 25, 42, 182, 0, 186, 167, 0, 18]
abbrev dktX1_count_5 : List UInt8 := dkwX1_count_5 ++ dktX1_count_6
def dkwX1_count_4 : List UInt8 := [42, 5, 189, 0, 152, 89, 3, 42, 180, 0, 62, 83, 89, 4, 44, 186, 0, 173, 0, 0, 83, 182, 0, 176]
abbrev dktX1_count_4 : List UInt8 := dkwX1_count_4 ++ dktX1_count_5
def dkwX1_count_3 : List UInt8 := [44, 180, 0, 164, 167, 0, 83, 44, 180, 0, 167, 167, 0, 76, 44, 27, 7, 100, 182, 0, 170, 167, 0, 66]
abbrev dktX1_count_3 : List UInt8 := dkwX1_count_3 ++ dktX1_count_4
def dkwX1_count_2 : List UInt8 := [44, 180, 0, 136, 185, 0, 123, 1, 0, 167, 0, 102, 44, 180, 0, 119, 185, 0, 123, 1, 0, 167, 0, 90]
abbrev dktX1_count_2 : List UInt8 := dkwX1_count_2 ++ dktX1_count_3
def dkwX1_count_1 : List UInt8 := [170, 0, 0, 0, 0, 165, 0, 0, 0, 0, 0, 0, 0, 11, 0, 0, 0, 62, 0, 0, 0, 74, 0, 0, 0, 86, 0, 0, 0, 93, 0, 0, 0, 100, 0, 0, 0, 100, 0, 0, 0, 100, 0, 0, 0, 110, 0, 0, 0, 137, 0, 0, 0, 144, 0, 0, 0, 151, 0, 0, 0, 158]
abbrev dktX1_count_1 : List UInt8 := dkwX1_count_1 ++ dktX1_count_2
def dkwX1_count_0 : List UInt8 := [42, 182, 0, 135, 77, 27]
abbrev dktX1_count_0 : List UInt8 := dkwX1_count_0 ++ dktX1_count_1
theorem dksX1_count_0 : cX1_count.data.toList.drop 0 = dktX1_count_0 := by decide +kernel
theorem dksX1_count_1 : cX1_count.data.toList.drop 6 = dktX1_count_1 := dk_seg dksX1_count_0 6 rfl rfl
theorem dksX1_count_2 : cX1_count.data.toList.drop 68 = dktX1_count_2 := dk_seg dksX1_count_1 62 rfl rfl
theorem dksX1_count_3 : cX1_count.data.toList.drop 92 = dktX1_count_3 := dk_seg dksX1_count_2 24 rfl rfl
theorem dksX1_count_4 : cX1_count.data.toList.drop 116 = dktX1_count_4 := dk_seg dksX1_count_3 24 rfl rfl
theorem dksX1_count_5 : cX1_count.data.toList.drop 140 = dktX1_count_5 := dk_seg dksX1_count_4 24 rfl rfl
theorem dksX1_count_6 : cX1_count.data.toList.drop 164 = dktX1_count_6 := dk_seg dksX1_count_5 24 rfl rfl
theorem dX1_count_0 : decode cX1_count 0 = .ok (.aload_n 0, 1) := dk_42 (dk_at dksX1_count_0 0 rfl rfl)
theorem dX1_count_1 : decode cX1_count 1 = .ok (.invokevirtual 135, 3) := dk_182 0 135 (dk_at dksX1_count_0 1 rfl rfl)
theorem dX1_count_4 : decode cX1_count 4 = .ok (.astore_n 2, 1) := dk_77 (dk_at dksX1_count_0 4 rfl rfl)
theorem dX1_count_5 : decode cX1_count 5 = .ok (.iload_n 1, 1) := dk_27 (dk_at dksX1_count_0 5 rfl rfl)
theorem dX1_count_6 : decode cX1_count 6 = .ok (.tableswitch 165 0 11 #[62, 74, 86, 93, 100, 100, 100, 110, 137, 144, 151, 158], 62) := by decide +kernel
theorem dX1_count_68 : decode cX1_count 68 = .ok (.aload_n 2, 1) := dk_44 (dk_at dksX1_count_2 0 rfl rfl)
theorem dX1_count_69 : decode cX1_count 69 = .ok (.getfield 136, 3) := dk_180 0 136 (dk_at dksX1_count_2 1 rfl rfl)
theorem dX1_count_72 : decode cX1_count 72 = .ok (.invokeinterface 123 1, 5) := by decide +kernel
theorem dX1_count_77 : decode cX1_count 77 = .ok (.goto 102, 3) := dk_167 0 102 (dk_at dksX1_count_2 9 rfl rfl)
theorem dX1_count_80 : decode cX1_count 80 = .ok (.aload_n 2, 1) := dk_44 (dk_at dksX1_count_2 12 rfl rfl)
theorem dX1_count_81 : decode cX1_count 81 = .ok (.getfield 119, 3) := dk_180 0 119 (dk_at dksX1_count_2 13 rfl rfl)
theorem dX1_count_84 : decode cX1_count 84 = .ok (.invokeinterface 123 1, 5) := by decide +kernel
theorem dX1_count_89 : decode cX1_count 89 = .ok (.goto 90, 3) := dk_167 0 90 (dk_at dksX1_count_2 21 rfl rfl)
theorem dX1_count_92 : decode cX1_count 92 = .ok (.aload_n 2, 1) := dk_44 (dk_at dksX1_count_3 0 rfl rfl)
theorem dX1_count_93 : decode cX1_count 93 = .ok (.getfield 164, 3) := dk_180 0 164 (dk_at dksX1_count_3 1 rfl rfl)
theorem dX1_count_96 : decode cX1_count 96 = .ok (.goto 83, 3) := dk_167 0 83 (dk_at dksX1_count_3 4 rfl rfl)
theorem dX1_count_99 : decode cX1_count 99 = .ok (.aload_n 2, 1) := dk_44 (dk_at dksX1_count_3 7 rfl rfl)
theorem dX1_count_100 : decode cX1_count 100 = .ok (.getfield 167, 3) := dk_180 0 167 (dk_at dksX1_count_3 8 rfl rfl)
theorem dX1_count_103 : decode cX1_count 103 = .ok (.goto 76, 3) := dk_167 0 76 (dk_at dksX1_count_3 11 rfl rfl)
theorem dX1_count_106 : decode cX1_count 106 = .ok (.aload_n 2, 1) := dk_44 (dk_at dksX1_count_3 14 rfl rfl)
theorem dX1_count_107 : decode cX1_count 107 = .ok (.iload_n 1, 1) := dk_27 (dk_at dksX1_count_3 15 rfl rfl)
theorem dX1_count_108 : decode cX1_count 108 = .ok (.iconst 4, 1) := dk_7 (dk_at dksX1_count_3 16 rfl rfl)
theorem dX1_count_109 : decode cX1_count 109 = .ok (.isub, 1) := dk_100 (dk_at dksX1_count_3 17 rfl rfl)
theorem dX1_count_110 : decode cX1_count 110 = .ok (.invokevirtual 170, 3) := dk_182 0 170 (dk_at dksX1_count_3 18 rfl rfl)
theorem dX1_count_113 : decode cX1_count 113 = .ok (.goto 66, 3) := dk_167 0 66 (dk_at dksX1_count_3 21 rfl rfl)
theorem dX1_count_116 : decode cX1_count 116 = .ok (.aload_n 0, 1) := dk_42 (dk_at dksX1_count_4 0 rfl rfl)
theorem dX1_count_117 : decode cX1_count 117 = .ok (.iconst 2, 1) := dk_5 (dk_at dksX1_count_4 1 rfl rfl)
theorem dX1_count_118 : decode cX1_count 118 = .ok (.anewarray 152, 3) := dk_189 0 152 (dk_at dksX1_count_4 2 rfl rfl)
theorem dX1_count_121 : decode cX1_count 121 = .ok (.dup, 1) := dk_89 (dk_at dksX1_count_4 5 rfl rfl)
theorem dX1_count_122 : decode cX1_count 122 = .ok (.iconst 0, 1) := dk_3 (dk_at dksX1_count_4 6 rfl rfl)
theorem dX1_count_123 : decode cX1_count 123 = .ok (.aload_n 0, 1) := dk_42 (dk_at dksX1_count_4 7 rfl rfl)
theorem dX1_count_124 : decode cX1_count 124 = .ok (.getfield 62, 3) := dk_180 0 62 (dk_at dksX1_count_4 8 rfl rfl)
theorem dX1_count_127 : decode cX1_count 127 = .ok (.aastore, 1) := dk_83 (dk_at dksX1_count_4 11 rfl rfl)
theorem dX1_count_128 : decode cX1_count 128 = .ok (.dup, 1) := dk_89 (dk_at dksX1_count_4 12 rfl rfl)
theorem dX1_count_129 : decode cX1_count 129 = .ok (.iconst 1, 1) := dk_4 (dk_at dksX1_count_4 13 rfl rfl)
theorem dX1_count_130 : decode cX1_count 130 = .ok (.aload_n 2, 1) := dk_44 (dk_at dksX1_count_4 14 rfl rfl)
theorem dX1_count_131 : decode cX1_count 131 = .ok (.invokedynamic 173, 5) := by decide +kernel
theorem dX1_count_136 : decode cX1_count 136 = .ok (.aastore, 1) := dk_83 (dk_at dksX1_count_4 20 rfl rfl)
theorem dX1_count_137 : decode cX1_count 137 = .ok (.invokevirtual 176, 3) := dk_182 0 176 (dk_at dksX1_count_4 21 rfl rfl)
theorem dX1_count_140 : decode cX1_count 140 = .ok (.goto 39, 3) := dk_167 0 39 (dk_at dksX1_count_5 0 rfl rfl)
theorem dX1_count_143 : decode cX1_count 143 = .ok (.aload_n 2, 1) := dk_44 (dk_at dksX1_count_5 3 rfl rfl)
theorem dX1_count_144 : decode cX1_count 144 = .ok (.invokevirtual 180, 3) := dk_182 0 180 (dk_at dksX1_count_5 4 rfl rfl)
theorem dX1_count_147 : decode cX1_count 147 = .ok (.goto 32, 3) := dk_167 0 32 (dk_at dksX1_count_5 7 rfl rfl)
theorem dX1_count_150 : decode cX1_count 150 = .ok (.aload_n 0, 1) := dk_42 (dk_at dksX1_count_5 10 rfl rfl)
theorem dX1_count_151 : decode cX1_count 151 = .ok (.invokevirtual 183, 3) := dk_182 0 183 (dk_at dksX1_count_5 11 rfl rfl)
theorem dX1_count_154 : decode cX1_count 154 = .ok (.goto 25, 3) := dk_167 0 25 (dk_at dksX1_count_5 14 rfl rfl)
theorem dX1_count_157 : decode cX1_count 157 = .ok (.aload_n 0, 1) := dk_42 (dk_at dksX1_count_5 17 rfl rfl)
theorem dX1_count_158 : decode cX1_count 158 = .ok (.invokevirtual 186, 3) := dk_182 0 186 (dk_at dksX1_count_5 18 rfl rfl)
theorem dX1_count_161 : decode cX1_count 161 = .ok (.goto 18, 3) := dk_167 0 18 (dk_at dksX1_count_5 21 rfl rfl)
theorem dX1_count_164 : decode cX1_count 164 = .ok (.aload_n 2, 1) := dk_44 (dk_at dksX1_count_6 0 rfl rfl)
theorem dX1_count_165 : decode cX1_count 165 = .ok (.getfield 189, 3) := dk_180 0 189 (dk_at dksX1_count_6 1 rfl rfl)
theorem dX1_count_168 : decode cX1_count 168 = .ok (.goto 11, 3) := dk_167 0 11 (dk_at dksX1_count_6 4 rfl rfl)
theorem dX1_count_171 : decode cX1_count 171 = .ok (.new 105, 3) := dk_187 0 105 (dk_at dksX1_count_6 7 rfl rfl)
theorem dX1_count_174 : decode cX1_count 174 = .ok (.dup, 1) := dk_89 (dk_at dksX1_count_6 10 rfl rfl)
theorem dX1_count_175 : decode cX1_count 175 = .ok (.invokespecial 107, 3) := dk_183 0 107 (dk_at dksX1_count_6 11 rfl rfl)
theorem dX1_count_178 : decode cX1_count 178 = .ok (.athrow, 1) := dk_191 (dk_at dksX1_count_6 14 rfl rfl)
theorem dX1_count_179 : decode cX1_count 179 = .ok (.ireturn, 1) := dk_172 (dk_at dksX1_count_6 15 rfl rfl)
abbrev cX1_office : ByteArray := prog_1_method_17_code
def yX1_office : MethodName := ⟨RX1, "office", "()LBadCodes$Office;"⟩
def dkwX1_office_0 : List UInt8 := [42, 180, 0, 90, 199, 0, 11, 187, 0, 132, 89, 183, 0, 134, 191, 42, 180, 0, 90, 176]
abbrev dktX1_office_0 : List UInt8 := dkwX1_office_0 ++ []
theorem dksX1_office_0 : cX1_office.data.toList.drop 0 = dktX1_office_0 := by decide +kernel
theorem dX1_office_0 : decode cX1_office 0 = .ok (.aload_n 0, 1) := dk_42 (dk_at dksX1_office_0 0 rfl rfl)
theorem dX1_office_1 : decode cX1_office 1 = .ok (.getfield 90, 3) := dk_180 0 90 (dk_at dksX1_office_0 1 rfl rfl)
theorem dX1_office_4 : decode cX1_office 4 = .ok (.ifnonnull 11, 3) := dk_199 0 11 (dk_at dksX1_office_0 4 rfl rfl)
theorem dX1_office_7 : decode cX1_office 7 = .ok (.new 132, 3) := dk_187 0 132 (dk_at dksX1_office_0 7 rfl rfl)
theorem dX1_office_10 : decode cX1_office 10 = .ok (.dup, 1) := dk_89 (dk_at dksX1_office_0 10 rfl rfl)
theorem dX1_office_11 : decode cX1_office 11 = .ok (.invokespecial 134, 3) := dk_183 0 134 (dk_at dksX1_office_0 11 rfl rfl)
theorem dX1_office_14 : decode cX1_office 14 = .ok (.athrow, 1) := dk_191 (dk_at dksX1_office_0 14 rfl rfl)
theorem dX1_office_15 : decode cX1_office 15 = .ok (.aload_n 0, 1) := dk_42 (dk_at dksX1_office_0 15 rfl rfl)
theorem dX1_office_16 : decode cX1_office 16 = .ok (.getfield 90, 3) := dk_180 0 90 (dk_at dksX1_office_0 16 rfl rfl)
theorem dX1_office_19 : decode cX1_office 19 = .ok (.areturn, 1) := dk_176 (dk_at dksX1_office_0 19 rfl rfl)
abbrev cX1_lambda_count_1 : ByteArray := prog_1_method_104_code
def yX1_lambda_count_1 : MethodName := ⟨RX1, "lambda$count$1", "(LBadCodes$Office;I)Z"⟩
def dkwX1_lambda_count_1_0 : List UInt8 := [42, 27, 182, 1, 22, 2, 159, 0, 7, 4, 167, 0, 4, 3, 172]
abbrev dktX1_lambda_count_1_0 : List UInt8 := dkwX1_lambda_count_1_0 ++ []
theorem dksX1_lambda_count_1_0 : cX1_lambda_count_1.data.toList.drop 0 = dktX1_lambda_count_1_0 := by decide +kernel
theorem dX1_lambda_count_1_0 : decode cX1_lambda_count_1 0 = .ok (.aload_n 0, 1) := dk_42 (dk_at dksX1_lambda_count_1_0 0 rfl rfl)
theorem dX1_lambda_count_1_1 : decode cX1_lambda_count_1 1 = .ok (.iload_n 1, 1) := dk_27 (dk_at dksX1_lambda_count_1_0 1 rfl rfl)
theorem dX1_lambda_count_1_2 : decode cX1_lambda_count_1 2 = .ok (.invokevirtual 278, 3) := dk_182 1 22 (dk_at dksX1_lambda_count_1_0 2 rfl rfl)
theorem dX1_lambda_count_1_5 : decode cX1_lambda_count_1 5 = .ok (.iconst (-1), 1) := dk_2 (dk_at dksX1_lambda_count_1_0 5 rfl rfl)
theorem dX1_lambda_count_1_6 : decode cX1_lambda_count_1 6 = .ok (.if_icmp .eq 7, 3) := dk_159 0 7 (dk_at dksX1_lambda_count_1_0 6 rfl rfl)
theorem dX1_lambda_count_1_9 : decode cX1_lambda_count_1 9 = .ok (.iconst 1, 1) := dk_4 (dk_at dksX1_lambda_count_1_0 9 rfl rfl)
theorem dX1_lambda_count_1_10 : decode cX1_lambda_count_1 10 = .ok (.goto 4, 3) := dk_167 0 4 (dk_at dksX1_lambda_count_1_0 10 rfl rfl)
theorem dX1_lambda_count_1_13 : decode cX1_lambda_count_1 13 = .ok (.iconst 0, 1) := dk_3 (dk_at dksX1_lambda_count_1_0 13 rfl rfl)
theorem dX1_lambda_count_1_14 : decode cX1_lambda_count_1 14 = .ok (.ireturn, 1) := dk_172 (dk_at dksX1_lambda_count_1_0 14 rfl rfl)
abbrev cX1_many : ByteArray := prog_1_method_24_code
def yX1_many : MethodName := ⟨RX1, "many", "([LBadCodes$Test;)I"⟩
def dkwX1_many_1 : List UInt8 := [184, 0, 143, 184, 0, 147, 96, 61, 132, 3, 1, 167, 255, 226, 28, 172]
abbrev dktX1_many_1 : List UInt8 := dkwX1_many_1 ++ []
def dkwX1_many_0 : List UInt8 := [3, 61, 3, 62, 29, 42, 180, 0, 90, 180, 0, 119, 185, 0, 123, 1, 0, 162, 0, 20, 28, 29, 43]
abbrev dktX1_many_0 : List UInt8 := dkwX1_many_0 ++ dktX1_many_1
theorem dksX1_many_0 : cX1_many.data.toList.drop 0 = dktX1_many_0 := by decide +kernel
theorem dksX1_many_1 : cX1_many.data.toList.drop 23 = dktX1_many_1 := dk_seg dksX1_many_0 23 rfl rfl
theorem dX1_many_0 : decode cX1_many 0 = .ok (.iconst 0, 1) := dk_3 (dk_at dksX1_many_0 0 rfl rfl)
theorem dX1_many_1 : decode cX1_many 1 = .ok (.istore_n 2, 1) := dk_61 (dk_at dksX1_many_0 1 rfl rfl)
theorem dX1_many_2 : decode cX1_many 2 = .ok (.iconst 0, 1) := dk_3 (dk_at dksX1_many_0 2 rfl rfl)
theorem dX1_many_3 : decode cX1_many 3 = .ok (.istore_n 3, 1) := dk_62 (dk_at dksX1_many_0 3 rfl rfl)
theorem dX1_many_4 : decode cX1_many 4 = .ok (.iload_n 3, 1) := dk_29 (dk_at dksX1_many_0 4 rfl rfl)
theorem dX1_many_5 : decode cX1_many 5 = .ok (.aload_n 0, 1) := dk_42 (dk_at dksX1_many_0 5 rfl rfl)
theorem dX1_many_6 : decode cX1_many 6 = .ok (.getfield 90, 3) := dk_180 0 90 (dk_at dksX1_many_0 6 rfl rfl)
theorem dX1_many_9 : decode cX1_many 9 = .ok (.getfield 119, 3) := dk_180 0 119 (dk_at dksX1_many_0 9 rfl rfl)
theorem dX1_many_12 : decode cX1_many 12 = .ok (.invokeinterface 123 1, 5) := by decide +kernel
theorem dX1_many_17 : decode cX1_many 17 = .ok (.if_icmp .ge 20, 3) := dk_162 0 20 (dk_at dksX1_many_0 17 rfl rfl)
theorem dX1_many_20 : decode cX1_many 20 = .ok (.iload_n 2, 1) := dk_28 (dk_at dksX1_many_0 20 rfl rfl)
theorem dX1_many_21 : decode cX1_many 21 = .ok (.iload_n 3, 1) := dk_29 (dk_at dksX1_many_0 21 rfl rfl)
theorem dX1_many_22 : decode cX1_many 22 = .ok (.aload_n 1, 1) := dk_43 (dk_at dksX1_many_0 22 rfl rfl)
theorem dX1_many_23 : decode cX1_many 23 = .ok (.invokestatic 143, 3) := dk_184 0 143 (dk_at dksX1_many_1 0 rfl rfl)
theorem dX1_many_26 : decode cX1_many 26 = .ok (.invokestatic 147, 3) := dk_184 0 147 (dk_at dksX1_many_1 3 rfl rfl)
theorem dX1_many_29 : decode cX1_many 29 = .ok (.iadd, 1) := dk_96 (dk_at dksX1_many_1 6 rfl rfl)
theorem dX1_many_30 : decode cX1_many 30 = .ok (.istore_n 2, 1) := dk_61 (dk_at dksX1_many_1 7 rfl rfl)
theorem dX1_many_31 : decode cX1_many 31 = .ok (.iinc 3 1, 3) := dk_132 3 1 (dk_at dksX1_many_1 8 rfl rfl)
theorem dX1_many_34 : decode cX1_many 34 = .ok (.goto (-30), 3) := dk_167 255 226 (dk_at dksX1_many_1 11 rfl rfl)
theorem dX1_many_37 : decode cX1_many 37 = .ok (.iload_n 2, 1) := dk_28 (dk_at dksX1_many_1 14 rfl rfl)
theorem dX1_many_38 : decode cX1_many 38 = .ok (.ireturn, 1) := dk_172 (dk_at dksX1_many_1 15 rfl rfl)
abbrev cX1_areSo : ByteArray := prog_1_method_25_code
def yX1_areSo : MethodName := ⟨RX1, "areSo", "(I[LBadCodes$Test;)Z"⟩
def dkwX1_areSo_1 : List UInt8 := [185, 0, 151, 2, 0, 154, 0, 5, 3, 172, 132, 4, 1, 167, 255, 228, 4, 172]
abbrev dktX1_areSo_1 : List UInt8 := dkwX1_areSo_1 ++ []
def dkwX1_areSo_0 : List UInt8 := [43, 77, 44, 190, 62, 3, 54, 4, 21, 4, 29, 162, 0, 28, 44, 21, 4, 50, 58, 5, 25, 5, 26]
abbrev dktX1_areSo_0 : List UInt8 := dkwX1_areSo_0 ++ dktX1_areSo_1
theorem dksX1_areSo_0 : cX1_areSo.data.toList.drop 0 = dktX1_areSo_0 := by decide +kernel
theorem dksX1_areSo_1 : cX1_areSo.data.toList.drop 23 = dktX1_areSo_1 := dk_seg dksX1_areSo_0 23 rfl rfl
theorem dX1_areSo_0 : decode cX1_areSo 0 = .ok (.aload_n 1, 1) := dk_43 (dk_at dksX1_areSo_0 0 rfl rfl)
theorem dX1_areSo_1 : decode cX1_areSo 1 = .ok (.astore_n 2, 1) := dk_77 (dk_at dksX1_areSo_0 1 rfl rfl)
theorem dX1_areSo_2 : decode cX1_areSo 2 = .ok (.aload_n 2, 1) := dk_44 (dk_at dksX1_areSo_0 2 rfl rfl)
theorem dX1_areSo_3 : decode cX1_areSo 3 = .ok (.arraylength, 1) := dk_190 (dk_at dksX1_areSo_0 3 rfl rfl)
theorem dX1_areSo_4 : decode cX1_areSo 4 = .ok (.istore_n 3, 1) := dk_62 (dk_at dksX1_areSo_0 4 rfl rfl)
theorem dX1_areSo_5 : decode cX1_areSo 5 = .ok (.iconst 0, 1) := dk_3 (dk_at dksX1_areSo_0 5 rfl rfl)
theorem dX1_areSo_6 : decode cX1_areSo 6 = .ok (.istore 4, 2) := dk_54 4 (dk_at dksX1_areSo_0 6 rfl rfl)
theorem dX1_areSo_8 : decode cX1_areSo 8 = .ok (.iload 4, 2) := dk_21 4 (dk_at dksX1_areSo_0 8 rfl rfl)
theorem dX1_areSo_10 : decode cX1_areSo 10 = .ok (.iload_n 3, 1) := dk_29 (dk_at dksX1_areSo_0 10 rfl rfl)
theorem dX1_areSo_11 : decode cX1_areSo 11 = .ok (.if_icmp .ge 28, 3) := dk_162 0 28 (dk_at dksX1_areSo_0 11 rfl rfl)
theorem dX1_areSo_14 : decode cX1_areSo 14 = .ok (.aload_n 2, 1) := dk_44 (dk_at dksX1_areSo_0 14 rfl rfl)
theorem dX1_areSo_15 : decode cX1_areSo 15 = .ok (.iload 4, 2) := dk_21 4 (dk_at dksX1_areSo_0 15 rfl rfl)
theorem dX1_areSo_17 : decode cX1_areSo 17 = .ok (.aaload, 1) := dk_50 (dk_at dksX1_areSo_0 17 rfl rfl)
theorem dX1_areSo_18 : decode cX1_areSo 18 = .ok (.astore 5, 2) := dk_58 5 (dk_at dksX1_areSo_0 18 rfl rfl)
theorem dX1_areSo_20 : decode cX1_areSo 20 = .ok (.aload 5, 2) := dk_25 5 (dk_at dksX1_areSo_0 20 rfl rfl)
theorem dX1_areSo_22 : decode cX1_areSo 22 = .ok (.iload_n 0, 1) := dk_26 (dk_at dksX1_areSo_0 22 rfl rfl)
theorem dX1_areSo_23 : decode cX1_areSo 23 = .ok (.invokeinterface 151 2, 5) := by decide +kernel
theorem dX1_areSo_28 : decode cX1_areSo 28 = .ok (.ifCond .ne 5, 3) := dk_154 0 5 (dk_at dksX1_areSo_1 5 rfl rfl)
theorem dX1_areSo_31 : decode cX1_areSo 31 = .ok (.iconst 0, 1) := dk_3 (dk_at dksX1_areSo_1 8 rfl rfl)
theorem dX1_areSo_32 : decode cX1_areSo 32 = .ok (.ireturn, 1) := dk_172 (dk_at dksX1_areSo_1 9 rfl rfl)
theorem dX1_areSo_33 : decode cX1_areSo 33 = .ok (.iinc 4 1, 3) := dk_132 4 1 (dk_at dksX1_areSo_1 10 rfl rfl)
theorem dX1_areSo_36 : decode cX1_areSo 36 = .ok (.goto (-28), 3) := dk_167 255 228 (dk_at dksX1_areSo_1 13 rfl rfl)
theorem dX1_areSo_39 : decode cX1_areSo 39 = .ok (.iconst 1, 1) := dk_4 (dk_at dksX1_areSo_1 16 rfl rfl)
theorem dX1_areSo_40 : decode cX1_areSo 40 = .ok (.ireturn, 1) := dk_172 (dk_at dksX1_areSo_1 17 rfl rfl)
abbrev cX1_bagged : ByteArray := prog_1_method_26_code
def yX1_bagged : MethodName := ⟨RX1, "bagged", "()I"⟩
def dkwX1_bagged_1 : List UInt8 := [132, 2, 1, 167, 255, 235, 27, 172]
abbrev dktX1_bagged_1 : List UInt8 := dkwX1_bagged_1 ++ []
def dkwX1_bagged_0 : List UInt8 := [3, 60, 3, 61, 28, 16, 6, 162, 0, 21, 27, 42, 180, 0, 90, 180, 0, 156, 28, 46, 96, 60]
abbrev dktX1_bagged_0 : List UInt8 := dkwX1_bagged_0 ++ dktX1_bagged_1
theorem dksX1_bagged_0 : cX1_bagged.data.toList.drop 0 = dktX1_bagged_0 := by decide +kernel
theorem dksX1_bagged_1 : cX1_bagged.data.toList.drop 22 = dktX1_bagged_1 := dk_seg dksX1_bagged_0 22 rfl rfl
theorem dX1_bagged_0 : decode cX1_bagged 0 = .ok (.iconst 0, 1) := dk_3 (dk_at dksX1_bagged_0 0 rfl rfl)
theorem dX1_bagged_1 : decode cX1_bagged 1 = .ok (.istore_n 1, 1) := dk_60 (dk_at dksX1_bagged_0 1 rfl rfl)
theorem dX1_bagged_2 : decode cX1_bagged 2 = .ok (.iconst 0, 1) := dk_3 (dk_at dksX1_bagged_0 2 rfl rfl)
theorem dX1_bagged_3 : decode cX1_bagged 3 = .ok (.istore_n 2, 1) := dk_61 (dk_at dksX1_bagged_0 3 rfl rfl)
theorem dX1_bagged_4 : decode cX1_bagged 4 = .ok (.iload_n 2, 1) := dk_28 (dk_at dksX1_bagged_0 4 rfl rfl)
theorem dX1_bagged_5 : decode cX1_bagged 5 = .ok (.bipush 6, 2) := dk_16 6 (dk_at dksX1_bagged_0 5 rfl rfl)
theorem dX1_bagged_7 : decode cX1_bagged 7 = .ok (.if_icmp .ge 21, 3) := dk_162 0 21 (dk_at dksX1_bagged_0 7 rfl rfl)
theorem dX1_bagged_10 : decode cX1_bagged 10 = .ok (.iload_n 1, 1) := dk_27 (dk_at dksX1_bagged_0 10 rfl rfl)
theorem dX1_bagged_11 : decode cX1_bagged 11 = .ok (.aload_n 0, 1) := dk_42 (dk_at dksX1_bagged_0 11 rfl rfl)
theorem dX1_bagged_12 : decode cX1_bagged 12 = .ok (.getfield 90, 3) := dk_180 0 90 (dk_at dksX1_bagged_0 12 rfl rfl)
theorem dX1_bagged_15 : decode cX1_bagged 15 = .ok (.getfield 156, 3) := dk_180 0 156 (dk_at dksX1_bagged_0 15 rfl rfl)
theorem dX1_bagged_18 : decode cX1_bagged 18 = .ok (.iload_n 2, 1) := dk_28 (dk_at dksX1_bagged_0 18 rfl rfl)
theorem dX1_bagged_19 : decode cX1_bagged 19 = .ok (.iaload, 1) := dk_46 (dk_at dksX1_bagged_0 19 rfl rfl)
theorem dX1_bagged_20 : decode cX1_bagged 20 = .ok (.iadd, 1) := dk_96 (dk_at dksX1_bagged_0 20 rfl rfl)
theorem dX1_bagged_21 : decode cX1_bagged 21 = .ok (.istore_n 1, 1) := dk_60 (dk_at dksX1_bagged_0 21 rfl rfl)
theorem dX1_bagged_22 : decode cX1_bagged 22 = .ok (.iinc 2 1, 3) := dk_132 2 1 (dk_at dksX1_bagged_1 0 rfl rfl)
theorem dX1_bagged_25 : decode cX1_bagged 25 = .ok (.goto (-21), 3) := dk_167 255 235 (dk_at dksX1_bagged_1 3 rfl rfl)
theorem dX1_bagged_28 : decode cX1_bagged 28 = .ok (.iload_n 1, 1) := dk_27 (dk_at dksX1_bagged_1 6 rfl rfl)
theorem dX1_bagged_29 : decode cX1_bagged 29 = .ok (.ireturn, 1) := dk_172 (dk_at dksX1_bagged_1 7 rfl rfl)
abbrev cX1_openRoutes : ByteArray := prog_1_method_27_code
def yX1_openRoutes : MethodName := ⟨RX1, "openRoutes", "()I"⟩
def dkwX1_openRoutes_1 : List UInt8 := [167, 0, 4, 3, 184, 0, 147, 96, 60, 132, 2, 1, 167, 255, 224, 27, 172]
abbrev dktX1_openRoutes_1 : List UInt8 := dkwX1_openRoutes_1 ++ []
def dkwX1_openRoutes_0 : List UInt8 := [3, 60, 3, 61, 28, 16, 6, 162, 0, 32, 27, 42, 180, 0, 90, 180, 0, 160, 28, 51, 154, 0, 7, 4]
abbrev dktX1_openRoutes_0 : List UInt8 := dkwX1_openRoutes_0 ++ dktX1_openRoutes_1
theorem dksX1_openRoutes_0 : cX1_openRoutes.data.toList.drop 0 = dktX1_openRoutes_0 := by decide +kernel
theorem dksX1_openRoutes_1 : cX1_openRoutes.data.toList.drop 24 = dktX1_openRoutes_1 := dk_seg dksX1_openRoutes_0 24 rfl rfl
theorem dX1_openRoutes_0 : decode cX1_openRoutes 0 = .ok (.iconst 0, 1) := dk_3 (dk_at dksX1_openRoutes_0 0 rfl rfl)
theorem dX1_openRoutes_1 : decode cX1_openRoutes 1 = .ok (.istore_n 1, 1) := dk_60 (dk_at dksX1_openRoutes_0 1 rfl rfl)
theorem dX1_openRoutes_2 : decode cX1_openRoutes 2 = .ok (.iconst 0, 1) := dk_3 (dk_at dksX1_openRoutes_0 2 rfl rfl)
theorem dX1_openRoutes_3 : decode cX1_openRoutes 3 = .ok (.istore_n 2, 1) := dk_61 (dk_at dksX1_openRoutes_0 3 rfl rfl)
theorem dX1_openRoutes_4 : decode cX1_openRoutes 4 = .ok (.iload_n 2, 1) := dk_28 (dk_at dksX1_openRoutes_0 4 rfl rfl)
theorem dX1_openRoutes_5 : decode cX1_openRoutes 5 = .ok (.bipush 6, 2) := dk_16 6 (dk_at dksX1_openRoutes_0 5 rfl rfl)
theorem dX1_openRoutes_7 : decode cX1_openRoutes 7 = .ok (.if_icmp .ge 32, 3) := dk_162 0 32 (dk_at dksX1_openRoutes_0 7 rfl rfl)
theorem dX1_openRoutes_10 : decode cX1_openRoutes 10 = .ok (.iload_n 1, 1) := dk_27 (dk_at dksX1_openRoutes_0 10 rfl rfl)
theorem dX1_openRoutes_11 : decode cX1_openRoutes 11 = .ok (.aload_n 0, 1) := dk_42 (dk_at dksX1_openRoutes_0 11 rfl rfl)
theorem dX1_openRoutes_12 : decode cX1_openRoutes 12 = .ok (.getfield 90, 3) := dk_180 0 90 (dk_at dksX1_openRoutes_0 12 rfl rfl)
theorem dX1_openRoutes_15 : decode cX1_openRoutes 15 = .ok (.getfield 160, 3) := dk_180 0 160 (dk_at dksX1_openRoutes_0 15 rfl rfl)
theorem dX1_openRoutes_18 : decode cX1_openRoutes 18 = .ok (.iload_n 2, 1) := dk_28 (dk_at dksX1_openRoutes_0 18 rfl rfl)
theorem dX1_openRoutes_19 : decode cX1_openRoutes 19 = .ok (.baload, 1) := dk_51 (dk_at dksX1_openRoutes_0 19 rfl rfl)
theorem dX1_openRoutes_20 : decode cX1_openRoutes 20 = .ok (.ifCond .ne 7, 3) := dk_154 0 7 (dk_at dksX1_openRoutes_0 20 rfl rfl)
theorem dX1_openRoutes_23 : decode cX1_openRoutes 23 = .ok (.iconst 1, 1) := dk_4 (dk_at dksX1_openRoutes_0 23 rfl rfl)
theorem dX1_openRoutes_24 : decode cX1_openRoutes 24 = .ok (.goto 4, 3) := dk_167 0 4 (dk_at dksX1_openRoutes_1 0 rfl rfl)
theorem dX1_openRoutes_27 : decode cX1_openRoutes 27 = .ok (.iconst 0, 1) := dk_3 (dk_at dksX1_openRoutes_1 3 rfl rfl)
theorem dX1_openRoutes_28 : decode cX1_openRoutes 28 = .ok (.invokestatic 147, 3) := dk_184 0 147 (dk_at dksX1_openRoutes_1 4 rfl rfl)
theorem dX1_openRoutes_31 : decode cX1_openRoutes 31 = .ok (.iadd, 1) := dk_96 (dk_at dksX1_openRoutes_1 7 rfl rfl)
theorem dX1_openRoutes_32 : decode cX1_openRoutes 32 = .ok (.istore_n 1, 1) := dk_60 (dk_at dksX1_openRoutes_1 8 rfl rfl)
theorem dX1_openRoutes_33 : decode cX1_openRoutes 33 = .ok (.iinc 2 1, 3) := dk_132 2 1 (dk_at dksX1_openRoutes_1 9 rfl rfl)
theorem dX1_openRoutes_36 : decode cX1_openRoutes 36 = .ok (.goto (-32), 3) := dk_167 255 224 (dk_at dksX1_openRoutes_1 12 rfl rfl)
theorem dX1_openRoutes_39 : decode cX1_openRoutes 39 = .ok (.iload_n 1, 1) := dk_27 (dk_at dksX1_openRoutes_1 15 rfl rfl)
theorem dX1_openRoutes_40 : decode cX1_openRoutes 40 = .ok (.ireturn, 1) := dk_172 (dk_at dksX1_openRoutes_1 16 rfl rfl)
abbrev cX1_town : ByteArray := prog_1_method_29_code
def yX1_town : MethodName := ⟨RX1, "town", "(II)I"⟩
def dkwX1_town_6 : List UInt8 := [83, 182, 0, 176, 167, 0, 19, 25, 4, 182, 0, 215, 167, 0, 11, 187, 0, 105, 89, 183, 0, 107, 191, 172]
abbrev dktX1_town_6 : List UInt8 := dkwX1_town_6 ++ []
def dkwX1_town_5 : List UInt8 := [167, 0, 47, 42, 5, 189, 0, 152, 89, 3, 42, 180, 0, 62, 83, 89, 4, 45, 27, 186, 0, 214, 0, 0]
abbrev dktX1_town_5 : List UInt8 := dkwX1_town_5 ++ dktX1_town_6
def dkwX1_town_4 : List UInt8 := [189, 0, 152, 89, 3, 42, 180, 0, 62, 83, 89, 4, 45, 27, 186, 0, 213, 0, 0, 83, 182, 0, 176]
abbrev dktX1_town_4 : List UInt8 := dkwX1_town_4 ++ dktX1_town_5
def dkwX1_town_3 : List UInt8 := [42, 4, 189, 0, 152, 89, 3, 45, 27, 186, 0, 210, 0, 0, 83, 182, 0, 176, 167, 0, 75, 42, 5]
abbrev dktX1_town_3 : List UInt8 := dkwX1_town_3 ++ dktX1_town_4
def dkwX1_town_2 : List UInt8 := [25, 4, 182, 0, 199, 167, 0, 112, 25, 4, 182, 0, 204, 167, 0, 104, 25, 4, 182, 0, 207, 167, 0, 96]
abbrev dktX1_town_2 : List UInt8 := dkwX1_town_2 ++ dktX1_town_3
def dkwX1_town_1 : List UInt8 := [170, 0, 0, 0, 0, 151, 0, 0, 0, 0, 0, 0, 0, 6, 0, 0, 0, 42, 0, 0, 0, 50, 0, 0, 0, 58, 0, 0, 0, 66, 0, 0, 0, 87, 0, 0, 0, 115, 0, 0, 0, 143]
abbrev dktX1_town_1 : List UInt8 := dkwX1_town_1 ++ dktX1_town_2
def dkwX1_town_0 : List UInt8 := [42, 27, 182, 0, 192, 78, 45, 27, 182, 0, 195, 58, 4, 28]
abbrev dktX1_town_0 : List UInt8 := dkwX1_town_0 ++ dktX1_town_1
theorem dksX1_town_0 : cX1_town.data.toList.drop 0 = dktX1_town_0 := by decide +kernel
theorem dksX1_town_1 : cX1_town.data.toList.drop 14 = dktX1_town_1 := dk_seg dksX1_town_0 14 rfl rfl
theorem dksX1_town_2 : cX1_town.data.toList.drop 56 = dktX1_town_2 := dk_seg dksX1_town_1 42 rfl rfl
theorem dksX1_town_3 : cX1_town.data.toList.drop 80 = dktX1_town_3 := dk_seg dksX1_town_2 24 rfl rfl
theorem dksX1_town_4 : cX1_town.data.toList.drop 103 = dktX1_town_4 := dk_seg dksX1_town_3 23 rfl rfl
theorem dksX1_town_5 : cX1_town.data.toList.drop 126 = dktX1_town_5 := dk_seg dksX1_town_4 23 rfl rfl
theorem dksX1_town_6 : cX1_town.data.toList.drop 150 = dktX1_town_6 := dk_seg dksX1_town_5 24 rfl rfl
theorem dX1_town_0 : decode cX1_town 0 = .ok (.aload_n 0, 1) := dk_42 (dk_at dksX1_town_0 0 rfl rfl)
theorem dX1_town_1 : decode cX1_town 1 = .ok (.iload_n 1, 1) := dk_27 (dk_at dksX1_town_0 1 rfl rfl)
theorem dX1_town_2 : decode cX1_town 2 = .ok (.invokevirtual 192, 3) := dk_182 0 192 (dk_at dksX1_town_0 2 rfl rfl)
theorem dX1_town_5 : decode cX1_town 5 = .ok (.astore_n 3, 1) := dk_78 (dk_at dksX1_town_0 5 rfl rfl)
theorem dX1_town_6 : decode cX1_town 6 = .ok (.aload_n 3, 1) := dk_45 (dk_at dksX1_town_0 6 rfl rfl)
theorem dX1_town_7 : decode cX1_town 7 = .ok (.iload_n 1, 1) := dk_27 (dk_at dksX1_town_0 7 rfl rfl)
theorem dX1_town_8 : decode cX1_town 8 = .ok (.invokevirtual 195, 3) := dk_182 0 195 (dk_at dksX1_town_0 8 rfl rfl)
theorem dX1_town_11 : decode cX1_town 11 = .ok (.astore 4, 2) := dk_58 4 (dk_at dksX1_town_0 11 rfl rfl)
theorem dX1_town_13 : decode cX1_town 13 = .ok (.iload_n 2, 1) := dk_28 (dk_at dksX1_town_0 13 rfl rfl)
theorem dX1_town_14 : decode cX1_town 14 = .ok (.tableswitch 151 0 6 #[42, 50, 58, 66, 87, 115, 143], 42) := by decide +kernel
theorem dX1_town_56 : decode cX1_town 56 = .ok (.aload 4, 2) := dk_25 4 (dk_at dksX1_town_2 0 rfl rfl)
theorem dX1_town_58 : decode cX1_town 58 = .ok (.invokevirtual 199, 3) := dk_182 0 199 (dk_at dksX1_town_2 2 rfl rfl)
theorem dX1_town_61 : decode cX1_town 61 = .ok (.goto 112, 3) := dk_167 0 112 (dk_at dksX1_town_2 5 rfl rfl)
theorem dX1_town_64 : decode cX1_town 64 = .ok (.aload 4, 2) := dk_25 4 (dk_at dksX1_town_2 8 rfl rfl)
theorem dX1_town_66 : decode cX1_town 66 = .ok (.invokevirtual 204, 3) := dk_182 0 204 (dk_at dksX1_town_2 10 rfl rfl)
theorem dX1_town_69 : decode cX1_town 69 = .ok (.goto 104, 3) := dk_167 0 104 (dk_at dksX1_town_2 13 rfl rfl)
theorem dX1_town_72 : decode cX1_town 72 = .ok (.aload 4, 2) := dk_25 4 (dk_at dksX1_town_2 16 rfl rfl)
theorem dX1_town_74 : decode cX1_town 74 = .ok (.invokevirtual 207, 3) := dk_182 0 207 (dk_at dksX1_town_2 18 rfl rfl)
theorem dX1_town_77 : decode cX1_town 77 = .ok (.goto 96, 3) := dk_167 0 96 (dk_at dksX1_town_2 21 rfl rfl)
theorem dX1_town_80 : decode cX1_town 80 = .ok (.aload_n 0, 1) := dk_42 (dk_at dksX1_town_3 0 rfl rfl)
theorem dX1_town_81 : decode cX1_town 81 = .ok (.iconst 1, 1) := dk_4 (dk_at dksX1_town_3 1 rfl rfl)
theorem dX1_town_82 : decode cX1_town 82 = .ok (.anewarray 152, 3) := dk_189 0 152 (dk_at dksX1_town_3 2 rfl rfl)
theorem dX1_town_85 : decode cX1_town 85 = .ok (.dup, 1) := dk_89 (dk_at dksX1_town_3 5 rfl rfl)
theorem dX1_town_86 : decode cX1_town 86 = .ok (.iconst 0, 1) := dk_3 (dk_at dksX1_town_3 6 rfl rfl)
theorem dX1_town_87 : decode cX1_town 87 = .ok (.aload_n 3, 1) := dk_45 (dk_at dksX1_town_3 7 rfl rfl)
theorem dX1_town_88 : decode cX1_town 88 = .ok (.iload_n 1, 1) := dk_27 (dk_at dksX1_town_3 8 rfl rfl)
theorem dX1_town_89 : decode cX1_town 89 = .ok (.invokedynamic 210, 5) := by decide +kernel
theorem dX1_town_94 : decode cX1_town 94 = .ok (.aastore, 1) := dk_83 (dk_at dksX1_town_3 14 rfl rfl)
theorem dX1_town_95 : decode cX1_town 95 = .ok (.invokevirtual 176, 3) := dk_182 0 176 (dk_at dksX1_town_3 15 rfl rfl)
theorem dX1_town_98 : decode cX1_town 98 = .ok (.goto 75, 3) := dk_167 0 75 (dk_at dksX1_town_3 18 rfl rfl)
theorem dX1_town_101 : decode cX1_town 101 = .ok (.aload_n 0, 1) := dk_42 (dk_at dksX1_town_3 21 rfl rfl)
theorem dX1_town_102 : decode cX1_town 102 = .ok (.iconst 2, 1) := dk_5 (dk_at dksX1_town_3 22 rfl rfl)
theorem dX1_town_103 : decode cX1_town 103 = .ok (.anewarray 152, 3) := dk_189 0 152 (dk_at dksX1_town_4 0 rfl rfl)
theorem dX1_town_106 : decode cX1_town 106 = .ok (.dup, 1) := dk_89 (dk_at dksX1_town_4 3 rfl rfl)
theorem dX1_town_107 : decode cX1_town 107 = .ok (.iconst 0, 1) := dk_3 (dk_at dksX1_town_4 4 rfl rfl)
theorem dX1_town_108 : decode cX1_town 108 = .ok (.aload_n 0, 1) := dk_42 (dk_at dksX1_town_4 5 rfl rfl)
theorem dX1_town_109 : decode cX1_town 109 = .ok (.getfield 62, 3) := dk_180 0 62 (dk_at dksX1_town_4 6 rfl rfl)
theorem dX1_town_112 : decode cX1_town 112 = .ok (.aastore, 1) := dk_83 (dk_at dksX1_town_4 9 rfl rfl)
theorem dX1_town_113 : decode cX1_town 113 = .ok (.dup, 1) := dk_89 (dk_at dksX1_town_4 10 rfl rfl)
theorem dX1_town_114 : decode cX1_town 114 = .ok (.iconst 1, 1) := dk_4 (dk_at dksX1_town_4 11 rfl rfl)
theorem dX1_town_115 : decode cX1_town 115 = .ok (.aload_n 3, 1) := dk_45 (dk_at dksX1_town_4 12 rfl rfl)
theorem dX1_town_116 : decode cX1_town 116 = .ok (.iload_n 1, 1) := dk_27 (dk_at dksX1_town_4 13 rfl rfl)
theorem dX1_town_117 : decode cX1_town 117 = .ok (.invokedynamic 213, 5) := by decide +kernel
theorem dX1_town_122 : decode cX1_town 122 = .ok (.aastore, 1) := dk_83 (dk_at dksX1_town_4 19 rfl rfl)
theorem dX1_town_123 : decode cX1_town 123 = .ok (.invokevirtual 176, 3) := dk_182 0 176 (dk_at dksX1_town_4 20 rfl rfl)
theorem dX1_town_126 : decode cX1_town 126 = .ok (.goto 47, 3) := dk_167 0 47 (dk_at dksX1_town_5 0 rfl rfl)
theorem dX1_town_129 : decode cX1_town 129 = .ok (.aload_n 0, 1) := dk_42 (dk_at dksX1_town_5 3 rfl rfl)
theorem dX1_town_130 : decode cX1_town 130 = .ok (.iconst 2, 1) := dk_5 (dk_at dksX1_town_5 4 rfl rfl)
theorem dX1_town_131 : decode cX1_town 131 = .ok (.anewarray 152, 3) := dk_189 0 152 (dk_at dksX1_town_5 5 rfl rfl)
theorem dX1_town_134 : decode cX1_town 134 = .ok (.dup, 1) := dk_89 (dk_at dksX1_town_5 8 rfl rfl)
theorem dX1_town_135 : decode cX1_town 135 = .ok (.iconst 0, 1) := dk_3 (dk_at dksX1_town_5 9 rfl rfl)
theorem dX1_town_136 : decode cX1_town 136 = .ok (.aload_n 0, 1) := dk_42 (dk_at dksX1_town_5 10 rfl rfl)
theorem dX1_town_137 : decode cX1_town 137 = .ok (.getfield 62, 3) := dk_180 0 62 (dk_at dksX1_town_5 11 rfl rfl)
theorem dX1_town_140 : decode cX1_town 140 = .ok (.aastore, 1) := dk_83 (dk_at dksX1_town_5 14 rfl rfl)
theorem dX1_town_141 : decode cX1_town 141 = .ok (.dup, 1) := dk_89 (dk_at dksX1_town_5 15 rfl rfl)
theorem dX1_town_142 : decode cX1_town 142 = .ok (.iconst 1, 1) := dk_4 (dk_at dksX1_town_5 16 rfl rfl)
theorem dX1_town_143 : decode cX1_town 143 = .ok (.aload_n 3, 1) := dk_45 (dk_at dksX1_town_5 17 rfl rfl)
theorem dX1_town_144 : decode cX1_town 144 = .ok (.iload_n 1, 1) := dk_27 (dk_at dksX1_town_5 18 rfl rfl)
theorem dX1_town_145 : decode cX1_town 145 = .ok (.invokedynamic 214, 5) := by decide +kernel
theorem dX1_town_150 : decode cX1_town 150 = .ok (.aastore, 1) := dk_83 (dk_at dksX1_town_6 0 rfl rfl)
theorem dX1_town_151 : decode cX1_town 151 = .ok (.invokevirtual 176, 3) := dk_182 0 176 (dk_at dksX1_town_6 1 rfl rfl)
theorem dX1_town_154 : decode cX1_town 154 = .ok (.goto 19, 3) := dk_167 0 19 (dk_at dksX1_town_6 4 rfl rfl)
theorem dX1_town_157 : decode cX1_town 157 = .ok (.aload 4, 2) := dk_25 4 (dk_at dksX1_town_6 7 rfl rfl)
theorem dX1_town_159 : decode cX1_town 159 = .ok (.invokevirtual 215, 3) := dk_182 0 215 (dk_at dksX1_town_6 9 rfl rfl)
theorem dX1_town_162 : decode cX1_town 162 = .ok (.goto 11, 3) := dk_167 0 11 (dk_at dksX1_town_6 12 rfl rfl)
theorem dX1_town_165 : decode cX1_town 165 = .ok (.new 105, 3) := dk_187 0 105 (dk_at dksX1_town_6 15 rfl rfl)
theorem dX1_town_168 : decode cX1_town 168 = .ok (.dup, 1) := dk_89 (dk_at dksX1_town_6 18 rfl rfl)
theorem dX1_town_169 : decode cX1_town 169 = .ok (.invokespecial 107, 3) := dk_183 0 107 (dk_at dksX1_town_6 19 rfl rfl)
theorem dX1_town_172 : decode cX1_town 172 = .ok (.athrow, 1) := dk_191 (dk_at dksX1_town_6 22 rfl rfl)
theorem dX1_town_173 : decode cX1_town 173 = .ok (.ireturn, 1) := dk_172 (dk_at dksX1_town_6 23 rfl rfl)
abbrev cX1_withTown : ByteArray := prog_1_method_18_code
def yX1_withTown : MethodName := ⟨RX1, "withTown", "(I)LBadCodes$Office;"⟩
def dkwX1_withTown_1 : List UInt8 := [44, 176]
abbrev dktX1_withTown_1 : List UInt8 := dkwX1_withTown_1 ++ []
def dkwX1_withTown_0 : List UInt8 := [42, 182, 0, 135, 77, 27, 3, 44, 180, 0, 136, 185, 0, 123, 1, 0, 4, 100, 184, 0, 73, 184, 0, 77]
abbrev dktX1_withTown_0 : List UInt8 := dkwX1_withTown_0 ++ dktX1_withTown_1
theorem dksX1_withTown_0 : cX1_withTown.data.toList.drop 0 = dktX1_withTown_0 := by decide +kernel
theorem dksX1_withTown_1 : cX1_withTown.data.toList.drop 24 = dktX1_withTown_1 := dk_seg dksX1_withTown_0 24 rfl rfl
theorem dX1_withTown_0 : decode cX1_withTown 0 = .ok (.aload_n 0, 1) := dk_42 (dk_at dksX1_withTown_0 0 rfl rfl)
theorem dX1_withTown_1 : decode cX1_withTown 1 = .ok (.invokevirtual 135, 3) := dk_182 0 135 (dk_at dksX1_withTown_0 1 rfl rfl)
theorem dX1_withTown_4 : decode cX1_withTown 4 = .ok (.astore_n 2, 1) := dk_77 (dk_at dksX1_withTown_0 4 rfl rfl)
theorem dX1_withTown_5 : decode cX1_withTown 5 = .ok (.iload_n 1, 1) := dk_27 (dk_at dksX1_withTown_0 5 rfl rfl)
theorem dX1_withTown_6 : decode cX1_withTown 6 = .ok (.iconst 0, 1) := dk_3 (dk_at dksX1_withTown_0 6 rfl rfl)
theorem dX1_withTown_7 : decode cX1_withTown 7 = .ok (.aload_n 2, 1) := dk_44 (dk_at dksX1_withTown_0 7 rfl rfl)
theorem dX1_withTown_8 : decode cX1_withTown 8 = .ok (.getfield 136, 3) := dk_180 0 136 (dk_at dksX1_withTown_0 8 rfl rfl)
theorem dX1_withTown_11 : decode cX1_withTown 11 = .ok (.invokeinterface 123 1, 5) := by decide +kernel
theorem dX1_withTown_16 : decode cX1_withTown 16 = .ok (.iconst 1, 1) := dk_4 (dk_at dksX1_withTown_0 16 rfl rfl)
theorem dX1_withTown_17 : decode cX1_withTown 17 = .ok (.isub, 1) := dk_100 (dk_at dksX1_withTown_0 17 rfl rfl)
theorem dX1_withTown_18 : decode cX1_withTown 18 = .ok (.invokestatic 73, 3) := dk_184 0 73 (dk_at dksX1_withTown_0 18 rfl rfl)
theorem dX1_withTown_21 : decode cX1_withTown 21 = .ok (.invokestatic 77, 3) := dk_184 0 77 (dk_at dksX1_withTown_0 21 rfl rfl)
theorem dX1_withTown_24 : decode cX1_withTown 24 = .ok (.aload_n 2, 1) := dk_44 (dk_at dksX1_withTown_1 0 rfl rfl)
theorem dX1_withTown_25 : decode cX1_withTown 25 = .ok (.areturn, 1) := dk_176 (dk_at dksX1_withTown_1 1 rfl rfl)
abbrev cX1_lambda_town_2 : ByteArray := prog_1_method_103_code
def yX1_lambda_town_2 : MethodName := ⟨RX1, "lambda$town$2", "(LBadCodes$Office;II)Z"⟩
def dkwX1_lambda_town_2_0 : List UInt8 := [42, 28, 182, 0, 236, 180, 1, 1, 27, 160, 0, 7, 4, 167, 0, 4, 3, 172]
abbrev dktX1_lambda_town_2_0 : List UInt8 := dkwX1_lambda_town_2_0 ++ []
theorem dksX1_lambda_town_2_0 : cX1_lambda_town_2.data.toList.drop 0 = dktX1_lambda_town_2_0 := by decide +kernel
theorem dX1_lambda_town_2_0 : decode cX1_lambda_town_2 0 = .ok (.aload_n 0, 1) := dk_42 (dk_at dksX1_lambda_town_2_0 0 rfl rfl)
theorem dX1_lambda_town_2_1 : decode cX1_lambda_town_2 1 = .ok (.iload_n 2, 1) := dk_28 (dk_at dksX1_lambda_town_2_0 1 rfl rfl)
theorem dX1_lambda_town_2_2 : decode cX1_lambda_town_2 2 = .ok (.invokevirtual 236, 3) := dk_182 0 236 (dk_at dksX1_lambda_town_2_0 2 rfl rfl)
theorem dX1_lambda_town_2_5 : decode cX1_lambda_town_2 5 = .ok (.getfield 257, 3) := dk_180 1 1 (dk_at dksX1_lambda_town_2_0 5 rfl rfl)
theorem dX1_lambda_town_2_8 : decode cX1_lambda_town_2 8 = .ok (.iload_n 1, 1) := dk_27 (dk_at dksX1_lambda_town_2_0 8 rfl rfl)
theorem dX1_lambda_town_2_9 : decode cX1_lambda_town_2 9 = .ok (.if_icmp .ne 7, 3) := dk_160 0 7 (dk_at dksX1_lambda_town_2_0 9 rfl rfl)
theorem dX1_lambda_town_2_12 : decode cX1_lambda_town_2 12 = .ok (.iconst 1, 1) := dk_4 (dk_at dksX1_lambda_town_2_0 12 rfl rfl)
theorem dX1_lambda_town_2_13 : decode cX1_lambda_town_2 13 = .ok (.goto 4, 3) := dk_167 0 4 (dk_at dksX1_lambda_town_2_0 13 rfl rfl)
theorem dX1_lambda_town_2_16 : decode cX1_lambda_town_2 16 = .ok (.iconst 0, 1) := dk_3 (dk_at dksX1_lambda_town_2_0 16 rfl rfl)
theorem dX1_lambda_town_2_17 : decode cX1_lambda_town_2 17 = .ok (.ireturn, 1) := dk_172 (dk_at dksX1_lambda_town_2_0 17 rfl rfl)
abbrev cX1_lambda_town_3 : ByteArray := prog_1_method_102_code
def yX1_lambda_town_3 : MethodName := ⟨RX1, "lambda$town$3", "(LBadCodes$Office;II)Z"⟩
def dkwX1_lambda_town_3_0 : List UInt8 := [42, 28, 182, 1, 22, 27, 160, 0, 7, 4, 167, 0, 4, 3, 172]
abbrev dktX1_lambda_town_3_0 : List UInt8 := dkwX1_lambda_town_3_0 ++ []
theorem dksX1_lambda_town_3_0 : cX1_lambda_town_3.data.toList.drop 0 = dktX1_lambda_town_3_0 := by decide +kernel
theorem dX1_lambda_town_3_0 : decode cX1_lambda_town_3 0 = .ok (.aload_n 0, 1) := dk_42 (dk_at dksX1_lambda_town_3_0 0 rfl rfl)
theorem dX1_lambda_town_3_1 : decode cX1_lambda_town_3 1 = .ok (.iload_n 2, 1) := dk_28 (dk_at dksX1_lambda_town_3_0 1 rfl rfl)
theorem dX1_lambda_town_3_2 : decode cX1_lambda_town_3 2 = .ok (.invokevirtual 278, 3) := dk_182 1 22 (dk_at dksX1_lambda_town_3_0 2 rfl rfl)
theorem dX1_lambda_town_3_5 : decode cX1_lambda_town_3 5 = .ok (.iload_n 1, 1) := dk_27 (dk_at dksX1_lambda_town_3_0 5 rfl rfl)
theorem dX1_lambda_town_3_6 : decode cX1_lambda_town_3 6 = .ok (.if_icmp .ne 7, 3) := dk_160 0 7 (dk_at dksX1_lambda_town_3_0 6 rfl rfl)
theorem dX1_lambda_town_3_9 : decode cX1_lambda_town_3 9 = .ok (.iconst 1, 1) := dk_4 (dk_at dksX1_lambda_town_3_0 9 rfl rfl)
theorem dX1_lambda_town_3_10 : decode cX1_lambda_town_3 10 = .ok (.goto 4, 3) := dk_167 0 4 (dk_at dksX1_lambda_town_3_0 10 rfl rfl)
theorem dX1_lambda_town_3_13 : decode cX1_lambda_town_3 13 = .ok (.iconst 0, 1) := dk_3 (dk_at dksX1_lambda_town_3_0 13 rfl rfl)
theorem dX1_lambda_town_3_14 : decode cX1_lambda_town_3 14 = .ok (.ireturn, 1) := dk_172 (dk_at dksX1_lambda_town_3_0 14 rfl rfl)
abbrev cX1_lambda_town_4 : ByteArray := prog_1_method_101_code
def yX1_lambda_town_4 : MethodName := ⟨RX1, "lambda$town$4", "(LBadCodes$Office;II)Z"⟩
def dkwX1_lambda_town_4_0 : List UInt8 := [42, 28, 27, 182, 0, 233, 42, 180, 0, 164, 163, 0, 7, 4, 167, 0, 4, 3, 172]
abbrev dktX1_lambda_town_4_0 : List UInt8 := dkwX1_lambda_town_4_0 ++ []
theorem dksX1_lambda_town_4_0 : cX1_lambda_town_4.data.toList.drop 0 = dktX1_lambda_town_4_0 := by decide +kernel
theorem dX1_lambda_town_4_0 : decode cX1_lambda_town_4 0 = .ok (.aload_n 0, 1) := dk_42 (dk_at dksX1_lambda_town_4_0 0 rfl rfl)
theorem dX1_lambda_town_4_1 : decode cX1_lambda_town_4 1 = .ok (.iload_n 2, 1) := dk_28 (dk_at dksX1_lambda_town_4_0 1 rfl rfl)
theorem dX1_lambda_town_4_2 : decode cX1_lambda_town_4 2 = .ok (.iload_n 1, 1) := dk_27 (dk_at dksX1_lambda_town_4_0 2 rfl rfl)
theorem dX1_lambda_town_4_3 : decode cX1_lambda_town_4 3 = .ok (.invokevirtual 233, 3) := dk_182 0 233 (dk_at dksX1_lambda_town_4_0 3 rfl rfl)
theorem dX1_lambda_town_4_6 : decode cX1_lambda_town_4 6 = .ok (.aload_n 0, 1) := dk_42 (dk_at dksX1_lambda_town_4_0 6 rfl rfl)
theorem dX1_lambda_town_4_7 : decode cX1_lambda_town_4 7 = .ok (.getfield 164, 3) := dk_180 0 164 (dk_at dksX1_lambda_town_4_0 7 rfl rfl)
theorem dX1_lambda_town_4_10 : decode cX1_lambda_town_4 10 = .ok (.if_icmp .gt 7, 3) := dk_163 0 7 (dk_at dksX1_lambda_town_4_0 10 rfl rfl)
theorem dX1_lambda_town_4_13 : decode cX1_lambda_town_4 13 = .ok (.iconst 1, 1) := dk_4 (dk_at dksX1_lambda_town_4_0 13 rfl rfl)
theorem dX1_lambda_town_4_14 : decode cX1_lambda_town_4 14 = .ok (.goto 4, 3) := dk_167 0 4 (dk_at dksX1_lambda_town_4_0 14 rfl rfl)
theorem dX1_lambda_town_4_17 : decode cX1_lambda_town_4 17 = .ok (.iconst 0, 1) := dk_3 (dk_at dksX1_lambda_town_4_0 17 rfl rfl)
theorem dX1_lambda_town_4_18 : decode cX1_lambda_town_4 18 = .ok (.ireturn, 1) := dk_172 (dk_at dksX1_lambda_town_4_0 18 rfl rfl)
abbrev cX1_codeDigit : ByteArray := prog_1_method_30_code
def yX1_codeDigit : MethodName := ⟨RX1, "codeDigit", "(II)I"⟩
def dkwX1_codeDigit_1 : List UInt8 := [172]
abbrev dktX1_codeDigit_1 : List UInt8 := dkwX1_codeDigit_1 ++ []
def dkwX1_codeDigit_0 : List UInt8 := [42, 27, 182, 0, 192, 78, 28, 3, 7, 184, 0, 73, 184, 0, 77, 45, 27, 182, 0, 195, 28, 182, 0, 218]
abbrev dktX1_codeDigit_0 : List UInt8 := dkwX1_codeDigit_0 ++ dktX1_codeDigit_1
theorem dksX1_codeDigit_0 : cX1_codeDigit.data.toList.drop 0 = dktX1_codeDigit_0 := by decide +kernel
theorem dksX1_codeDigit_1 : cX1_codeDigit.data.toList.drop 24 = dktX1_codeDigit_1 := dk_seg dksX1_codeDigit_0 24 rfl rfl
theorem dX1_codeDigit_0 : decode cX1_codeDigit 0 = .ok (.aload_n 0, 1) := dk_42 (dk_at dksX1_codeDigit_0 0 rfl rfl)
theorem dX1_codeDigit_1 : decode cX1_codeDigit 1 = .ok (.iload_n 1, 1) := dk_27 (dk_at dksX1_codeDigit_0 1 rfl rfl)
theorem dX1_codeDigit_2 : decode cX1_codeDigit 2 = .ok (.invokevirtual 192, 3) := dk_182 0 192 (dk_at dksX1_codeDigit_0 2 rfl rfl)
theorem dX1_codeDigit_5 : decode cX1_codeDigit 5 = .ok (.astore_n 3, 1) := dk_78 (dk_at dksX1_codeDigit_0 5 rfl rfl)
theorem dX1_codeDigit_6 : decode cX1_codeDigit 6 = .ok (.iload_n 2, 1) := dk_28 (dk_at dksX1_codeDigit_0 6 rfl rfl)
theorem dX1_codeDigit_7 : decode cX1_codeDigit 7 = .ok (.iconst 0, 1) := dk_3 (dk_at dksX1_codeDigit_0 7 rfl rfl)
theorem dX1_codeDigit_8 : decode cX1_codeDigit 8 = .ok (.iconst 4, 1) := dk_7 (dk_at dksX1_codeDigit_0 8 rfl rfl)
theorem dX1_codeDigit_9 : decode cX1_codeDigit 9 = .ok (.invokestatic 73, 3) := dk_184 0 73 (dk_at dksX1_codeDigit_0 9 rfl rfl)
theorem dX1_codeDigit_12 : decode cX1_codeDigit 12 = .ok (.invokestatic 77, 3) := dk_184 0 77 (dk_at dksX1_codeDigit_0 12 rfl rfl)
theorem dX1_codeDigit_15 : decode cX1_codeDigit 15 = .ok (.aload_n 3, 1) := dk_45 (dk_at dksX1_codeDigit_0 15 rfl rfl)
theorem dX1_codeDigit_16 : decode cX1_codeDigit 16 = .ok (.iload_n 1, 1) := dk_27 (dk_at dksX1_codeDigit_0 16 rfl rfl)
theorem dX1_codeDigit_17 : decode cX1_codeDigit 17 = .ok (.invokevirtual 195, 3) := dk_182 0 195 (dk_at dksX1_codeDigit_0 17 rfl rfl)
theorem dX1_codeDigit_20 : decode cX1_codeDigit 20 = .ok (.iload_n 2, 1) := dk_28 (dk_at dksX1_codeDigit_0 20 rfl rfl)
theorem dX1_codeDigit_21 : decode cX1_codeDigit 21 = .ok (.invokevirtual 218, 3) := dk_182 0 218 (dk_at dksX1_codeDigit_0 21 rfl rfl)
theorem dX1_codeDigit_24 : decode cX1_codeDigit 24 = .ok (.ireturn, 1) := dk_172 (dk_at dksX1_codeDigit_1 0 rfl rfl)
abbrev cX1_checkDigit : ByteArray := prog_1_method_31_code
def yX1_checkDigit : MethodName := ⟨RX1, "checkDigit", "(I)I"⟩
def dkwX1_checkDigit_0 : List UInt8 := [42, 182, 0, 135, 77, 27, 3, 17, 39, 15, 184, 0, 73, 184, 0, 221, 27, 184, 0, 224, 172]
abbrev dktX1_checkDigit_0 : List UInt8 := dkwX1_checkDigit_0 ++ []
theorem dksX1_checkDigit_0 : cX1_checkDigit.data.toList.drop 0 = dktX1_checkDigit_0 := by decide +kernel
theorem dX1_checkDigit_0 : decode cX1_checkDigit 0 = .ok (.aload_n 0, 1) := dk_42 (dk_at dksX1_checkDigit_0 0 rfl rfl)
theorem dX1_checkDigit_1 : decode cX1_checkDigit 1 = .ok (.invokevirtual 135, 3) := dk_182 0 135 (dk_at dksX1_checkDigit_0 1 rfl rfl)
theorem dX1_checkDigit_4 : decode cX1_checkDigit 4 = .ok (.astore_n 2, 1) := dk_77 (dk_at dksX1_checkDigit_0 4 rfl rfl)
theorem dX1_checkDigit_5 : decode cX1_checkDigit 5 = .ok (.iload_n 1, 1) := dk_27 (dk_at dksX1_checkDigit_0 5 rfl rfl)
theorem dX1_checkDigit_6 : decode cX1_checkDigit 6 = .ok (.iconst 0, 1) := dk_3 (dk_at dksX1_checkDigit_0 6 rfl rfl)
theorem dX1_checkDigit_7 : decode cX1_checkDigit 7 = .ok (.sipush 9999, 3) := dk_17 39 15 (dk_at dksX1_checkDigit_0 7 rfl rfl)
theorem dX1_checkDigit_10 : decode cX1_checkDigit 10 = .ok (.invokestatic 73, 3) := dk_184 0 73 (dk_at dksX1_checkDigit_0 10 rfl rfl)
theorem dX1_checkDigit_13 : decode cX1_checkDigit 13 = .ok (.invokestatic 221, 3) := dk_184 0 221 (dk_at dksX1_checkDigit_0 13 rfl rfl)
theorem dX1_checkDigit_16 : decode cX1_checkDigit 16 = .ok (.iload_n 1, 1) := dk_27 (dk_at dksX1_checkDigit_0 16 rfl rfl)
theorem dX1_checkDigit_17 : decode cX1_checkDigit 17 = .ok (.invokestatic 224, 3) := dk_184 0 224 (dk_at dksX1_checkDigit_0 17 rfl rfl)
theorem dX1_checkDigit_20 : decode cX1_checkDigit 20 = .ok (.ireturn, 1) := dk_172 (dk_at dksX1_checkDigit_0 20 rfl rfl)
abbrev cX1_checkRange : ByteArray := prog_1_method_16_code
def yX1_checkRange : MethodName := ⟨RX1, "checkRange", "(Z)V"⟩
def dkwX1_checkRange_0 : List UInt8 := [26, 154, 0, 11, 187, 0, 105, 89, 183, 0, 107, 191, 177]
abbrev dktX1_checkRange_0 : List UInt8 := dkwX1_checkRange_0 ++ []
theorem dksX1_checkRange_0 : cX1_checkRange.data.toList.drop 0 = dktX1_checkRange_0 := by decide +kernel
theorem dX1_checkRange_0 : decode cX1_checkRange 0 = .ok (.iload_n 0, 1) := dk_26 (dk_at dksX1_checkRange_0 0 rfl rfl)
theorem dX1_checkRange_1 : decode cX1_checkRange 1 = .ok (.ifCond .ne 11, 3) := dk_154 0 11 (dk_at dksX1_checkRange_0 1 rfl rfl)
theorem dX1_checkRange_4 : decode cX1_checkRange 4 = .ok (.new 105, 3) := dk_187 0 105 (dk_at dksX1_checkRange_0 4 rfl rfl)
theorem dX1_checkRange_7 : decode cX1_checkRange 7 = .ok (.dup, 1) := dk_89 (dk_at dksX1_checkRange_0 7 rfl rfl)
theorem dX1_checkRange_8 : decode cX1_checkRange 8 = .ok (.invokespecial 107, 3) := dk_183 0 107 (dk_at dksX1_checkRange_0 8 rfl rfl)
theorem dX1_checkRange_11 : decode cX1_checkRange 11 = .ok (.athrow, 1) := dk_191 (dk_at dksX1_checkRange_0 11 rfl rfl)
theorem dX1_checkRange_12 : decode cX1_checkRange 12 = .ok (.return_, 1) := dk_177 (dk_at dksX1_checkRange_0 12 rfl rfl)
abbrev cX1_apart : ByteArray := prog_1_method_33_code
def yX1_apart : MethodName := ⟨RX1, "apart", "(II)I"⟩
def dkwX1_apart_1 : List UInt8 := [184, 0, 77, 45, 27, 182, 0, 195, 45, 28, 182, 0, 195, 184, 0, 229, 172]
abbrev dktX1_apart_1 : List UInt8 := dkwX1_apart_1 ++ []
def dkwX1_apart_0 : List UInt8 := [42, 27, 182, 0, 192, 78, 28, 3, 45, 180, 0, 136, 185, 0, 123, 1, 0, 4, 100, 184, 0, 73]
abbrev dktX1_apart_0 : List UInt8 := dkwX1_apart_0 ++ dktX1_apart_1
theorem dksX1_apart_0 : cX1_apart.data.toList.drop 0 = dktX1_apart_0 := by decide +kernel
theorem dksX1_apart_1 : cX1_apart.data.toList.drop 22 = dktX1_apart_1 := dk_seg dksX1_apart_0 22 rfl rfl
theorem dX1_apart_0 : decode cX1_apart 0 = .ok (.aload_n 0, 1) := dk_42 (dk_at dksX1_apart_0 0 rfl rfl)
theorem dX1_apart_1 : decode cX1_apart 1 = .ok (.iload_n 1, 1) := dk_27 (dk_at dksX1_apart_0 1 rfl rfl)
theorem dX1_apart_2 : decode cX1_apart 2 = .ok (.invokevirtual 192, 3) := dk_182 0 192 (dk_at dksX1_apart_0 2 rfl rfl)
theorem dX1_apart_5 : decode cX1_apart 5 = .ok (.astore_n 3, 1) := dk_78 (dk_at dksX1_apart_0 5 rfl rfl)
theorem dX1_apart_6 : decode cX1_apart 6 = .ok (.iload_n 2, 1) := dk_28 (dk_at dksX1_apart_0 6 rfl rfl)
theorem dX1_apart_7 : decode cX1_apart 7 = .ok (.iconst 0, 1) := dk_3 (dk_at dksX1_apart_0 7 rfl rfl)
theorem dX1_apart_8 : decode cX1_apart 8 = .ok (.aload_n 3, 1) := dk_45 (dk_at dksX1_apart_0 8 rfl rfl)
theorem dX1_apart_9 : decode cX1_apart 9 = .ok (.getfield 136, 3) := dk_180 0 136 (dk_at dksX1_apart_0 9 rfl rfl)
theorem dX1_apart_12 : decode cX1_apart 12 = .ok (.invokeinterface 123 1, 5) := by decide +kernel
theorem dX1_apart_17 : decode cX1_apart 17 = .ok (.iconst 1, 1) := dk_4 (dk_at dksX1_apart_0 17 rfl rfl)
theorem dX1_apart_18 : decode cX1_apart 18 = .ok (.isub, 1) := dk_100 (dk_at dksX1_apart_0 18 rfl rfl)
theorem dX1_apart_19 : decode cX1_apart 19 = .ok (.invokestatic 73, 3) := dk_184 0 73 (dk_at dksX1_apart_0 19 rfl rfl)
theorem dX1_apart_22 : decode cX1_apart 22 = .ok (.invokestatic 77, 3) := dk_184 0 77 (dk_at dksX1_apart_1 0 rfl rfl)
theorem dX1_apart_25 : decode cX1_apart 25 = .ok (.aload_n 3, 1) := dk_45 (dk_at dksX1_apart_1 3 rfl rfl)
theorem dX1_apart_26 : decode cX1_apart 26 = .ok (.iload_n 1, 1) := dk_27 (dk_at dksX1_apart_1 4 rfl rfl)
theorem dX1_apart_27 : decode cX1_apart 27 = .ok (.invokevirtual 195, 3) := dk_182 0 195 (dk_at dksX1_apart_1 5 rfl rfl)
theorem dX1_apart_30 : decode cX1_apart 30 = .ok (.aload_n 3, 1) := dk_45 (dk_at dksX1_apart_1 8 rfl rfl)
theorem dX1_apart_31 : decode cX1_apart 31 = .ok (.iload_n 2, 1) := dk_28 (dk_at dksX1_apart_1 9 rfl rfl)
theorem dX1_apart_32 : decode cX1_apart 32 = .ok (.invokevirtual 195, 3) := dk_182 0 195 (dk_at dksX1_apart_1 10 rfl rfl)
theorem dX1_apart_35 : decode cX1_apart 35 = .ok (.invokestatic 229, 3) := dk_184 0 229 (dk_at dksX1_apart_1 13 rfl rfl)
theorem dX1_apart_38 : decode cX1_apart 38 = .ok (.ireturn, 1) := dk_172 (dk_at dksX1_apart_1 16 rfl rfl)
abbrev cX1_apart_2 : ByteArray := prog_1_method_32_code
def yX1_apart_2 : MethodName := ⟨RX1, "apart", "(LBadCodes$Town;LBadCodes$Town;)I"⟩
def dkwX1_apart_2_1 : List UInt8 := [61, 132, 3, 1, 167, 255, 232, 28, 172]
abbrev dktX1_apart_2_1 : List UInt8 := dkwX1_apart_2_1 ++ []
def dkwX1_apart_2_0 : List UInt8 := [3, 61, 3, 62, 29, 8, 162, 0, 25, 28, 42, 29, 182, 0, 218, 43, 29, 182, 0, 218, 184, 0, 226, 96]
abbrev dktX1_apart_2_0 : List UInt8 := dkwX1_apart_2_0 ++ dktX1_apart_2_1
theorem dksX1_apart_2_0 : cX1_apart_2.data.toList.drop 0 = dktX1_apart_2_0 := by decide +kernel
theorem dksX1_apart_2_1 : cX1_apart_2.data.toList.drop 24 = dktX1_apart_2_1 := dk_seg dksX1_apart_2_0 24 rfl rfl
theorem dX1_apart_2_0 : decode cX1_apart_2 0 = .ok (.iconst 0, 1) := dk_3 (dk_at dksX1_apart_2_0 0 rfl rfl)
theorem dX1_apart_2_1 : decode cX1_apart_2 1 = .ok (.istore_n 2, 1) := dk_61 (dk_at dksX1_apart_2_0 1 rfl rfl)
theorem dX1_apart_2_2 : decode cX1_apart_2 2 = .ok (.iconst 0, 1) := dk_3 (dk_at dksX1_apart_2_0 2 rfl rfl)
theorem dX1_apart_2_3 : decode cX1_apart_2 3 = .ok (.istore_n 3, 1) := dk_62 (dk_at dksX1_apart_2_0 3 rfl rfl)
theorem dX1_apart_2_4 : decode cX1_apart_2 4 = .ok (.iload_n 3, 1) := dk_29 (dk_at dksX1_apart_2_0 4 rfl rfl)
theorem dX1_apart_2_5 : decode cX1_apart_2 5 = .ok (.iconst 5, 1) := dk_8 (dk_at dksX1_apart_2_0 5 rfl rfl)
theorem dX1_apart_2_6 : decode cX1_apart_2 6 = .ok (.if_icmp .ge 25, 3) := dk_162 0 25 (dk_at dksX1_apart_2_0 6 rfl rfl)
theorem dX1_apart_2_9 : decode cX1_apart_2 9 = .ok (.iload_n 2, 1) := dk_28 (dk_at dksX1_apart_2_0 9 rfl rfl)
theorem dX1_apart_2_10 : decode cX1_apart_2 10 = .ok (.aload_n 0, 1) := dk_42 (dk_at dksX1_apart_2_0 10 rfl rfl)
theorem dX1_apart_2_11 : decode cX1_apart_2 11 = .ok (.iload_n 3, 1) := dk_29 (dk_at dksX1_apart_2_0 11 rfl rfl)
theorem dX1_apart_2_12 : decode cX1_apart_2 12 = .ok (.invokevirtual 218, 3) := dk_182 0 218 (dk_at dksX1_apart_2_0 12 rfl rfl)
theorem dX1_apart_2_15 : decode cX1_apart_2 15 = .ok (.aload_n 1, 1) := dk_43 (dk_at dksX1_apart_2_0 15 rfl rfl)
theorem dX1_apart_2_16 : decode cX1_apart_2 16 = .ok (.iload_n 3, 1) := dk_29 (dk_at dksX1_apart_2_0 16 rfl rfl)
theorem dX1_apart_2_17 : decode cX1_apart_2 17 = .ok (.invokevirtual 218, 3) := dk_182 0 218 (dk_at dksX1_apart_2_0 17 rfl rfl)
theorem dX1_apart_2_20 : decode cX1_apart_2 20 = .ok (.invokestatic 226, 3) := dk_184 0 226 (dk_at dksX1_apart_2_0 20 rfl rfl)
theorem dX1_apart_2_23 : decode cX1_apart_2 23 = .ok (.iadd, 1) := dk_96 (dk_at dksX1_apart_2_0 23 rfl rfl)
theorem dX1_apart_2_24 : decode cX1_apart_2 24 = .ok (.istore_n 2, 1) := dk_61 (dk_at dksX1_apart_2_1 0 rfl rfl)
theorem dX1_apart_2_25 : decode cX1_apart_2 25 = .ok (.iinc 3 1, 3) := dk_132 3 1 (dk_at dksX1_apart_2_1 1 rfl rfl)
theorem dX1_apart_2_28 : decode cX1_apart_2 28 = .ok (.goto (-24), 3) := dk_167 255 232 (dk_at dksX1_apart_2_1 4 rfl rfl)
theorem dX1_apart_2_31 : decode cX1_apart_2 31 = .ok (.iload_n 2, 1) := dk_28 (dk_at dksX1_apart_2_1 7 rfl rfl)
theorem dX1_apart_2_32 : decode cX1_apart_2 32 = .ok (.ireturn, 1) := dk_172 (dk_at dksX1_apart_2_1 8 rfl rfl)
abbrev cX1_closest : ByteArray := prog_1_method_34_code
def yX1_closest : MethodName := ⟨RX1, "closest", "(I)I"⟩
def dkwX1_closest_3 : List UInt8 := [54, 4, 21, 5, 62, 132, 5, 1, 167, 255, 195, 29, 172]
abbrev dktX1_closest_3 : List UInt8 := dkwX1_closest_3 ++ []
def dkwX1_closest_2 : List UInt8 := [44, 21, 5, 182, 0, 195, 184, 0, 229, 54, 6, 21, 6, 21, 4, 161, 0, 6, 167, 0, 10, 21, 6]
abbrev dktX1_closest_2 : List UInt8 := dkwX1_closest_2 ++ dktX1_closest_3
def dkwX1_closest_1 : List UInt8 := [185, 0, 123, 1, 0, 162, 0, 53, 21, 5, 27, 160, 0, 8, 16, 11, 167, 0, 17, 44, 27, 182, 0, 195]
abbrev dktX1_closest_1 : List UInt8 := dkwX1_closest_1 ++ dktX1_closest_2
def dkwX1_closest_0 : List UInt8 := [42, 27, 182, 0, 192, 77, 2, 62, 16, 11, 54, 4, 3, 54, 5, 21, 5, 44, 180, 0, 136]
abbrev dktX1_closest_0 : List UInt8 := dkwX1_closest_0 ++ dktX1_closest_1
theorem dksX1_closest_0 : cX1_closest.data.toList.drop 0 = dktX1_closest_0 := by decide +kernel
theorem dksX1_closest_1 : cX1_closest.data.toList.drop 21 = dktX1_closest_1 := dk_seg dksX1_closest_0 21 rfl rfl
theorem dksX1_closest_2 : cX1_closest.data.toList.drop 45 = dktX1_closest_2 := dk_seg dksX1_closest_1 24 rfl rfl
theorem dksX1_closest_3 : cX1_closest.data.toList.drop 68 = dktX1_closest_3 := dk_seg dksX1_closest_2 23 rfl rfl
theorem dX1_closest_0 : decode cX1_closest 0 = .ok (.aload_n 0, 1) := dk_42 (dk_at dksX1_closest_0 0 rfl rfl)
theorem dX1_closest_1 : decode cX1_closest 1 = .ok (.iload_n 1, 1) := dk_27 (dk_at dksX1_closest_0 1 rfl rfl)
theorem dX1_closest_2 : decode cX1_closest 2 = .ok (.invokevirtual 192, 3) := dk_182 0 192 (dk_at dksX1_closest_0 2 rfl rfl)
theorem dX1_closest_5 : decode cX1_closest 5 = .ok (.astore_n 2, 1) := dk_77 (dk_at dksX1_closest_0 5 rfl rfl)
theorem dX1_closest_6 : decode cX1_closest 6 = .ok (.iconst (-1), 1) := dk_2 (dk_at dksX1_closest_0 6 rfl rfl)
theorem dX1_closest_7 : decode cX1_closest 7 = .ok (.istore_n 3, 1) := dk_62 (dk_at dksX1_closest_0 7 rfl rfl)
theorem dX1_closest_8 : decode cX1_closest 8 = .ok (.bipush 11, 2) := dk_16 11 (dk_at dksX1_closest_0 8 rfl rfl)
theorem dX1_closest_10 : decode cX1_closest 10 = .ok (.istore 4, 2) := dk_54 4 (dk_at dksX1_closest_0 10 rfl rfl)
theorem dX1_closest_12 : decode cX1_closest 12 = .ok (.iconst 0, 1) := dk_3 (dk_at dksX1_closest_0 12 rfl rfl)
theorem dX1_closest_13 : decode cX1_closest 13 = .ok (.istore 5, 2) := dk_54 5 (dk_at dksX1_closest_0 13 rfl rfl)
theorem dX1_closest_15 : decode cX1_closest 15 = .ok (.iload 5, 2) := dk_21 5 (dk_at dksX1_closest_0 15 rfl rfl)
theorem dX1_closest_17 : decode cX1_closest 17 = .ok (.aload_n 2, 1) := dk_44 (dk_at dksX1_closest_0 17 rfl rfl)
theorem dX1_closest_18 : decode cX1_closest 18 = .ok (.getfield 136, 3) := dk_180 0 136 (dk_at dksX1_closest_0 18 rfl rfl)
theorem dX1_closest_21 : decode cX1_closest 21 = .ok (.invokeinterface 123 1, 5) := by decide +kernel
theorem dX1_closest_26 : decode cX1_closest 26 = .ok (.if_icmp .ge 53, 3) := dk_162 0 53 (dk_at dksX1_closest_1 5 rfl rfl)
theorem dX1_closest_29 : decode cX1_closest 29 = .ok (.iload 5, 2) := dk_21 5 (dk_at dksX1_closest_1 8 rfl rfl)
theorem dX1_closest_31 : decode cX1_closest 31 = .ok (.iload_n 1, 1) := dk_27 (dk_at dksX1_closest_1 10 rfl rfl)
theorem dX1_closest_32 : decode cX1_closest 32 = .ok (.if_icmp .ne 8, 3) := dk_160 0 8 (dk_at dksX1_closest_1 11 rfl rfl)
theorem dX1_closest_35 : decode cX1_closest 35 = .ok (.bipush 11, 2) := dk_16 11 (dk_at dksX1_closest_1 14 rfl rfl)
theorem dX1_closest_37 : decode cX1_closest 37 = .ok (.goto 17, 3) := dk_167 0 17 (dk_at dksX1_closest_1 16 rfl rfl)
theorem dX1_closest_40 : decode cX1_closest 40 = .ok (.aload_n 2, 1) := dk_44 (dk_at dksX1_closest_1 19 rfl rfl)
theorem dX1_closest_41 : decode cX1_closest 41 = .ok (.iload_n 1, 1) := dk_27 (dk_at dksX1_closest_1 20 rfl rfl)
theorem dX1_closest_42 : decode cX1_closest 42 = .ok (.invokevirtual 195, 3) := dk_182 0 195 (dk_at dksX1_closest_1 21 rfl rfl)
theorem dX1_closest_45 : decode cX1_closest 45 = .ok (.aload_n 2, 1) := dk_44 (dk_at dksX1_closest_2 0 rfl rfl)
theorem dX1_closest_46 : decode cX1_closest 46 = .ok (.iload 5, 2) := dk_21 5 (dk_at dksX1_closest_2 1 rfl rfl)
theorem dX1_closest_48 : decode cX1_closest 48 = .ok (.invokevirtual 195, 3) := dk_182 0 195 (dk_at dksX1_closest_2 3 rfl rfl)
theorem dX1_closest_51 : decode cX1_closest 51 = .ok (.invokestatic 229, 3) := dk_184 0 229 (dk_at dksX1_closest_2 6 rfl rfl)
theorem dX1_closest_54 : decode cX1_closest 54 = .ok (.istore 6, 2) := dk_54 6 (dk_at dksX1_closest_2 9 rfl rfl)
theorem dX1_closest_56 : decode cX1_closest 56 = .ok (.iload 6, 2) := dk_21 6 (dk_at dksX1_closest_2 11 rfl rfl)
theorem dX1_closest_58 : decode cX1_closest 58 = .ok (.iload 4, 2) := dk_21 4 (dk_at dksX1_closest_2 13 rfl rfl)
theorem dX1_closest_60 : decode cX1_closest 60 = .ok (.if_icmp .lt 6, 3) := dk_161 0 6 (dk_at dksX1_closest_2 15 rfl rfl)
theorem dX1_closest_63 : decode cX1_closest 63 = .ok (.goto 10, 3) := dk_167 0 10 (dk_at dksX1_closest_2 18 rfl rfl)
theorem dX1_closest_66 : decode cX1_closest 66 = .ok (.iload 6, 2) := dk_21 6 (dk_at dksX1_closest_2 21 rfl rfl)
theorem dX1_closest_68 : decode cX1_closest 68 = .ok (.istore 4, 2) := dk_54 4 (dk_at dksX1_closest_3 0 rfl rfl)
theorem dX1_closest_70 : decode cX1_closest 70 = .ok (.iload 5, 2) := dk_21 5 (dk_at dksX1_closest_3 2 rfl rfl)
theorem dX1_closest_72 : decode cX1_closest 72 = .ok (.istore_n 3, 1) := dk_62 (dk_at dksX1_closest_3 4 rfl rfl)
theorem dX1_closest_73 : decode cX1_closest 73 = .ok (.iinc 5 1, 3) := dk_132 5 1 (dk_at dksX1_closest_3 5 rfl rfl)
theorem dX1_closest_76 : decode cX1_closest 76 = .ok (.goto (-61), 3) := dk_167 255 195 (dk_at dksX1_closest_3 8 rfl rfl)
theorem dX1_closest_79 : decode cX1_closest 79 = .ok (.iload_n 3, 1) := dk_29 (dk_at dksX1_closest_3 11 rfl rfl)
theorem dX1_closest_80 : decode cX1_closest 80 = .ok (.ireturn, 1) := dk_172 (dk_at dksX1_closest_3 12 rfl rfl)
abbrev cX1_letter : ByteArray := prog_1_method_36_code
def yX1_letter : MethodName := ⟨RX1, "letter", "(II)I"⟩
def dkwX1_letter_5 : List UInt8 := [172]
abbrev dktX1_letter_5 : List UInt8 := dkwX1_letter_5 ++ []
def dkwX1_letter_4 : List UInt8 := [42, 27, 182, 1, 3, 167, 0, 19, 45, 27, 182, 1, 6, 167, 0, 11, 187, 0, 105, 89, 183, 0, 107, 191]
abbrev dktX1_letter_4 : List UInt8 := dkwX1_letter_4 ++ dktX1_letter_5
def dkwX1_letter_3 : List UInt8 := [25, 4, 182, 0, 251, 167, 0, 43, 25, 4, 180, 0, 254, 167, 0, 35, 25, 4, 180, 1, 1, 167, 0, 27]
abbrev dktX1_letter_3 : List UInt8 := dkwX1_letter_3 ++ dktX1_letter_4
def dkwX1_letter_2 : List UInt8 := [25, 4, 180, 0, 240, 167, 0, 67, 25, 4, 180, 0, 245, 167, 0, 59, 25, 4, 180, 0, 248, 167, 0, 51]
abbrev dktX1_letter_2 : List UInt8 := dkwX1_letter_2 ++ dktX1_letter_3
def dkwX1_letter_1 : List UInt8 := [170, 0, 0, 0, 0, 110, 0, 0, 0, 0, 0, 0, 0, 7, 0, 0, 0, 46, 0, 0, 0, 54, 0, 0, 0, 62, 0, 0, 0, 70, 0, 0, 0, 78, 0, 0, 0, 86, 0, 0, 0, 94, 0, 0, 0, 102]
abbrev dktX1_letter_1 : List UInt8 := dkwX1_letter_1 ++ dktX1_letter_2
def dkwX1_letter_0 : List UInt8 := [42, 27, 182, 0, 139, 78, 45, 27, 182, 0, 236, 58, 4, 28]
abbrev dktX1_letter_0 : List UInt8 := dkwX1_letter_0 ++ dktX1_letter_1
theorem dksX1_letter_0 : cX1_letter.data.toList.drop 0 = dktX1_letter_0 := by decide +kernel
theorem dksX1_letter_1 : cX1_letter.data.toList.drop 14 = dktX1_letter_1 := dk_seg dksX1_letter_0 14 rfl rfl
theorem dksX1_letter_2 : cX1_letter.data.toList.drop 60 = dktX1_letter_2 := dk_seg dksX1_letter_1 46 rfl rfl
theorem dksX1_letter_3 : cX1_letter.data.toList.drop 84 = dktX1_letter_3 := dk_seg dksX1_letter_2 24 rfl rfl
theorem dksX1_letter_4 : cX1_letter.data.toList.drop 108 = dktX1_letter_4 := dk_seg dksX1_letter_3 24 rfl rfl
theorem dksX1_letter_5 : cX1_letter.data.toList.drop 132 = dktX1_letter_5 := dk_seg dksX1_letter_4 24 rfl rfl
theorem dX1_letter_0 : decode cX1_letter 0 = .ok (.aload_n 0, 1) := dk_42 (dk_at dksX1_letter_0 0 rfl rfl)
theorem dX1_letter_1 : decode cX1_letter 1 = .ok (.iload_n 1, 1) := dk_27 (dk_at dksX1_letter_0 1 rfl rfl)
theorem dX1_letter_2 : decode cX1_letter 2 = .ok (.invokevirtual 139, 3) := dk_182 0 139 (dk_at dksX1_letter_0 2 rfl rfl)
theorem dX1_letter_5 : decode cX1_letter 5 = .ok (.astore_n 3, 1) := dk_78 (dk_at dksX1_letter_0 5 rfl rfl)
theorem dX1_letter_6 : decode cX1_letter 6 = .ok (.aload_n 3, 1) := dk_45 (dk_at dksX1_letter_0 6 rfl rfl)
theorem dX1_letter_7 : decode cX1_letter 7 = .ok (.iload_n 1, 1) := dk_27 (dk_at dksX1_letter_0 7 rfl rfl)
theorem dX1_letter_8 : decode cX1_letter 8 = .ok (.invokevirtual 236, 3) := dk_182 0 236 (dk_at dksX1_letter_0 8 rfl rfl)
theorem dX1_letter_11 : decode cX1_letter 11 = .ok (.astore 4, 2) := dk_58 4 (dk_at dksX1_letter_0 11 rfl rfl)
theorem dX1_letter_13 : decode cX1_letter 13 = .ok (.iload_n 2, 1) := dk_28 (dk_at dksX1_letter_0 13 rfl rfl)
theorem dX1_letter_14 : decode cX1_letter 14 = .ok (.tableswitch 110 0 7 #[46, 54, 62, 70, 78, 86, 94, 102], 46) := by decide +kernel
theorem dX1_letter_60 : decode cX1_letter 60 = .ok (.aload 4, 2) := dk_25 4 (dk_at dksX1_letter_2 0 rfl rfl)
theorem dX1_letter_62 : decode cX1_letter 62 = .ok (.getfield 240, 3) := dk_180 0 240 (dk_at dksX1_letter_2 2 rfl rfl)
theorem dX1_letter_65 : decode cX1_letter 65 = .ok (.goto 67, 3) := dk_167 0 67 (dk_at dksX1_letter_2 5 rfl rfl)
theorem dX1_letter_68 : decode cX1_letter 68 = .ok (.aload 4, 2) := dk_25 4 (dk_at dksX1_letter_2 8 rfl rfl)
theorem dX1_letter_70 : decode cX1_letter 70 = .ok (.getfield 245, 3) := dk_180 0 245 (dk_at dksX1_letter_2 10 rfl rfl)
theorem dX1_letter_73 : decode cX1_letter 73 = .ok (.goto 59, 3) := dk_167 0 59 (dk_at dksX1_letter_2 13 rfl rfl)
theorem dX1_letter_76 : decode cX1_letter 76 = .ok (.aload 4, 2) := dk_25 4 (dk_at dksX1_letter_2 16 rfl rfl)
theorem dX1_letter_78 : decode cX1_letter 78 = .ok (.getfield 248, 3) := dk_180 0 248 (dk_at dksX1_letter_2 18 rfl rfl)
theorem dX1_letter_81 : decode cX1_letter 81 = .ok (.goto 51, 3) := dk_167 0 51 (dk_at dksX1_letter_2 21 rfl rfl)
theorem dX1_letter_84 : decode cX1_letter 84 = .ok (.aload 4, 2) := dk_25 4 (dk_at dksX1_letter_3 0 rfl rfl)
theorem dX1_letter_86 : decode cX1_letter 86 = .ok (.invokevirtual 251, 3) := dk_182 0 251 (dk_at dksX1_letter_3 2 rfl rfl)
theorem dX1_letter_89 : decode cX1_letter 89 = .ok (.goto 43, 3) := dk_167 0 43 (dk_at dksX1_letter_3 5 rfl rfl)
theorem dX1_letter_92 : decode cX1_letter 92 = .ok (.aload 4, 2) := dk_25 4 (dk_at dksX1_letter_3 8 rfl rfl)
theorem dX1_letter_94 : decode cX1_letter 94 = .ok (.getfield 254, 3) := dk_180 0 254 (dk_at dksX1_letter_3 10 rfl rfl)
theorem dX1_letter_97 : decode cX1_letter 97 = .ok (.goto 35, 3) := dk_167 0 35 (dk_at dksX1_letter_3 13 rfl rfl)
theorem dX1_letter_100 : decode cX1_letter 100 = .ok (.aload 4, 2) := dk_25 4 (dk_at dksX1_letter_3 16 rfl rfl)
theorem dX1_letter_102 : decode cX1_letter 102 = .ok (.getfield 257, 3) := dk_180 1 1 (dk_at dksX1_letter_3 18 rfl rfl)
theorem dX1_letter_105 : decode cX1_letter 105 = .ok (.goto 27, 3) := dk_167 0 27 (dk_at dksX1_letter_3 21 rfl rfl)
theorem dX1_letter_108 : decode cX1_letter 108 = .ok (.aload_n 0, 1) := dk_42 (dk_at dksX1_letter_4 0 rfl rfl)
theorem dX1_letter_109 : decode cX1_letter 109 = .ok (.iload_n 1, 1) := dk_27 (dk_at dksX1_letter_4 1 rfl rfl)
theorem dX1_letter_110 : decode cX1_letter 110 = .ok (.invokevirtual 259, 3) := dk_182 1 3 (dk_at dksX1_letter_4 2 rfl rfl)
theorem dX1_letter_113 : decode cX1_letter 113 = .ok (.goto 19, 3) := dk_167 0 19 (dk_at dksX1_letter_4 5 rfl rfl)
theorem dX1_letter_116 : decode cX1_letter 116 = .ok (.aload_n 3, 1) := dk_45 (dk_at dksX1_letter_4 8 rfl rfl)
theorem dX1_letter_117 : decode cX1_letter 117 = .ok (.iload_n 1, 1) := dk_27 (dk_at dksX1_letter_4 9 rfl rfl)
theorem dX1_letter_118 : decode cX1_letter 118 = .ok (.invokevirtual 262, 3) := dk_182 1 6 (dk_at dksX1_letter_4 10 rfl rfl)
theorem dX1_letter_121 : decode cX1_letter 121 = .ok (.goto 11, 3) := dk_167 0 11 (dk_at dksX1_letter_4 13 rfl rfl)
theorem dX1_letter_124 : decode cX1_letter 124 = .ok (.new 105, 3) := dk_187 0 105 (dk_at dksX1_letter_4 16 rfl rfl)
theorem dX1_letter_127 : decode cX1_letter 127 = .ok (.dup, 1) := dk_89 (dk_at dksX1_letter_4 19 rfl rfl)
theorem dX1_letter_128 : decode cX1_letter 128 = .ok (.invokespecial 107, 3) := dk_183 0 107 (dk_at dksX1_letter_4 20 rfl rfl)
theorem dX1_letter_131 : decode cX1_letter 131 = .ok (.athrow, 1) := dk_191 (dk_at dksX1_letter_4 23 rfl rfl)
theorem dX1_letter_132 : decode cX1_letter 132 = .ok (.ireturn, 1) := dk_172 (dk_at dksX1_letter_5 0 rfl rfl)
abbrev cX1_withLetter : ByteArray := prog_1_method_19_code
def yX1_withLetter : MethodName := ⟨RX1, "withLetter", "(I)LBadCodes$Office;"⟩
def dkwX1_withLetter_1 : List UInt8 := [44, 176]
abbrev dktX1_withLetter_1 : List UInt8 := dkwX1_withLetter_1 ++ []
def dkwX1_withLetter_0 : List UInt8 := [42, 182, 0, 135, 77, 27, 3, 44, 180, 0, 119, 185, 0, 123, 1, 0, 4, 100, 184, 0, 73, 184, 0, 77]
abbrev dktX1_withLetter_0 : List UInt8 := dkwX1_withLetter_0 ++ dktX1_withLetter_1
theorem dksX1_withLetter_0 : cX1_withLetter.data.toList.drop 0 = dktX1_withLetter_0 := by decide +kernel
theorem dksX1_withLetter_1 : cX1_withLetter.data.toList.drop 24 = dktX1_withLetter_1 := dk_seg dksX1_withLetter_0 24 rfl rfl
theorem dX1_withLetter_0 : decode cX1_withLetter 0 = .ok (.aload_n 0, 1) := dk_42 (dk_at dksX1_withLetter_0 0 rfl rfl)
theorem dX1_withLetter_1 : decode cX1_withLetter 1 = .ok (.invokevirtual 135, 3) := dk_182 0 135 (dk_at dksX1_withLetter_0 1 rfl rfl)
theorem dX1_withLetter_4 : decode cX1_withLetter 4 = .ok (.astore_n 2, 1) := dk_77 (dk_at dksX1_withLetter_0 4 rfl rfl)
theorem dX1_withLetter_5 : decode cX1_withLetter 5 = .ok (.iload_n 1, 1) := dk_27 (dk_at dksX1_withLetter_0 5 rfl rfl)
theorem dX1_withLetter_6 : decode cX1_withLetter 6 = .ok (.iconst 0, 1) := dk_3 (dk_at dksX1_withLetter_0 6 rfl rfl)
theorem dX1_withLetter_7 : decode cX1_withLetter 7 = .ok (.aload_n 2, 1) := dk_44 (dk_at dksX1_withLetter_0 7 rfl rfl)
theorem dX1_withLetter_8 : decode cX1_withLetter 8 = .ok (.getfield 119, 3) := dk_180 0 119 (dk_at dksX1_withLetter_0 8 rfl rfl)
theorem dX1_withLetter_11 : decode cX1_withLetter 11 = .ok (.invokeinterface 123 1, 5) := by decide +kernel
theorem dX1_withLetter_16 : decode cX1_withLetter 16 = .ok (.iconst 1, 1) := dk_4 (dk_at dksX1_withLetter_0 16 rfl rfl)
theorem dX1_withLetter_17 : decode cX1_withLetter 17 = .ok (.isub, 1) := dk_100 (dk_at dksX1_withLetter_0 17 rfl rfl)
theorem dX1_withLetter_18 : decode cX1_withLetter 18 = .ok (.invokestatic 73, 3) := dk_184 0 73 (dk_at dksX1_withLetter_0 18 rfl rfl)
theorem dX1_withLetter_21 : decode cX1_withLetter 21 = .ok (.invokestatic 77, 3) := dk_184 0 77 (dk_at dksX1_withLetter_0 21 rfl rfl)
theorem dX1_withLetter_24 : decode cX1_withLetter 24 = .ok (.aload_n 2, 1) := dk_44 (dk_at dksX1_withLetter_1 0 rfl rfl)
theorem dX1_withLetter_25 : decode cX1_withLetter 25 = .ok (.areturn, 1) := dk_176 (dk_at dksX1_withLetter_1 1 rfl rfl)
abbrev cX1_nearMany : ByteArray := prog_1_method_35_code
def yX1_nearMany : MethodName := ⟨RX1, "nearMany", "(I)I"⟩
def dkwX1_nearMany_2 : List UInt8 := [184, 0, 147, 96, 61, 132, 3, 1, 167, 255, 207, 28, 172]
abbrev dktX1_nearMany_2 : List UInt8 := dkwX1_nearMany_2 ++ []
def dkwX1_nearMany_1 : List UInt8 := [180, 0, 90, 27, 29, 182, 0, 233, 42, 180, 0, 90, 180, 0, 164, 163, 0, 7, 4, 167, 0, 4, 3]
abbrev dktX1_nearMany_1 : List UInt8 := dkwX1_nearMany_1 ++ dktX1_nearMany_2
def dkwX1_nearMany_0 : List UInt8 := [3, 61, 3, 62, 29, 42, 180, 0, 90, 180, 0, 136, 185, 0, 123, 1, 0, 162, 0, 39, 28, 42]
abbrev dktX1_nearMany_0 : List UInt8 := dkwX1_nearMany_0 ++ dktX1_nearMany_1
theorem dksX1_nearMany_0 : cX1_nearMany.data.toList.drop 0 = dktX1_nearMany_0 := by decide +kernel
theorem dksX1_nearMany_1 : cX1_nearMany.data.toList.drop 22 = dktX1_nearMany_1 := dk_seg dksX1_nearMany_0 22 rfl rfl
theorem dksX1_nearMany_2 : cX1_nearMany.data.toList.drop 45 = dktX1_nearMany_2 := dk_seg dksX1_nearMany_1 23 rfl rfl
theorem dX1_nearMany_0 : decode cX1_nearMany 0 = .ok (.iconst 0, 1) := dk_3 (dk_at dksX1_nearMany_0 0 rfl rfl)
theorem dX1_nearMany_1 : decode cX1_nearMany 1 = .ok (.istore_n 2, 1) := dk_61 (dk_at dksX1_nearMany_0 1 rfl rfl)
theorem dX1_nearMany_2 : decode cX1_nearMany 2 = .ok (.iconst 0, 1) := dk_3 (dk_at dksX1_nearMany_0 2 rfl rfl)
theorem dX1_nearMany_3 : decode cX1_nearMany 3 = .ok (.istore_n 3, 1) := dk_62 (dk_at dksX1_nearMany_0 3 rfl rfl)
theorem dX1_nearMany_4 : decode cX1_nearMany 4 = .ok (.iload_n 3, 1) := dk_29 (dk_at dksX1_nearMany_0 4 rfl rfl)
theorem dX1_nearMany_5 : decode cX1_nearMany 5 = .ok (.aload_n 0, 1) := dk_42 (dk_at dksX1_nearMany_0 5 rfl rfl)
theorem dX1_nearMany_6 : decode cX1_nearMany 6 = .ok (.getfield 90, 3) := dk_180 0 90 (dk_at dksX1_nearMany_0 6 rfl rfl)
theorem dX1_nearMany_9 : decode cX1_nearMany 9 = .ok (.getfield 136, 3) := dk_180 0 136 (dk_at dksX1_nearMany_0 9 rfl rfl)
theorem dX1_nearMany_12 : decode cX1_nearMany 12 = .ok (.invokeinterface 123 1, 5) := by decide +kernel
theorem dX1_nearMany_17 : decode cX1_nearMany 17 = .ok (.if_icmp .ge 39, 3) := dk_162 0 39 (dk_at dksX1_nearMany_0 17 rfl rfl)
theorem dX1_nearMany_20 : decode cX1_nearMany 20 = .ok (.iload_n 2, 1) := dk_28 (dk_at dksX1_nearMany_0 20 rfl rfl)
theorem dX1_nearMany_21 : decode cX1_nearMany 21 = .ok (.aload_n 0, 1) := dk_42 (dk_at dksX1_nearMany_0 21 rfl rfl)
theorem dX1_nearMany_22 : decode cX1_nearMany 22 = .ok (.getfield 90, 3) := dk_180 0 90 (dk_at dksX1_nearMany_1 0 rfl rfl)
theorem dX1_nearMany_25 : decode cX1_nearMany 25 = .ok (.iload_n 1, 1) := dk_27 (dk_at dksX1_nearMany_1 3 rfl rfl)
theorem dX1_nearMany_26 : decode cX1_nearMany 26 = .ok (.iload_n 3, 1) := dk_29 (dk_at dksX1_nearMany_1 4 rfl rfl)
theorem dX1_nearMany_27 : decode cX1_nearMany 27 = .ok (.invokevirtual 233, 3) := dk_182 0 233 (dk_at dksX1_nearMany_1 5 rfl rfl)
theorem dX1_nearMany_30 : decode cX1_nearMany 30 = .ok (.aload_n 0, 1) := dk_42 (dk_at dksX1_nearMany_1 8 rfl rfl)
theorem dX1_nearMany_31 : decode cX1_nearMany 31 = .ok (.getfield 90, 3) := dk_180 0 90 (dk_at dksX1_nearMany_1 9 rfl rfl)
theorem dX1_nearMany_34 : decode cX1_nearMany 34 = .ok (.getfield 164, 3) := dk_180 0 164 (dk_at dksX1_nearMany_1 12 rfl rfl)
theorem dX1_nearMany_37 : decode cX1_nearMany 37 = .ok (.if_icmp .gt 7, 3) := dk_163 0 7 (dk_at dksX1_nearMany_1 15 rfl rfl)
theorem dX1_nearMany_40 : decode cX1_nearMany 40 = .ok (.iconst 1, 1) := dk_4 (dk_at dksX1_nearMany_1 18 rfl rfl)
theorem dX1_nearMany_41 : decode cX1_nearMany 41 = .ok (.goto 4, 3) := dk_167 0 4 (dk_at dksX1_nearMany_1 19 rfl rfl)
theorem dX1_nearMany_44 : decode cX1_nearMany 44 = .ok (.iconst 0, 1) := dk_3 (dk_at dksX1_nearMany_1 22 rfl rfl)
theorem dX1_nearMany_45 : decode cX1_nearMany 45 = .ok (.invokestatic 147, 3) := dk_184 0 147 (dk_at dksX1_nearMany_2 0 rfl rfl)
theorem dX1_nearMany_48 : decode cX1_nearMany 48 = .ok (.iadd, 1) := dk_96 (dk_at dksX1_nearMany_2 3 rfl rfl)
theorem dX1_nearMany_49 : decode cX1_nearMany 49 = .ok (.istore_n 2, 1) := dk_61 (dk_at dksX1_nearMany_2 4 rfl rfl)
theorem dX1_nearMany_50 : decode cX1_nearMany 50 = .ok (.iinc 3 1, 3) := dk_132 3 1 (dk_at dksX1_nearMany_2 5 rfl rfl)
theorem dX1_nearMany_53 : decode cX1_nearMany 53 = .ok (.goto (-49), 3) := dk_167 255 207 (dk_at dksX1_nearMany_2 8 rfl rfl)
theorem dX1_nearMany_56 : decode cX1_nearMany 56 = .ok (.iload_n 2, 1) := dk_28 (dk_at dksX1_nearMany_2 11 rfl rfl)
theorem dX1_nearMany_57 : decode cX1_nearMany 57 = .ok (.ireturn, 1) := dk_172 (dk_at dksX1_nearMany_2 12 rfl rfl)
abbrev cX1_read : ByteArray := prog_1_method_37_code
def yX1_read : MethodName := ⟨RX1, "read", "(II)I"⟩
def dkwX1_read_0 : List UInt8 := [42, 27, 28, 182, 1, 9, 27, 182, 0, 236, 180, 1, 13, 28, 46, 172]
abbrev dktX1_read_0 : List UInt8 := dkwX1_read_0 ++ []
theorem dksX1_read_0 : cX1_read.data.toList.drop 0 = dktX1_read_0 := by decide +kernel
theorem dX1_read_0 : decode cX1_read 0 = .ok (.aload_n 0, 1) := dk_42 (dk_at dksX1_read_0 0 rfl rfl)
theorem dX1_read_1 : decode cX1_read 1 = .ok (.iload_n 1, 1) := dk_27 (dk_at dksX1_read_0 1 rfl rfl)
theorem dX1_read_2 : decode cX1_read 2 = .ok (.iload_n 2, 1) := dk_28 (dk_at dksX1_read_0 2 rfl rfl)
theorem dX1_read_3 : decode cX1_read 3 = .ok (.invokevirtual 265, 3) := dk_182 1 9 (dk_at dksX1_read_0 3 rfl rfl)
theorem dX1_read_6 : decode cX1_read 6 = .ok (.iload_n 1, 1) := dk_27 (dk_at dksX1_read_0 6 rfl rfl)
theorem dX1_read_7 : decode cX1_read 7 = .ok (.invokevirtual 236, 3) := dk_182 0 236 (dk_at dksX1_read_0 7 rfl rfl)
theorem dX1_read_10 : decode cX1_read 10 = .ok (.getfield 269, 3) := dk_180 1 13 (dk_at dksX1_read_0 10 rfl rfl)
theorem dX1_read_13 : decode cX1_read 13 = .ok (.iload_n 2, 1) := dk_28 (dk_at dksX1_read_0 13 rfl rfl)
theorem dX1_read_14 : decode cX1_read 14 = .ok (.iaload, 1) := dk_46 (dk_at dksX1_read_0 14 rfl rfl)
theorem dX1_read_15 : decode cX1_read 15 = .ok (.ireturn, 1) := dk_172 (dk_at dksX1_read_0 15 rfl rfl)
abbrev cX1_withPlace : ByteArray := prog_1_method_20_code
def yX1_withPlace : MethodName := ⟨RX1, "withPlace", "(II)LBadCodes$Office;"⟩
def dkwX1_withPlace_0 : List UInt8 := [42, 27, 182, 0, 139, 78, 28, 3, 7, 184, 0, 73, 184, 0, 77, 45, 176]
abbrev dktX1_withPlace_0 : List UInt8 := dkwX1_withPlace_0 ++ []
theorem dksX1_withPlace_0 : cX1_withPlace.data.toList.drop 0 = dktX1_withPlace_0 := by decide +kernel
theorem dX1_withPlace_0 : decode cX1_withPlace 0 = .ok (.aload_n 0, 1) := dk_42 (dk_at dksX1_withPlace_0 0 rfl rfl)
theorem dX1_withPlace_1 : decode cX1_withPlace 1 = .ok (.iload_n 1, 1) := dk_27 (dk_at dksX1_withPlace_0 1 rfl rfl)
theorem dX1_withPlace_2 : decode cX1_withPlace 2 = .ok (.invokevirtual 139, 3) := dk_182 0 139 (dk_at dksX1_withPlace_0 2 rfl rfl)
theorem dX1_withPlace_5 : decode cX1_withPlace 5 = .ok (.astore_n 3, 1) := dk_78 (dk_at dksX1_withPlace_0 5 rfl rfl)
theorem dX1_withPlace_6 : decode cX1_withPlace 6 = .ok (.iload_n 2, 1) := dk_28 (dk_at dksX1_withPlace_0 6 rfl rfl)
theorem dX1_withPlace_7 : decode cX1_withPlace 7 = .ok (.iconst 0, 1) := dk_3 (dk_at dksX1_withPlace_0 7 rfl rfl)
theorem dX1_withPlace_8 : decode cX1_withPlace 8 = .ok (.iconst 4, 1) := dk_7 (dk_at dksX1_withPlace_0 8 rfl rfl)
theorem dX1_withPlace_9 : decode cX1_withPlace 9 = .ok (.invokestatic 73, 3) := dk_184 0 73 (dk_at dksX1_withPlace_0 9 rfl rfl)
theorem dX1_withPlace_12 : decode cX1_withPlace 12 = .ok (.invokestatic 77, 3) := dk_184 0 77 (dk_at dksX1_withPlace_0 12 rfl rfl)
theorem dX1_withPlace_15 : decode cX1_withPlace 15 = .ok (.aload_n 3, 1) := dk_45 (dk_at dksX1_withPlace_0 15 rfl rfl)
theorem dX1_withPlace_16 : decode cX1_withPlace 16 = .ok (.areturn, 1) := dk_176 (dk_at dksX1_withPlace_0 16 rfl rfl)
abbrev cX1_isRight : ByteArray := prog_1_method_38_code
def yX1_isRight : MethodName := ⟨RX1, "isRight", "(I)Z"⟩
def dkwX1_isRight_2 : List UInt8 := [154, 0, 14, 29, 16, 10, 112, 154, 0, 7, 4, 167, 0, 4, 3, 172]
abbrev dktX1_isRight_2 : List UInt8 := dkwX1_isRight_2 ++ []
def dkwX1_isRight_1 : List UInt8 := [184, 0, 3, 44, 180, 1, 13, 21, 4, 46, 104, 96, 62, 132, 4, 1, 167, 255, 231, 44, 182, 0, 251]
abbrev dktX1_isRight_1 : List UInt8 := dkwX1_isRight_1 ++ dktX1_isRight_2
def dkwX1_isRight_0 : List UInt8 := [42, 27, 182, 0, 139, 27, 182, 0, 236, 77, 3, 62, 3, 54, 4, 21, 4, 8, 162, 0, 25, 29, 21, 4]
abbrev dktX1_isRight_0 : List UInt8 := dkwX1_isRight_0 ++ dktX1_isRight_1
theorem dksX1_isRight_0 : cX1_isRight.data.toList.drop 0 = dktX1_isRight_0 := by decide +kernel
theorem dksX1_isRight_1 : cX1_isRight.data.toList.drop 24 = dktX1_isRight_1 := dk_seg dksX1_isRight_0 24 rfl rfl
theorem dksX1_isRight_2 : cX1_isRight.data.toList.drop 47 = dktX1_isRight_2 := dk_seg dksX1_isRight_1 23 rfl rfl
theorem dX1_isRight_0 : decode cX1_isRight 0 = .ok (.aload_n 0, 1) := dk_42 (dk_at dksX1_isRight_0 0 rfl rfl)
theorem dX1_isRight_1 : decode cX1_isRight 1 = .ok (.iload_n 1, 1) := dk_27 (dk_at dksX1_isRight_0 1 rfl rfl)
theorem dX1_isRight_2 : decode cX1_isRight 2 = .ok (.invokevirtual 139, 3) := dk_182 0 139 (dk_at dksX1_isRight_0 2 rfl rfl)
theorem dX1_isRight_5 : decode cX1_isRight 5 = .ok (.iload_n 1, 1) := dk_27 (dk_at dksX1_isRight_0 5 rfl rfl)
theorem dX1_isRight_6 : decode cX1_isRight 6 = .ok (.invokevirtual 236, 3) := dk_182 0 236 (dk_at dksX1_isRight_0 6 rfl rfl)
theorem dX1_isRight_9 : decode cX1_isRight 9 = .ok (.astore_n 2, 1) := dk_77 (dk_at dksX1_isRight_0 9 rfl rfl)
theorem dX1_isRight_10 : decode cX1_isRight 10 = .ok (.iconst 0, 1) := dk_3 (dk_at dksX1_isRight_0 10 rfl rfl)
theorem dX1_isRight_11 : decode cX1_isRight 11 = .ok (.istore_n 3, 1) := dk_62 (dk_at dksX1_isRight_0 11 rfl rfl)
theorem dX1_isRight_12 : decode cX1_isRight 12 = .ok (.iconst 0, 1) := dk_3 (dk_at dksX1_isRight_0 12 rfl rfl)
theorem dX1_isRight_13 : decode cX1_isRight 13 = .ok (.istore 4, 2) := dk_54 4 (dk_at dksX1_isRight_0 13 rfl rfl)
theorem dX1_isRight_15 : decode cX1_isRight 15 = .ok (.iload 4, 2) := dk_21 4 (dk_at dksX1_isRight_0 15 rfl rfl)
theorem dX1_isRight_17 : decode cX1_isRight 17 = .ok (.iconst 5, 1) := dk_8 (dk_at dksX1_isRight_0 17 rfl rfl)
theorem dX1_isRight_18 : decode cX1_isRight 18 = .ok (.if_icmp .ge 25, 3) := dk_162 0 25 (dk_at dksX1_isRight_0 18 rfl rfl)
theorem dX1_isRight_21 : decode cX1_isRight 21 = .ok (.iload_n 3, 1) := dk_29 (dk_at dksX1_isRight_0 21 rfl rfl)
theorem dX1_isRight_22 : decode cX1_isRight 22 = .ok (.iload 4, 2) := dk_21 4 (dk_at dksX1_isRight_0 22 rfl rfl)
theorem dX1_isRight_24 : decode cX1_isRight 24 = .ok (.invokestatic 3, 3) := dk_184 0 3 (dk_at dksX1_isRight_1 0 rfl rfl)
theorem dX1_isRight_27 : decode cX1_isRight 27 = .ok (.aload_n 2, 1) := dk_44 (dk_at dksX1_isRight_1 3 rfl rfl)
theorem dX1_isRight_28 : decode cX1_isRight 28 = .ok (.getfield 269, 3) := dk_180 1 13 (dk_at dksX1_isRight_1 4 rfl rfl)
theorem dX1_isRight_31 : decode cX1_isRight 31 = .ok (.iload 4, 2) := dk_21 4 (dk_at dksX1_isRight_1 7 rfl rfl)
theorem dX1_isRight_33 : decode cX1_isRight 33 = .ok (.iaload, 1) := dk_46 (dk_at dksX1_isRight_1 9 rfl rfl)
theorem dX1_isRight_34 : decode cX1_isRight 34 = .ok (.imul, 1) := dk_104 (dk_at dksX1_isRight_1 10 rfl rfl)
theorem dX1_isRight_35 : decode cX1_isRight 35 = .ok (.iadd, 1) := dk_96 (dk_at dksX1_isRight_1 11 rfl rfl)
theorem dX1_isRight_36 : decode cX1_isRight 36 = .ok (.istore_n 3, 1) := dk_62 (dk_at dksX1_isRight_1 12 rfl rfl)
theorem dX1_isRight_37 : decode cX1_isRight 37 = .ok (.iinc 4 1, 3) := dk_132 4 1 (dk_at dksX1_isRight_1 13 rfl rfl)
theorem dX1_isRight_40 : decode cX1_isRight 40 = .ok (.goto (-25), 3) := dk_167 255 231 (dk_at dksX1_isRight_1 16 rfl rfl)
theorem dX1_isRight_43 : decode cX1_isRight 43 = .ok (.aload_n 2, 1) := dk_44 (dk_at dksX1_isRight_1 19 rfl rfl)
theorem dX1_isRight_44 : decode cX1_isRight 44 = .ok (.invokevirtual 251, 3) := dk_182 0 251 (dk_at dksX1_isRight_1 20 rfl rfl)
theorem dX1_isRight_47 : decode cX1_isRight 47 = .ok (.ifCond .ne 14, 3) := dk_154 0 14 (dk_at dksX1_isRight_2 0 rfl rfl)
theorem dX1_isRight_50 : decode cX1_isRight 50 = .ok (.iload_n 3, 1) := dk_29 (dk_at dksX1_isRight_2 3 rfl rfl)
theorem dX1_isRight_51 : decode cX1_isRight 51 = .ok (.bipush 10, 2) := dk_16 10 (dk_at dksX1_isRight_2 4 rfl rfl)
theorem dX1_isRight_53 : decode cX1_isRight 53 = .ok (.irem, 1) := dk_112 (dk_at dksX1_isRight_2 6 rfl rfl)
theorem dX1_isRight_54 : decode cX1_isRight 54 = .ok (.ifCond .ne 7, 3) := dk_154 0 7 (dk_at dksX1_isRight_2 7 rfl rfl)
theorem dX1_isRight_57 : decode cX1_isRight 57 = .ok (.iconst 1, 1) := dk_4 (dk_at dksX1_isRight_2 10 rfl rfl)
theorem dX1_isRight_58 : decode cX1_isRight 58 = .ok (.goto 4, 3) := dk_167 0 4 (dk_at dksX1_isRight_2 11 rfl rfl)
theorem dX1_isRight_61 : decode cX1_isRight 61 = .ok (.iconst 0, 1) := dk_3 (dk_at dksX1_isRight_2 14 rfl rfl)
theorem dX1_isRight_62 : decode cX1_isRight 62 = .ok (.ireturn, 1) := dk_172 (dk_at dksX1_isRight_2 15 rfl rfl)
abbrev cX1_distance : ByteArray := prog_1_method_39_code
def yX1_distance : MethodName := ⟨RX1, "distance", "(II)I"⟩
def dkwX1_distance_1 : List UInt8 := [184, 0, 77, 45, 27, 28, 182, 0, 233, 172]
abbrev dktX1_distance_1 : List UInt8 := dkwX1_distance_1 ++ []
def dkwX1_distance_0 : List UInt8 := [42, 27, 182, 0, 139, 78, 28, 3, 45, 180, 0, 136, 185, 0, 123, 1, 0, 4, 100, 184, 0, 73]
abbrev dktX1_distance_0 : List UInt8 := dkwX1_distance_0 ++ dktX1_distance_1
theorem dksX1_distance_0 : cX1_distance.data.toList.drop 0 = dktX1_distance_0 := by decide +kernel
theorem dksX1_distance_1 : cX1_distance.data.toList.drop 22 = dktX1_distance_1 := dk_seg dksX1_distance_0 22 rfl rfl
theorem dX1_distance_0 : decode cX1_distance 0 = .ok (.aload_n 0, 1) := dk_42 (dk_at dksX1_distance_0 0 rfl rfl)
theorem dX1_distance_1 : decode cX1_distance 1 = .ok (.iload_n 1, 1) := dk_27 (dk_at dksX1_distance_0 1 rfl rfl)
theorem dX1_distance_2 : decode cX1_distance 2 = .ok (.invokevirtual 139, 3) := dk_182 0 139 (dk_at dksX1_distance_0 2 rfl rfl)
theorem dX1_distance_5 : decode cX1_distance 5 = .ok (.astore_n 3, 1) := dk_78 (dk_at dksX1_distance_0 5 rfl rfl)
theorem dX1_distance_6 : decode cX1_distance 6 = .ok (.iload_n 2, 1) := dk_28 (dk_at dksX1_distance_0 6 rfl rfl)
theorem dX1_distance_7 : decode cX1_distance 7 = .ok (.iconst 0, 1) := dk_3 (dk_at dksX1_distance_0 7 rfl rfl)
theorem dX1_distance_8 : decode cX1_distance 8 = .ok (.aload_n 3, 1) := dk_45 (dk_at dksX1_distance_0 8 rfl rfl)
theorem dX1_distance_9 : decode cX1_distance 9 = .ok (.getfield 136, 3) := dk_180 0 136 (dk_at dksX1_distance_0 9 rfl rfl)
theorem dX1_distance_12 : decode cX1_distance 12 = .ok (.invokeinterface 123 1, 5) := by decide +kernel
theorem dX1_distance_17 : decode cX1_distance 17 = .ok (.iconst 1, 1) := dk_4 (dk_at dksX1_distance_0 17 rfl rfl)
theorem dX1_distance_18 : decode cX1_distance 18 = .ok (.isub, 1) := dk_100 (dk_at dksX1_distance_0 18 rfl rfl)
theorem dX1_distance_19 : decode cX1_distance 19 = .ok (.invokestatic 73, 3) := dk_184 0 73 (dk_at dksX1_distance_0 19 rfl rfl)
theorem dX1_distance_22 : decode cX1_distance 22 = .ok (.invokestatic 77, 3) := dk_184 0 77 (dk_at dksX1_distance_1 0 rfl rfl)
theorem dX1_distance_25 : decode cX1_distance 25 = .ok (.aload_n 3, 1) := dk_45 (dk_at dksX1_distance_1 3 rfl rfl)
theorem dX1_distance_26 : decode cX1_distance 26 = .ok (.iload_n 1, 1) := dk_27 (dk_at dksX1_distance_1 4 rfl rfl)
theorem dX1_distance_27 : decode cX1_distance 27 = .ok (.iload_n 2, 1) := dk_28 (dk_at dksX1_distance_1 5 rfl rfl)
theorem dX1_distance_28 : decode cX1_distance 28 = .ok (.invokevirtual 233, 3) := dk_182 0 233 (dk_at dksX1_distance_1 6 rfl rfl)
theorem dX1_distance_31 : decode cX1_distance 31 = .ok (.ireturn, 1) := dk_172 (dk_at dksX1_distance_1 9 rfl rfl)
abbrev cX1_near : ByteArray := prog_1_method_42_code
def yX1_near : MethodName := ⟨RX1, "near", "(II)I"⟩
def dkwX1_near_0 : List UInt8 := [42, 27, 182, 0, 139, 78, 42, 27, 28, 182, 1, 19, 172]
abbrev dktX1_near_0 : List UInt8 := dkwX1_near_0 ++ []
theorem dksX1_near_0 : cX1_near.data.toList.drop 0 = dktX1_near_0 := by decide +kernel
theorem dX1_near_0 : decode cX1_near 0 = .ok (.aload_n 0, 1) := dk_42 (dk_at dksX1_near_0 0 rfl rfl)
theorem dX1_near_1 : decode cX1_near 1 = .ok (.iload_n 1, 1) := dk_27 (dk_at dksX1_near_0 1 rfl rfl)
theorem dX1_near_2 : decode cX1_near 2 = .ok (.invokevirtual 139, 3) := dk_182 0 139 (dk_at dksX1_near_0 2 rfl rfl)
theorem dX1_near_5 : decode cX1_near 5 = .ok (.astore_n 3, 1) := dk_78 (dk_at dksX1_near_0 5 rfl rfl)
theorem dX1_near_6 : decode cX1_near 6 = .ok (.aload_n 0, 1) := dk_42 (dk_at dksX1_near_0 6 rfl rfl)
theorem dX1_near_7 : decode cX1_near 7 = .ok (.iload_n 1, 1) := dk_27 (dk_at dksX1_near_0 7 rfl rfl)
theorem dX1_near_8 : decode cX1_near 8 = .ok (.iload_n 2, 1) := dk_28 (dk_at dksX1_near_0 8 rfl rfl)
theorem dX1_near_9 : decode cX1_near 9 = .ok (.invokevirtual 275, 3) := dk_182 1 19 (dk_at dksX1_near_0 9 rfl rfl)
theorem dX1_near_12 : decode cX1_near 12 = .ok (.ireturn, 1) := dk_172 (dk_at dksX1_near_0 12 rfl rfl)
abbrev cX1_nearAt : ByteArray := prog_1_method_41_code
def yX1_nearAt : MethodName := ⟨RX1, "nearAt", "(II)I"⟩
def dkwX1_nearAt_2 : List UInt8 := [172, 132, 3, 1, 167, 255, 206, 2, 172]
abbrev dktX1_nearAt_2 : List UInt8 := dkwX1_nearAt_2 ++ []
def dkwX1_nearAt_1 : List UInt8 := [182, 0, 233, 42, 180, 0, 90, 180, 0, 164, 163, 0, 15, 42, 27, 29, 182, 1, 16, 28, 160, 0, 5, 29]
abbrev dktX1_nearAt_1 : List UInt8 := dkwX1_nearAt_1 ++ dktX1_nearAt_2
def dkwX1_nearAt_0 : List UInt8 := [3, 62, 29, 42, 180, 0, 90, 180, 0, 136, 185, 0, 123, 1, 0, 162, 0, 40, 42, 180, 0, 90, 27, 29]
abbrev dktX1_nearAt_0 : List UInt8 := dkwX1_nearAt_0 ++ dktX1_nearAt_1
theorem dksX1_nearAt_0 : cX1_nearAt.data.toList.drop 0 = dktX1_nearAt_0 := by decide +kernel
theorem dksX1_nearAt_1 : cX1_nearAt.data.toList.drop 24 = dktX1_nearAt_1 := dk_seg dksX1_nearAt_0 24 rfl rfl
theorem dksX1_nearAt_2 : cX1_nearAt.data.toList.drop 48 = dktX1_nearAt_2 := dk_seg dksX1_nearAt_1 24 rfl rfl
theorem dX1_nearAt_0 : decode cX1_nearAt 0 = .ok (.iconst 0, 1) := dk_3 (dk_at dksX1_nearAt_0 0 rfl rfl)
theorem dX1_nearAt_1 : decode cX1_nearAt 1 = .ok (.istore_n 3, 1) := dk_62 (dk_at dksX1_nearAt_0 1 rfl rfl)
theorem dX1_nearAt_2 : decode cX1_nearAt 2 = .ok (.iload_n 3, 1) := dk_29 (dk_at dksX1_nearAt_0 2 rfl rfl)
theorem dX1_nearAt_3 : decode cX1_nearAt 3 = .ok (.aload_n 0, 1) := dk_42 (dk_at dksX1_nearAt_0 3 rfl rfl)
theorem dX1_nearAt_4 : decode cX1_nearAt 4 = .ok (.getfield 90, 3) := dk_180 0 90 (dk_at dksX1_nearAt_0 4 rfl rfl)
theorem dX1_nearAt_7 : decode cX1_nearAt 7 = .ok (.getfield 136, 3) := dk_180 0 136 (dk_at dksX1_nearAt_0 7 rfl rfl)
theorem dX1_nearAt_10 : decode cX1_nearAt 10 = .ok (.invokeinterface 123 1, 5) := by decide +kernel
theorem dX1_nearAt_15 : decode cX1_nearAt 15 = .ok (.if_icmp .ge 40, 3) := dk_162 0 40 (dk_at dksX1_nearAt_0 15 rfl rfl)
theorem dX1_nearAt_18 : decode cX1_nearAt 18 = .ok (.aload_n 0, 1) := dk_42 (dk_at dksX1_nearAt_0 18 rfl rfl)
theorem dX1_nearAt_19 : decode cX1_nearAt 19 = .ok (.getfield 90, 3) := dk_180 0 90 (dk_at dksX1_nearAt_0 19 rfl rfl)
theorem dX1_nearAt_22 : decode cX1_nearAt 22 = .ok (.iload_n 1, 1) := dk_27 (dk_at dksX1_nearAt_0 22 rfl rfl)
theorem dX1_nearAt_23 : decode cX1_nearAt 23 = .ok (.iload_n 3, 1) := dk_29 (dk_at dksX1_nearAt_0 23 rfl rfl)
theorem dX1_nearAt_24 : decode cX1_nearAt 24 = .ok (.invokevirtual 233, 3) := dk_182 0 233 (dk_at dksX1_nearAt_1 0 rfl rfl)
theorem dX1_nearAt_27 : decode cX1_nearAt 27 = .ok (.aload_n 0, 1) := dk_42 (dk_at dksX1_nearAt_1 3 rfl rfl)
theorem dX1_nearAt_28 : decode cX1_nearAt 28 = .ok (.getfield 90, 3) := dk_180 0 90 (dk_at dksX1_nearAt_1 4 rfl rfl)
theorem dX1_nearAt_31 : decode cX1_nearAt 31 = .ok (.getfield 164, 3) := dk_180 0 164 (dk_at dksX1_nearAt_1 7 rfl rfl)
theorem dX1_nearAt_34 : decode cX1_nearAt 34 = .ok (.if_icmp .gt 15, 3) := dk_163 0 15 (dk_at dksX1_nearAt_1 10 rfl rfl)
theorem dX1_nearAt_37 : decode cX1_nearAt 37 = .ok (.aload_n 0, 1) := dk_42 (dk_at dksX1_nearAt_1 13 rfl rfl)
theorem dX1_nearAt_38 : decode cX1_nearAt 38 = .ok (.iload_n 1, 1) := dk_27 (dk_at dksX1_nearAt_1 14 rfl rfl)
theorem dX1_nearAt_39 : decode cX1_nearAt 39 = .ok (.iload_n 3, 1) := dk_29 (dk_at dksX1_nearAt_1 15 rfl rfl)
theorem dX1_nearAt_40 : decode cX1_nearAt 40 = .ok (.invokevirtual 272, 3) := dk_182 1 16 (dk_at dksX1_nearAt_1 16 rfl rfl)
theorem dX1_nearAt_43 : decode cX1_nearAt 43 = .ok (.iload_n 2, 1) := dk_28 (dk_at dksX1_nearAt_1 19 rfl rfl)
theorem dX1_nearAt_44 : decode cX1_nearAt 44 = .ok (.if_icmp .ne 5, 3) := dk_160 0 5 (dk_at dksX1_nearAt_1 20 rfl rfl)
theorem dX1_nearAt_47 : decode cX1_nearAt 47 = .ok (.iload_n 3, 1) := dk_29 (dk_at dksX1_nearAt_1 23 rfl rfl)
theorem dX1_nearAt_48 : decode cX1_nearAt 48 = .ok (.ireturn, 1) := dk_172 (dk_at dksX1_nearAt_2 0 rfl rfl)
theorem dX1_nearAt_49 : decode cX1_nearAt 49 = .ok (.iinc 3 1, 3) := dk_132 3 1 (dk_at dksX1_nearAt_2 1 rfl rfl)
theorem dX1_nearAt_52 : decode cX1_nearAt 52 = .ok (.goto (-50), 3) := dk_167 255 206 (dk_at dksX1_nearAt_2 4 rfl rfl)
theorem dX1_nearAt_55 : decode cX1_nearAt 55 = .ok (.iconst (-1), 1) := dk_2 (dk_at dksX1_nearAt_2 7 rfl rfl)
theorem dX1_nearAt_56 : decode cX1_nearAt 56 = .ok (.ireturn, 1) := dk_172 (dk_at dksX1_nearAt_2 8 rfl rfl)
abbrev cX1_ahead : ByteArray := prog_1_method_40_code
def yX1_ahead : MethodName := ⟨RX1, "ahead", "(II)I"⟩
def dkwX1_ahead_3 : List UInt8 := [167, 0, 4, 3, 184, 0, 147, 96, 54, 4, 132, 5, 1, 167, 255, 189, 21, 4, 172]
abbrev dktX1_ahead_3 : List UInt8 := dkwX1_ahead_3 ++ []
def dkwX1_ahead_2 : List UInt8 := [161, 0, 23, 42, 180, 0, 90, 27, 21, 5, 182, 0, 233, 29, 160, 0, 13, 21, 5, 28, 162, 0, 7, 4]
abbrev dktX1_ahead_2 : List UInt8 := dkwX1_ahead_2 ++ dktX1_ahead_3
def dkwX1_ahead_1 : List UInt8 := [180, 0, 136, 185, 0, 123, 1, 0, 162, 0, 56, 21, 4, 42, 180, 0, 90, 27, 21, 5, 182, 0, 233, 29]
abbrev dktX1_ahead_1 : List UInt8 := dkwX1_ahead_1 ++ dktX1_ahead_2
def dkwX1_ahead_0 : List UInt8 := [42, 180, 0, 90, 27, 28, 182, 0, 233, 62, 3, 54, 4, 3, 54, 5, 21, 5, 42, 180, 0, 90]
abbrev dktX1_ahead_0 : List UInt8 := dkwX1_ahead_0 ++ dktX1_ahead_1
theorem dksX1_ahead_0 : cX1_ahead.data.toList.drop 0 = dktX1_ahead_0 := by decide +kernel
theorem dksX1_ahead_1 : cX1_ahead.data.toList.drop 22 = dktX1_ahead_1 := dk_seg dksX1_ahead_0 22 rfl rfl
theorem dksX1_ahead_2 : cX1_ahead.data.toList.drop 46 = dktX1_ahead_2 := dk_seg dksX1_ahead_1 24 rfl rfl
theorem dksX1_ahead_3 : cX1_ahead.data.toList.drop 70 = dktX1_ahead_3 := dk_seg dksX1_ahead_2 24 rfl rfl
theorem dX1_ahead_0 : decode cX1_ahead 0 = .ok (.aload_n 0, 1) := dk_42 (dk_at dksX1_ahead_0 0 rfl rfl)
theorem dX1_ahead_1 : decode cX1_ahead 1 = .ok (.getfield 90, 3) := dk_180 0 90 (dk_at dksX1_ahead_0 1 rfl rfl)
theorem dX1_ahead_4 : decode cX1_ahead 4 = .ok (.iload_n 1, 1) := dk_27 (dk_at dksX1_ahead_0 4 rfl rfl)
theorem dX1_ahead_5 : decode cX1_ahead 5 = .ok (.iload_n 2, 1) := dk_28 (dk_at dksX1_ahead_0 5 rfl rfl)
theorem dX1_ahead_6 : decode cX1_ahead 6 = .ok (.invokevirtual 233, 3) := dk_182 0 233 (dk_at dksX1_ahead_0 6 rfl rfl)
theorem dX1_ahead_9 : decode cX1_ahead 9 = .ok (.istore_n 3, 1) := dk_62 (dk_at dksX1_ahead_0 9 rfl rfl)
theorem dX1_ahead_10 : decode cX1_ahead 10 = .ok (.iconst 0, 1) := dk_3 (dk_at dksX1_ahead_0 10 rfl rfl)
theorem dX1_ahead_11 : decode cX1_ahead 11 = .ok (.istore 4, 2) := dk_54 4 (dk_at dksX1_ahead_0 11 rfl rfl)
theorem dX1_ahead_13 : decode cX1_ahead 13 = .ok (.iconst 0, 1) := dk_3 (dk_at dksX1_ahead_0 13 rfl rfl)
theorem dX1_ahead_14 : decode cX1_ahead 14 = .ok (.istore 5, 2) := dk_54 5 (dk_at dksX1_ahead_0 14 rfl rfl)
theorem dX1_ahead_16 : decode cX1_ahead 16 = .ok (.iload 5, 2) := dk_21 5 (dk_at dksX1_ahead_0 16 rfl rfl)
theorem dX1_ahead_18 : decode cX1_ahead 18 = .ok (.aload_n 0, 1) := dk_42 (dk_at dksX1_ahead_0 18 rfl rfl)
theorem dX1_ahead_19 : decode cX1_ahead 19 = .ok (.getfield 90, 3) := dk_180 0 90 (dk_at dksX1_ahead_0 19 rfl rfl)
theorem dX1_ahead_22 : decode cX1_ahead 22 = .ok (.getfield 136, 3) := dk_180 0 136 (dk_at dksX1_ahead_1 0 rfl rfl)
theorem dX1_ahead_25 : decode cX1_ahead 25 = .ok (.invokeinterface 123 1, 5) := by decide +kernel
theorem dX1_ahead_30 : decode cX1_ahead 30 = .ok (.if_icmp .ge 56, 3) := dk_162 0 56 (dk_at dksX1_ahead_1 8 rfl rfl)
theorem dX1_ahead_33 : decode cX1_ahead 33 = .ok (.iload 4, 2) := dk_21 4 (dk_at dksX1_ahead_1 11 rfl rfl)
theorem dX1_ahead_35 : decode cX1_ahead 35 = .ok (.aload_n 0, 1) := dk_42 (dk_at dksX1_ahead_1 13 rfl rfl)
theorem dX1_ahead_36 : decode cX1_ahead 36 = .ok (.getfield 90, 3) := dk_180 0 90 (dk_at dksX1_ahead_1 14 rfl rfl)
theorem dX1_ahead_39 : decode cX1_ahead 39 = .ok (.iload_n 1, 1) := dk_27 (dk_at dksX1_ahead_1 17 rfl rfl)
theorem dX1_ahead_40 : decode cX1_ahead 40 = .ok (.iload 5, 2) := dk_21 5 (dk_at dksX1_ahead_1 18 rfl rfl)
theorem dX1_ahead_42 : decode cX1_ahead 42 = .ok (.invokevirtual 233, 3) := dk_182 0 233 (dk_at dksX1_ahead_1 20 rfl rfl)
theorem dX1_ahead_45 : decode cX1_ahead 45 = .ok (.iload_n 3, 1) := dk_29 (dk_at dksX1_ahead_1 23 rfl rfl)
theorem dX1_ahead_46 : decode cX1_ahead 46 = .ok (.if_icmp .lt 23, 3) := dk_161 0 23 (dk_at dksX1_ahead_2 0 rfl rfl)
theorem dX1_ahead_49 : decode cX1_ahead 49 = .ok (.aload_n 0, 1) := dk_42 (dk_at dksX1_ahead_2 3 rfl rfl)
theorem dX1_ahead_50 : decode cX1_ahead 50 = .ok (.getfield 90, 3) := dk_180 0 90 (dk_at dksX1_ahead_2 4 rfl rfl)
theorem dX1_ahead_53 : decode cX1_ahead 53 = .ok (.iload_n 1, 1) := dk_27 (dk_at dksX1_ahead_2 7 rfl rfl)
theorem dX1_ahead_54 : decode cX1_ahead 54 = .ok (.iload 5, 2) := dk_21 5 (dk_at dksX1_ahead_2 8 rfl rfl)
theorem dX1_ahead_56 : decode cX1_ahead 56 = .ok (.invokevirtual 233, 3) := dk_182 0 233 (dk_at dksX1_ahead_2 10 rfl rfl)
theorem dX1_ahead_59 : decode cX1_ahead 59 = .ok (.iload_n 3, 1) := dk_29 (dk_at dksX1_ahead_2 13 rfl rfl)
theorem dX1_ahead_60 : decode cX1_ahead 60 = .ok (.if_icmp .ne 13, 3) := dk_160 0 13 (dk_at dksX1_ahead_2 14 rfl rfl)
theorem dX1_ahead_63 : decode cX1_ahead 63 = .ok (.iload 5, 2) := dk_21 5 (dk_at dksX1_ahead_2 17 rfl rfl)
theorem dX1_ahead_65 : decode cX1_ahead 65 = .ok (.iload_n 2, 1) := dk_28 (dk_at dksX1_ahead_2 19 rfl rfl)
theorem dX1_ahead_66 : decode cX1_ahead 66 = .ok (.if_icmp .ge 7, 3) := dk_162 0 7 (dk_at dksX1_ahead_2 20 rfl rfl)
theorem dX1_ahead_69 : decode cX1_ahead 69 = .ok (.iconst 1, 1) := dk_4 (dk_at dksX1_ahead_2 23 rfl rfl)
theorem dX1_ahead_70 : decode cX1_ahead 70 = .ok (.goto 4, 3) := dk_167 0 4 (dk_at dksX1_ahead_3 0 rfl rfl)
theorem dX1_ahead_73 : decode cX1_ahead 73 = .ok (.iconst 0, 1) := dk_3 (dk_at dksX1_ahead_3 3 rfl rfl)
theorem dX1_ahead_74 : decode cX1_ahead 74 = .ok (.invokestatic 147, 3) := dk_184 0 147 (dk_at dksX1_ahead_3 4 rfl rfl)
theorem dX1_ahead_77 : decode cX1_ahead 77 = .ok (.iadd, 1) := dk_96 (dk_at dksX1_ahead_3 7 rfl rfl)
theorem dX1_ahead_78 : decode cX1_ahead 78 = .ok (.istore 4, 2) := dk_54 4 (dk_at dksX1_ahead_3 8 rfl rfl)
theorem dX1_ahead_80 : decode cX1_ahead 80 = .ok (.iinc 5 1, 3) := dk_132 5 1 (dk_at dksX1_ahead_3 10 rfl rfl)
theorem dX1_ahead_83 : decode cX1_ahead 83 = .ok (.goto (-67), 3) := dk_167 255 189 (dk_at dksX1_ahead_3 13 rfl rfl)
theorem dX1_ahead_86 : decode cX1_ahead 86 = .ok (.iload 4, 2) := dk_21 4 (dk_at dksX1_ahead_3 16 rfl rfl)
theorem dX1_ahead_88 : decode cX1_ahead 88 = .ok (.ireturn, 1) := dk_172 (dk_at dksX1_ahead_3 18 rfl rfl)
abbrev cX1_decided : ByteArray := prog_1_method_43_code
def yX1_decided : MethodName := ⟨RX1, "decided", "(I)I"⟩
def dkwX1_decided_0 : List UInt8 := [42, 27, 182, 0, 139, 27, 182, 1, 22, 172]
abbrev dktX1_decided_0 : List UInt8 := dkwX1_decided_0 ++ []
theorem dksX1_decided_0 : cX1_decided.data.toList.drop 0 = dktX1_decided_0 := by decide +kernel
theorem dX1_decided_0 : decode cX1_decided 0 = .ok (.aload_n 0, 1) := dk_42 (dk_at dksX1_decided_0 0 rfl rfl)
theorem dX1_decided_1 : decode cX1_decided 1 = .ok (.iload_n 1, 1) := dk_27 (dk_at dksX1_decided_0 1 rfl rfl)
theorem dX1_decided_2 : decode cX1_decided 2 = .ok (.invokevirtual 139, 3) := dk_182 0 139 (dk_at dksX1_decided_0 2 rfl rfl)
theorem dX1_decided_5 : decode cX1_decided 5 = .ok (.iload_n 1, 1) := dk_27 (dk_at dksX1_decided_0 5 rfl rfl)
theorem dX1_decided_6 : decode cX1_decided 6 = .ok (.invokevirtual 278, 3) := dk_182 1 22 (dk_at dksX1_decided_0 6 rfl rfl)
theorem dX1_decided_9 : decode cX1_decided 9 = .ok (.ireturn, 1) := dk_172 (dk_at dksX1_decided_0 9 rfl rfl)
abbrev cX1_how : ByteArray := prog_1_method_44_code
def yX1_how : MethodName := ⟨RX1, "how", "(I)I"⟩
def dkwX1_how_1 : List UInt8 := [160, 0, 5, 6, 172, 44, 27, 182, 1, 28, 154, 0, 7, 4, 167, 0, 4, 5, 172]
abbrev dktX1_how_1 : List UInt8 := dkwX1_how_1 ++ []
def dkwX1_how_0 : List UInt8 := [42, 27, 182, 0, 139, 77, 44, 27, 182, 1, 22, 2, 160, 0, 5, 3, 172, 44, 27, 182, 1, 25, 2]
abbrev dktX1_how_0 : List UInt8 := dkwX1_how_0 ++ dktX1_how_1
theorem dksX1_how_0 : cX1_how.data.toList.drop 0 = dktX1_how_0 := by decide +kernel
theorem dksX1_how_1 : cX1_how.data.toList.drop 23 = dktX1_how_1 := dk_seg dksX1_how_0 23 rfl rfl
theorem dX1_how_0 : decode cX1_how 0 = .ok (.aload_n 0, 1) := dk_42 (dk_at dksX1_how_0 0 rfl rfl)
theorem dX1_how_1 : decode cX1_how 1 = .ok (.iload_n 1, 1) := dk_27 (dk_at dksX1_how_0 1 rfl rfl)
theorem dX1_how_2 : decode cX1_how 2 = .ok (.invokevirtual 139, 3) := dk_182 0 139 (dk_at dksX1_how_0 2 rfl rfl)
theorem dX1_how_5 : decode cX1_how 5 = .ok (.astore_n 2, 1) := dk_77 (dk_at dksX1_how_0 5 rfl rfl)
theorem dX1_how_6 : decode cX1_how 6 = .ok (.aload_n 2, 1) := dk_44 (dk_at dksX1_how_0 6 rfl rfl)
theorem dX1_how_7 : decode cX1_how 7 = .ok (.iload_n 1, 1) := dk_27 (dk_at dksX1_how_0 7 rfl rfl)
theorem dX1_how_8 : decode cX1_how 8 = .ok (.invokevirtual 278, 3) := dk_182 1 22 (dk_at dksX1_how_0 8 rfl rfl)
theorem dX1_how_11 : decode cX1_how 11 = .ok (.iconst (-1), 1) := dk_2 (dk_at dksX1_how_0 11 rfl rfl)
theorem dX1_how_12 : decode cX1_how 12 = .ok (.if_icmp .ne 5, 3) := dk_160 0 5 (dk_at dksX1_how_0 12 rfl rfl)
theorem dX1_how_15 : decode cX1_how 15 = .ok (.iconst 0, 1) := dk_3 (dk_at dksX1_how_0 15 rfl rfl)
theorem dX1_how_16 : decode cX1_how 16 = .ok (.ireturn, 1) := dk_172 (dk_at dksX1_how_0 16 rfl rfl)
theorem dX1_how_17 : decode cX1_how 17 = .ok (.aload_n 2, 1) := dk_44 (dk_at dksX1_how_0 17 rfl rfl)
theorem dX1_how_18 : decode cX1_how 18 = .ok (.iload_n 1, 1) := dk_27 (dk_at dksX1_how_0 18 rfl rfl)
theorem dX1_how_19 : decode cX1_how 19 = .ok (.invokevirtual 281, 3) := dk_182 1 25 (dk_at dksX1_how_0 19 rfl rfl)
theorem dX1_how_22 : decode cX1_how 22 = .ok (.iconst (-1), 1) := dk_2 (dk_at dksX1_how_0 22 rfl rfl)
theorem dX1_how_23 : decode cX1_how 23 = .ok (.if_icmp .ne 5, 3) := dk_160 0 5 (dk_at dksX1_how_1 0 rfl rfl)
theorem dX1_how_26 : decode cX1_how 26 = .ok (.iconst 3, 1) := dk_6 (dk_at dksX1_how_1 3 rfl rfl)
theorem dX1_how_27 : decode cX1_how 27 = .ok (.ireturn, 1) := dk_172 (dk_at dksX1_how_1 4 rfl rfl)
theorem dX1_how_28 : decode cX1_how 28 = .ok (.aload_n 2, 1) := dk_44 (dk_at dksX1_how_1 5 rfl rfl)
theorem dX1_how_29 : decode cX1_how 29 = .ok (.iload_n 1, 1) := dk_27 (dk_at dksX1_how_1 6 rfl rfl)
theorem dX1_how_30 : decode cX1_how 30 = .ok (.invokevirtual 284, 3) := dk_182 1 28 (dk_at dksX1_how_1 7 rfl rfl)
theorem dX1_how_33 : decode cX1_how 33 = .ok (.ifCond .ne 7, 3) := dk_154 0 7 (dk_at dksX1_how_1 10 rfl rfl)
theorem dX1_how_36 : decode cX1_how 36 = .ok (.iconst 1, 1) := dk_4 (dk_at dksX1_how_1 13 rfl rfl)
theorem dX1_how_37 : decode cX1_how 37 = .ok (.goto 4, 3) := dk_167 0 4 (dk_at dksX1_how_1 14 rfl rfl)
theorem dX1_how_40 : decode cX1_how 40 = .ok (.iconst 2, 1) := dk_5 (dk_at dksX1_how_1 17 rfl rfl)
theorem dX1_how_41 : decode cX1_how 41 = .ok (.ireturn, 1) := dk_172 (dk_at dksX1_how_1 18 rfl rfl)
abbrev cX1_whyNot : ByteArray := prog_1_method_45_code
def yX1_whyNot : MethodName := ⟨RX1, "whyNot", "(I)I"⟩
def dkwX1_whyNot_0 : List UInt8 := [42, 27, 182, 0, 139, 27, 182, 1, 31, 172]
abbrev dktX1_whyNot_0 : List UInt8 := dkwX1_whyNot_0 ++ []
theorem dksX1_whyNot_0 : cX1_whyNot.data.toList.drop 0 = dktX1_whyNot_0 := by decide +kernel
theorem dX1_whyNot_0 : decode cX1_whyNot 0 = .ok (.aload_n 0, 1) := dk_42 (dk_at dksX1_whyNot_0 0 rfl rfl)
theorem dX1_whyNot_1 : decode cX1_whyNot 1 = .ok (.iload_n 1, 1) := dk_27 (dk_at dksX1_whyNot_0 1 rfl rfl)
theorem dX1_whyNot_2 : decode cX1_whyNot 2 = .ok (.invokevirtual 139, 3) := dk_182 0 139 (dk_at dksX1_whyNot_0 2 rfl rfl)
theorem dX1_whyNot_5 : decode cX1_whyNot 5 = .ok (.iload_n 1, 1) := dk_27 (dk_at dksX1_whyNot_0 5 rfl rfl)
theorem dX1_whyNot_6 : decode cX1_whyNot 6 = .ok (.invokevirtual 287, 3) := dk_182 1 31 (dk_at dksX1_whyNot_0 6 rfl rfl)
theorem dX1_whyNot_9 : decode cX1_whyNot 9 = .ok (.ireturn, 1) := dk_172 (dk_at dksX1_whyNot_0 9 rfl rfl)
abbrev cX1_margin : ByteArray := prog_1_method_46_code
def yX1_margin : MethodName := ⟨RX1, "margin", "(I)I"⟩
def dkwX1_margin_3 : List UInt8 := [180, 0, 136, 185, 0, 123, 1, 0, 4, 160, 0, 7, 2, 167, 0, 7, 21, 4, 29, 100, 172]
abbrev dktX1_margin_3 : List UInt8 := dkwX1_margin_3 ++ []
def dkwX1_margin_2 : List UInt8 := [184, 0, 16, 184, 0, 11, 54, 4, 29, 21, 6, 184, 0, 11, 62, 132, 5, 1, 167, 255, 210, 44]
abbrev dktX1_margin_2 : List UInt8 := dkwX1_margin_2 ++ dktX1_margin_3
def dkwX1_margin_1 : List UInt8 := [185, 0, 123, 1, 0, 162, 0, 38, 44, 27, 21, 5, 182, 0, 233, 54, 6, 21, 4, 29, 21, 6]
abbrev dktX1_margin_1 : List UInt8 := dkwX1_margin_1 ++ dktX1_margin_2
def dkwX1_margin_0 : List UInt8 := [42, 27, 182, 0, 139, 77, 16, 11, 62, 16, 11, 54, 4, 3, 54, 5, 21, 5, 44, 180, 0, 136]
abbrev dktX1_margin_0 : List UInt8 := dkwX1_margin_0 ++ dktX1_margin_1
theorem dksX1_margin_0 : cX1_margin.data.toList.drop 0 = dktX1_margin_0 := by decide +kernel
theorem dksX1_margin_1 : cX1_margin.data.toList.drop 22 = dktX1_margin_1 := dk_seg dksX1_margin_0 22 rfl rfl
theorem dksX1_margin_2 : cX1_margin.data.toList.drop 44 = dktX1_margin_2 := dk_seg dksX1_margin_1 22 rfl rfl
theorem dksX1_margin_3 : cX1_margin.data.toList.drop 66 = dktX1_margin_3 := dk_seg dksX1_margin_2 22 rfl rfl
theorem dX1_margin_0 : decode cX1_margin 0 = .ok (.aload_n 0, 1) := dk_42 (dk_at dksX1_margin_0 0 rfl rfl)
theorem dX1_margin_1 : decode cX1_margin 1 = .ok (.iload_n 1, 1) := dk_27 (dk_at dksX1_margin_0 1 rfl rfl)
theorem dX1_margin_2 : decode cX1_margin 2 = .ok (.invokevirtual 139, 3) := dk_182 0 139 (dk_at dksX1_margin_0 2 rfl rfl)
theorem dX1_margin_5 : decode cX1_margin 5 = .ok (.astore_n 2, 1) := dk_77 (dk_at dksX1_margin_0 5 rfl rfl)
theorem dX1_margin_6 : decode cX1_margin 6 = .ok (.bipush 11, 2) := dk_16 11 (dk_at dksX1_margin_0 6 rfl rfl)
theorem dX1_margin_8 : decode cX1_margin 8 = .ok (.istore_n 3, 1) := dk_62 (dk_at dksX1_margin_0 8 rfl rfl)
theorem dX1_margin_9 : decode cX1_margin 9 = .ok (.bipush 11, 2) := dk_16 11 (dk_at dksX1_margin_0 9 rfl rfl)
theorem dX1_margin_11 : decode cX1_margin 11 = .ok (.istore 4, 2) := dk_54 4 (dk_at dksX1_margin_0 11 rfl rfl)
theorem dX1_margin_13 : decode cX1_margin 13 = .ok (.iconst 0, 1) := dk_3 (dk_at dksX1_margin_0 13 rfl rfl)
theorem dX1_margin_14 : decode cX1_margin 14 = .ok (.istore 5, 2) := dk_54 5 (dk_at dksX1_margin_0 14 rfl rfl)
theorem dX1_margin_16 : decode cX1_margin 16 = .ok (.iload 5, 2) := dk_21 5 (dk_at dksX1_margin_0 16 rfl rfl)
theorem dX1_margin_18 : decode cX1_margin 18 = .ok (.aload_n 2, 1) := dk_44 (dk_at dksX1_margin_0 18 rfl rfl)
theorem dX1_margin_19 : decode cX1_margin 19 = .ok (.getfield 136, 3) := dk_180 0 136 (dk_at dksX1_margin_0 19 rfl rfl)
theorem dX1_margin_22 : decode cX1_margin 22 = .ok (.invokeinterface 123 1, 5) := by decide +kernel
theorem dX1_margin_27 : decode cX1_margin 27 = .ok (.if_icmp .ge 38, 3) := dk_162 0 38 (dk_at dksX1_margin_1 5 rfl rfl)
theorem dX1_margin_30 : decode cX1_margin 30 = .ok (.aload_n 2, 1) := dk_44 (dk_at dksX1_margin_1 8 rfl rfl)
theorem dX1_margin_31 : decode cX1_margin 31 = .ok (.iload_n 1, 1) := dk_27 (dk_at dksX1_margin_1 9 rfl rfl)
theorem dX1_margin_32 : decode cX1_margin 32 = .ok (.iload 5, 2) := dk_21 5 (dk_at dksX1_margin_1 10 rfl rfl)
theorem dX1_margin_34 : decode cX1_margin 34 = .ok (.invokevirtual 233, 3) := dk_182 0 233 (dk_at dksX1_margin_1 12 rfl rfl)
theorem dX1_margin_37 : decode cX1_margin 37 = .ok (.istore 6, 2) := dk_54 6 (dk_at dksX1_margin_1 15 rfl rfl)
theorem dX1_margin_39 : decode cX1_margin 39 = .ok (.iload 4, 2) := dk_21 4 (dk_at dksX1_margin_1 17 rfl rfl)
theorem dX1_margin_41 : decode cX1_margin 41 = .ok (.iload_n 3, 1) := dk_29 (dk_at dksX1_margin_1 19 rfl rfl)
theorem dX1_margin_42 : decode cX1_margin 42 = .ok (.iload 6, 2) := dk_21 6 (dk_at dksX1_margin_1 20 rfl rfl)
theorem dX1_margin_44 : decode cX1_margin 44 = .ok (.invokestatic 16, 3) := dk_184 0 16 (dk_at dksX1_margin_2 0 rfl rfl)
theorem dX1_margin_47 : decode cX1_margin 47 = .ok (.invokestatic 11, 3) := dk_184 0 11 (dk_at dksX1_margin_2 3 rfl rfl)
theorem dX1_margin_50 : decode cX1_margin 50 = .ok (.istore 4, 2) := dk_54 4 (dk_at dksX1_margin_2 6 rfl rfl)
theorem dX1_margin_52 : decode cX1_margin 52 = .ok (.iload_n 3, 1) := dk_29 (dk_at dksX1_margin_2 8 rfl rfl)
theorem dX1_margin_53 : decode cX1_margin 53 = .ok (.iload 6, 2) := dk_21 6 (dk_at dksX1_margin_2 9 rfl rfl)
theorem dX1_margin_55 : decode cX1_margin 55 = .ok (.invokestatic 11, 3) := dk_184 0 11 (dk_at dksX1_margin_2 11 rfl rfl)
theorem dX1_margin_58 : decode cX1_margin 58 = .ok (.istore_n 3, 1) := dk_62 (dk_at dksX1_margin_2 14 rfl rfl)
theorem dX1_margin_59 : decode cX1_margin 59 = .ok (.iinc 5 1, 3) := dk_132 5 1 (dk_at dksX1_margin_2 15 rfl rfl)
theorem dX1_margin_62 : decode cX1_margin 62 = .ok (.goto (-46), 3) := dk_167 255 210 (dk_at dksX1_margin_2 18 rfl rfl)
theorem dX1_margin_65 : decode cX1_margin 65 = .ok (.aload_n 2, 1) := dk_44 (dk_at dksX1_margin_2 21 rfl rfl)
theorem dX1_margin_66 : decode cX1_margin 66 = .ok (.getfield 136, 3) := dk_180 0 136 (dk_at dksX1_margin_3 0 rfl rfl)
theorem dX1_margin_69 : decode cX1_margin 69 = .ok (.invokeinterface 123 1, 5) := by decide +kernel
theorem dX1_margin_74 : decode cX1_margin 74 = .ok (.iconst 1, 1) := dk_4 (dk_at dksX1_margin_3 8 rfl rfl)
theorem dX1_margin_75 : decode cX1_margin 75 = .ok (.if_icmp .ne 7, 3) := dk_160 0 7 (dk_at dksX1_margin_3 9 rfl rfl)
theorem dX1_margin_78 : decode cX1_margin 78 = .ok (.iconst (-1), 1) := dk_2 (dk_at dksX1_margin_3 12 rfl rfl)
theorem dX1_margin_79 : decode cX1_margin 79 = .ok (.goto 7, 3) := dk_167 0 7 (dk_at dksX1_margin_3 13 rfl rfl)
theorem dX1_margin_82 : decode cX1_margin 82 = .ok (.iload 4, 2) := dk_21 4 (dk_at dksX1_margin_3 16 rfl rfl)
theorem dX1_margin_84 : decode cX1_margin 84 = .ok (.iload_n 3, 1) := dk_29 (dk_at dksX1_margin_3 18 rfl rfl)
theorem dX1_margin_85 : decode cX1_margin 85 = .ok (.isub, 1) := dk_100 (dk_at dksX1_margin_3 19 rfl rfl)
theorem dX1_margin_86 : decode cX1_margin 86 = .ok (.ireturn, 1) := dk_172 (dk_at dksX1_margin_3 20 rfl rfl)
abbrev cX1_mended : ByteArray := prog_1_method_47_code
def yX1_mended : MethodName := ⟨RX1, "mended", "(I)I"⟩
def dkwX1_mended_3 : List UInt8 := [132, 5, 1, 167, 255, 210, 21, 4, 172]
abbrev dktX1_mended_3 : List UInt8 := dkwX1_mended_3 ++ []
def dkwX1_mended_2 : List UInt8 := [182, 0, 195, 21, 5, 182, 0, 218, 159, 0, 7, 4, 167, 0, 4, 3, 184, 0, 147, 96, 54, 4]
abbrev dktX1_mended_2 : List UInt8 := dkwX1_mended_2 ++ dktX1_mended_3
def dkwX1_mended_1 : List UInt8 := [54, 5, 21, 5, 8, 162, 0, 46, 21, 4, 44, 27, 182, 0, 236, 180, 1, 13, 21, 5, 46, 44, 29]
abbrev dktX1_mended_1 : List UInt8 := dkwX1_mended_1 ++ dktX1_mended_2
def dkwX1_mended_0 : List UInt8 := [42, 27, 182, 0, 139, 77, 44, 27, 182, 1, 22, 62, 29, 2, 160, 0, 5, 2, 172, 3, 54, 4, 3]
abbrev dktX1_mended_0 : List UInt8 := dkwX1_mended_0 ++ dktX1_mended_1
theorem dksX1_mended_0 : cX1_mended.data.toList.drop 0 = dktX1_mended_0 := by decide +kernel
theorem dksX1_mended_1 : cX1_mended.data.toList.drop 23 = dktX1_mended_1 := dk_seg dksX1_mended_0 23 rfl rfl
theorem dksX1_mended_2 : cX1_mended.data.toList.drop 46 = dktX1_mended_2 := dk_seg dksX1_mended_1 23 rfl rfl
theorem dksX1_mended_3 : cX1_mended.data.toList.drop 68 = dktX1_mended_3 := dk_seg dksX1_mended_2 22 rfl rfl
theorem dX1_mended_0 : decode cX1_mended 0 = .ok (.aload_n 0, 1) := dk_42 (dk_at dksX1_mended_0 0 rfl rfl)
theorem dX1_mended_1 : decode cX1_mended 1 = .ok (.iload_n 1, 1) := dk_27 (dk_at dksX1_mended_0 1 rfl rfl)
theorem dX1_mended_2 : decode cX1_mended 2 = .ok (.invokevirtual 139, 3) := dk_182 0 139 (dk_at dksX1_mended_0 2 rfl rfl)
theorem dX1_mended_5 : decode cX1_mended 5 = .ok (.astore_n 2, 1) := dk_77 (dk_at dksX1_mended_0 5 rfl rfl)
theorem dX1_mended_6 : decode cX1_mended 6 = .ok (.aload_n 2, 1) := dk_44 (dk_at dksX1_mended_0 6 rfl rfl)
theorem dX1_mended_7 : decode cX1_mended 7 = .ok (.iload_n 1, 1) := dk_27 (dk_at dksX1_mended_0 7 rfl rfl)
theorem dX1_mended_8 : decode cX1_mended 8 = .ok (.invokevirtual 278, 3) := dk_182 1 22 (dk_at dksX1_mended_0 8 rfl rfl)
theorem dX1_mended_11 : decode cX1_mended 11 = .ok (.istore_n 3, 1) := dk_62 (dk_at dksX1_mended_0 11 rfl rfl)
theorem dX1_mended_12 : decode cX1_mended 12 = .ok (.iload_n 3, 1) := dk_29 (dk_at dksX1_mended_0 12 rfl rfl)
theorem dX1_mended_13 : decode cX1_mended 13 = .ok (.iconst (-1), 1) := dk_2 (dk_at dksX1_mended_0 13 rfl rfl)
theorem dX1_mended_14 : decode cX1_mended 14 = .ok (.if_icmp .ne 5, 3) := dk_160 0 5 (dk_at dksX1_mended_0 14 rfl rfl)
theorem dX1_mended_17 : decode cX1_mended 17 = .ok (.iconst (-1), 1) := dk_2 (dk_at dksX1_mended_0 17 rfl rfl)
theorem dX1_mended_18 : decode cX1_mended 18 = .ok (.ireturn, 1) := dk_172 (dk_at dksX1_mended_0 18 rfl rfl)
theorem dX1_mended_19 : decode cX1_mended 19 = .ok (.iconst 0, 1) := dk_3 (dk_at dksX1_mended_0 19 rfl rfl)
theorem dX1_mended_20 : decode cX1_mended 20 = .ok (.istore 4, 2) := dk_54 4 (dk_at dksX1_mended_0 20 rfl rfl)
theorem dX1_mended_22 : decode cX1_mended 22 = .ok (.iconst 0, 1) := dk_3 (dk_at dksX1_mended_0 22 rfl rfl)
theorem dX1_mended_23 : decode cX1_mended 23 = .ok (.istore 5, 2) := dk_54 5 (dk_at dksX1_mended_1 0 rfl rfl)
theorem dX1_mended_25 : decode cX1_mended 25 = .ok (.iload 5, 2) := dk_21 5 (dk_at dksX1_mended_1 2 rfl rfl)
theorem dX1_mended_27 : decode cX1_mended 27 = .ok (.iconst 5, 1) := dk_8 (dk_at dksX1_mended_1 4 rfl rfl)
theorem dX1_mended_28 : decode cX1_mended 28 = .ok (.if_icmp .ge 46, 3) := dk_162 0 46 (dk_at dksX1_mended_1 5 rfl rfl)
theorem dX1_mended_31 : decode cX1_mended 31 = .ok (.iload 4, 2) := dk_21 4 (dk_at dksX1_mended_1 8 rfl rfl)
theorem dX1_mended_33 : decode cX1_mended 33 = .ok (.aload_n 2, 1) := dk_44 (dk_at dksX1_mended_1 10 rfl rfl)
theorem dX1_mended_34 : decode cX1_mended 34 = .ok (.iload_n 1, 1) := dk_27 (dk_at dksX1_mended_1 11 rfl rfl)
theorem dX1_mended_35 : decode cX1_mended 35 = .ok (.invokevirtual 236, 3) := dk_182 0 236 (dk_at dksX1_mended_1 12 rfl rfl)
theorem dX1_mended_38 : decode cX1_mended 38 = .ok (.getfield 269, 3) := dk_180 1 13 (dk_at dksX1_mended_1 15 rfl rfl)
theorem dX1_mended_41 : decode cX1_mended 41 = .ok (.iload 5, 2) := dk_21 5 (dk_at dksX1_mended_1 18 rfl rfl)
theorem dX1_mended_43 : decode cX1_mended 43 = .ok (.iaload, 1) := dk_46 (dk_at dksX1_mended_1 20 rfl rfl)
theorem dX1_mended_44 : decode cX1_mended 44 = .ok (.aload_n 2, 1) := dk_44 (dk_at dksX1_mended_1 21 rfl rfl)
theorem dX1_mended_45 : decode cX1_mended 45 = .ok (.iload_n 3, 1) := dk_29 (dk_at dksX1_mended_1 22 rfl rfl)
theorem dX1_mended_46 : decode cX1_mended 46 = .ok (.invokevirtual 195, 3) := dk_182 0 195 (dk_at dksX1_mended_2 0 rfl rfl)
theorem dX1_mended_49 : decode cX1_mended 49 = .ok (.iload 5, 2) := dk_21 5 (dk_at dksX1_mended_2 3 rfl rfl)
theorem dX1_mended_51 : decode cX1_mended 51 = .ok (.invokevirtual 218, 3) := dk_182 0 218 (dk_at dksX1_mended_2 5 rfl rfl)
theorem dX1_mended_54 : decode cX1_mended 54 = .ok (.if_icmp .eq 7, 3) := dk_159 0 7 (dk_at dksX1_mended_2 8 rfl rfl)
theorem dX1_mended_57 : decode cX1_mended 57 = .ok (.iconst 1, 1) := dk_4 (dk_at dksX1_mended_2 11 rfl rfl)
theorem dX1_mended_58 : decode cX1_mended 58 = .ok (.goto 4, 3) := dk_167 0 4 (dk_at dksX1_mended_2 12 rfl rfl)
theorem dX1_mended_61 : decode cX1_mended 61 = .ok (.iconst 0, 1) := dk_3 (dk_at dksX1_mended_2 15 rfl rfl)
theorem dX1_mended_62 : decode cX1_mended 62 = .ok (.invokestatic 147, 3) := dk_184 0 147 (dk_at dksX1_mended_2 16 rfl rfl)
theorem dX1_mended_65 : decode cX1_mended 65 = .ok (.iadd, 1) := dk_96 (dk_at dksX1_mended_2 19 rfl rfl)
theorem dX1_mended_66 : decode cX1_mended 66 = .ok (.istore 4, 2) := dk_54 4 (dk_at dksX1_mended_2 20 rfl rfl)
theorem dX1_mended_68 : decode cX1_mended 68 = .ok (.iinc 5 1, 3) := dk_132 5 1 (dk_at dksX1_mended_3 0 rfl rfl)
theorem dX1_mended_71 : decode cX1_mended 71 = .ok (.goto (-46), 3) := dk_167 255 210 (dk_at dksX1_mended_3 3 rfl rfl)
theorem dX1_mended_74 : decode cX1_mended 74 = .ok (.iload 4, 2) := dk_21 4 (dk_at dksX1_mended_3 6 rfl rfl)
theorem dX1_mended_76 : decode cX1_mended 76 = .ok (.ireturn, 1) := dk_172 (dk_at dksX1_mended_3 8 rfl rfl)
abbrev cX1_whyNotAgain : ByteArray := prog_1_method_48_code
def yX1_whyNotAgain : MethodName := ⟨RX1, "whyNotAgain", "(I)I"⟩
def dkwX1_whyNotAgain_0 : List UInt8 := [42, 27, 182, 0, 139, 27, 182, 1, 34, 172]
abbrev dktX1_whyNotAgain_0 : List UInt8 := dkwX1_whyNotAgain_0 ++ []
theorem dksX1_whyNotAgain_0 : cX1_whyNotAgain.data.toList.drop 0 = dktX1_whyNotAgain_0 := by decide +kernel
theorem dX1_whyNotAgain_0 : decode cX1_whyNotAgain 0 = .ok (.aload_n 0, 1) := dk_42 (dk_at dksX1_whyNotAgain_0 0 rfl rfl)
theorem dX1_whyNotAgain_1 : decode cX1_whyNotAgain 1 = .ok (.iload_n 1, 1) := dk_27 (dk_at dksX1_whyNotAgain_0 1 rfl rfl)
theorem dX1_whyNotAgain_2 : decode cX1_whyNotAgain 2 = .ok (.invokevirtual 139, 3) := dk_182 0 139 (dk_at dksX1_whyNotAgain_0 2 rfl rfl)
theorem dX1_whyNotAgain_5 : decode cX1_whyNotAgain 5 = .ok (.iload_n 1, 1) := dk_27 (dk_at dksX1_whyNotAgain_0 5 rfl rfl)
theorem dX1_whyNotAgain_6 : decode cX1_whyNotAgain 6 = .ok (.invokevirtual 290, 3) := dk_182 1 34 (dk_at dksX1_whyNotAgain_0 6 rfl rfl)
theorem dX1_whyNotAgain_9 : decode cX1_whyNotAgain 9 = .ok (.ireturn, 1) := dk_172 (dk_at dksX1_whyNotAgain_0 9 rfl rfl)
abbrev cX1_leastFix : ByteArray := prog_1_method_52_code
def yX1_leastFix : MethodName := ⟨RX1, "leastFix", "(I)I"⟩
def dkwX1_leastFix_0 : List UInt8 := [42, 27, 182, 0, 139, 27, 182, 0, 236, 184, 1, 51, 172]
abbrev dktX1_leastFix_0 : List UInt8 := dkwX1_leastFix_0 ++ []
theorem dksX1_leastFix_0 : cX1_leastFix.data.toList.drop 0 = dktX1_leastFix_0 := by decide +kernel
theorem dX1_leastFix_0 : decode cX1_leastFix 0 = .ok (.aload_n 0, 1) := dk_42 (dk_at dksX1_leastFix_0 0 rfl rfl)
theorem dX1_leastFix_1 : decode cX1_leastFix 1 = .ok (.iload_n 1, 1) := dk_27 (dk_at dksX1_leastFix_0 1 rfl rfl)
theorem dX1_leastFix_2 : decode cX1_leastFix 2 = .ok (.invokevirtual 139, 3) := dk_182 0 139 (dk_at dksX1_leastFix_0 2 rfl rfl)
theorem dX1_leastFix_5 : decode cX1_leastFix 5 = .ok (.iload_n 1, 1) := dk_27 (dk_at dksX1_leastFix_0 5 rfl rfl)
theorem dX1_leastFix_6 : decode cX1_leastFix 6 = .ok (.invokevirtual 236, 3) := dk_182 0 236 (dk_at dksX1_leastFix_0 6 rfl rfl)
theorem dX1_leastFix_9 : decode cX1_leastFix 9 = .ok (.invokestatic 307, 3) := dk_184 1 51 (dk_at dksX1_leastFix_0 9 rfl rfl)
theorem dX1_leastFix_12 : decode cX1_leastFix 12 = .ok (.ireturn, 1) := dk_172 (dk_at dksX1_leastFix_0 12 rfl rfl)
abbrev cX1_leastFix_2 : ByteArray := prog_1_method_51_code
def yX1_leastFix_2 : MethodName := ⟨RX1, "leastFix", "(LBadCodes$Letter;)I"⟩
def dkwX1_leastFix_2_0 : List UInt8 := [42, 184, 1, 47, 76, 3, 61, 43, 28, 46, 154, 0, 9, 132, 2, 1, 167, 255, 247, 28, 172]
abbrev dktX1_leastFix_2_0 : List UInt8 := dkwX1_leastFix_2_0 ++ []
theorem dksX1_leastFix_2_0 : cX1_leastFix_2.data.toList.drop 0 = dktX1_leastFix_2_0 := by decide +kernel
theorem dX1_leastFix_2_0 : decode cX1_leastFix_2 0 = .ok (.aload_n 0, 1) := dk_42 (dk_at dksX1_leastFix_2_0 0 rfl rfl)
theorem dX1_leastFix_2_1 : decode cX1_leastFix_2 1 = .ok (.invokestatic 303, 3) := dk_184 1 47 (dk_at dksX1_leastFix_2_0 1 rfl rfl)
theorem dX1_leastFix_2_4 : decode cX1_leastFix_2 4 = .ok (.astore_n 1, 1) := dk_76 (dk_at dksX1_leastFix_2_0 4 rfl rfl)
theorem dX1_leastFix_2_5 : decode cX1_leastFix_2 5 = .ok (.iconst 0, 1) := dk_3 (dk_at dksX1_leastFix_2_0 5 rfl rfl)
theorem dX1_leastFix_2_6 : decode cX1_leastFix_2 6 = .ok (.istore_n 2, 1) := dk_61 (dk_at dksX1_leastFix_2_0 6 rfl rfl)
theorem dX1_leastFix_2_7 : decode cX1_leastFix_2 7 = .ok (.aload_n 1, 1) := dk_43 (dk_at dksX1_leastFix_2_0 7 rfl rfl)
theorem dX1_leastFix_2_8 : decode cX1_leastFix_2 8 = .ok (.iload_n 2, 1) := dk_28 (dk_at dksX1_leastFix_2_0 8 rfl rfl)
theorem dX1_leastFix_2_9 : decode cX1_leastFix_2 9 = .ok (.iaload, 1) := dk_46 (dk_at dksX1_leastFix_2_0 9 rfl rfl)
theorem dX1_leastFix_2_10 : decode cX1_leastFix_2 10 = .ok (.ifCond .ne 9, 3) := dk_154 0 9 (dk_at dksX1_leastFix_2_0 10 rfl rfl)
theorem dX1_leastFix_2_13 : decode cX1_leastFix_2 13 = .ok (.iinc 2 1, 3) := dk_132 2 1 (dk_at dksX1_leastFix_2_0 13 rfl rfl)
theorem dX1_leastFix_2_16 : decode cX1_leastFix_2 16 = .ok (.goto (-9), 3) := dk_167 255 247 (dk_at dksX1_leastFix_2_0 16 rfl rfl)
theorem dX1_leastFix_2_19 : decode cX1_leastFix_2 19 = .ok (.iload_n 2, 1) := dk_28 (dk_at dksX1_leastFix_2_0 19 rfl rfl)
theorem dX1_leastFix_2_20 : decode cX1_leastFix_2 20 = .ok (.ireturn, 1) := dk_172 (dk_at dksX1_leastFix_2_0 20 rfl rfl)
abbrev cX1_rightByDistance : ByteArray := prog_1_method_49_code
def yX1_rightByDistance : MethodName := ⟨RX1, "rightByDistance", "(LBadCodes$Letter;)[I"⟩
def dkwX1_rightByDistance_2 : List UInt8 := [184, 1, 41, 44, 176]
abbrev dktX1_rightByDistance_2 : List UInt8 := dkwX1_rightByDistance_2 ++ []
def dkwX1_rightByDistance_1 : List UInt8 := [184, 0, 3, 184, 1, 37, 76, 132, 2, 1, 167, 255, 233, 16, 11, 188, 10, 77, 43, 3, 44, 3, 16, 11]
abbrev dktX1_rightByDistance_1 : List UInt8 := dkwX1_rightByDistance_1 ++ dktX1_rightByDistance_2
def dkwX1_rightByDistance_0 : List UInt8 := [16, 110, 188, 10, 76, 43, 3, 4, 79, 3, 61, 28, 8, 162, 0, 24, 43, 42, 180, 1, 13, 28, 46, 28]
abbrev dktX1_rightByDistance_0 : List UInt8 := dkwX1_rightByDistance_0 ++ dktX1_rightByDistance_1
theorem dksX1_rightByDistance_0 : cX1_rightByDistance.data.toList.drop 0 = dktX1_rightByDistance_0 := by decide +kernel
theorem dksX1_rightByDistance_1 : cX1_rightByDistance.data.toList.drop 24 = dktX1_rightByDistance_1 := dk_seg dksX1_rightByDistance_0 24 rfl rfl
theorem dksX1_rightByDistance_2 : cX1_rightByDistance.data.toList.drop 48 = dktX1_rightByDistance_2 := dk_seg dksX1_rightByDistance_1 24 rfl rfl
theorem dX1_rightByDistance_0 : decode cX1_rightByDistance 0 = .ok (.bipush 110, 2) := dk_16 110 (dk_at dksX1_rightByDistance_0 0 rfl rfl)
theorem dX1_rightByDistance_2 : decode cX1_rightByDistance 2 = .ok (.newarray .int, 2) := dk_188_10 (dk_at dksX1_rightByDistance_0 2 rfl rfl)
theorem dX1_rightByDistance_4 : decode cX1_rightByDistance 4 = .ok (.astore_n 1, 1) := dk_76 (dk_at dksX1_rightByDistance_0 4 rfl rfl)
theorem dX1_rightByDistance_5 : decode cX1_rightByDistance 5 = .ok (.aload_n 1, 1) := dk_43 (dk_at dksX1_rightByDistance_0 5 rfl rfl)
theorem dX1_rightByDistance_6 : decode cX1_rightByDistance 6 = .ok (.iconst 0, 1) := dk_3 (dk_at dksX1_rightByDistance_0 6 rfl rfl)
theorem dX1_rightByDistance_7 : decode cX1_rightByDistance 7 = .ok (.iconst 1, 1) := dk_4 (dk_at dksX1_rightByDistance_0 7 rfl rfl)
theorem dX1_rightByDistance_8 : decode cX1_rightByDistance 8 = .ok (.iastore, 1) := dk_79 (dk_at dksX1_rightByDistance_0 8 rfl rfl)
theorem dX1_rightByDistance_9 : decode cX1_rightByDistance 9 = .ok (.iconst 0, 1) := dk_3 (dk_at dksX1_rightByDistance_0 9 rfl rfl)
theorem dX1_rightByDistance_10 : decode cX1_rightByDistance 10 = .ok (.istore_n 2, 1) := dk_61 (dk_at dksX1_rightByDistance_0 10 rfl rfl)
theorem dX1_rightByDistance_11 : decode cX1_rightByDistance 11 = .ok (.iload_n 2, 1) := dk_28 (dk_at dksX1_rightByDistance_0 11 rfl rfl)
theorem dX1_rightByDistance_12 : decode cX1_rightByDistance 12 = .ok (.iconst 5, 1) := dk_8 (dk_at dksX1_rightByDistance_0 12 rfl rfl)
theorem dX1_rightByDistance_13 : decode cX1_rightByDistance 13 = .ok (.if_icmp .ge 24, 3) := dk_162 0 24 (dk_at dksX1_rightByDistance_0 13 rfl rfl)
theorem dX1_rightByDistance_16 : decode cX1_rightByDistance 16 = .ok (.aload_n 1, 1) := dk_43 (dk_at dksX1_rightByDistance_0 16 rfl rfl)
theorem dX1_rightByDistance_17 : decode cX1_rightByDistance 17 = .ok (.aload_n 0, 1) := dk_42 (dk_at dksX1_rightByDistance_0 17 rfl rfl)
theorem dX1_rightByDistance_18 : decode cX1_rightByDistance 18 = .ok (.getfield 269, 3) := dk_180 1 13 (dk_at dksX1_rightByDistance_0 18 rfl rfl)
theorem dX1_rightByDistance_21 : decode cX1_rightByDistance 21 = .ok (.iload_n 2, 1) := dk_28 (dk_at dksX1_rightByDistance_0 21 rfl rfl)
theorem dX1_rightByDistance_22 : decode cX1_rightByDistance 22 = .ok (.iaload, 1) := dk_46 (dk_at dksX1_rightByDistance_0 22 rfl rfl)
theorem dX1_rightByDistance_23 : decode cX1_rightByDistance 23 = .ok (.iload_n 2, 1) := dk_28 (dk_at dksX1_rightByDistance_0 23 rfl rfl)
theorem dX1_rightByDistance_24 : decode cX1_rightByDistance 24 = .ok (.invokestatic 3, 3) := dk_184 0 3 (dk_at dksX1_rightByDistance_1 0 rfl rfl)
theorem dX1_rightByDistance_27 : decode cX1_rightByDistance 27 = .ok (.invokestatic 293, 3) := dk_184 1 37 (dk_at dksX1_rightByDistance_1 3 rfl rfl)
theorem dX1_rightByDistance_30 : decode cX1_rightByDistance 30 = .ok (.astore_n 1, 1) := dk_76 (dk_at dksX1_rightByDistance_1 6 rfl rfl)
theorem dX1_rightByDistance_31 : decode cX1_rightByDistance 31 = .ok (.iinc 2 1, 3) := dk_132 2 1 (dk_at dksX1_rightByDistance_1 7 rfl rfl)
theorem dX1_rightByDistance_34 : decode cX1_rightByDistance 34 = .ok (.goto (-23), 3) := dk_167 255 233 (dk_at dksX1_rightByDistance_1 10 rfl rfl)
theorem dX1_rightByDistance_37 : decode cX1_rightByDistance 37 = .ok (.bipush 11, 2) := dk_16 11 (dk_at dksX1_rightByDistance_1 13 rfl rfl)
theorem dX1_rightByDistance_39 : decode cX1_rightByDistance 39 = .ok (.newarray .int, 2) := dk_188_10 (dk_at dksX1_rightByDistance_1 15 rfl rfl)
theorem dX1_rightByDistance_41 : decode cX1_rightByDistance 41 = .ok (.astore_n 2, 1) := dk_77 (dk_at dksX1_rightByDistance_1 17 rfl rfl)
theorem dX1_rightByDistance_42 : decode cX1_rightByDistance 42 = .ok (.aload_n 1, 1) := dk_43 (dk_at dksX1_rightByDistance_1 18 rfl rfl)
theorem dX1_rightByDistance_43 : decode cX1_rightByDistance 43 = .ok (.iconst 0, 1) := dk_3 (dk_at dksX1_rightByDistance_1 19 rfl rfl)
theorem dX1_rightByDistance_44 : decode cX1_rightByDistance 44 = .ok (.aload_n 2, 1) := dk_44 (dk_at dksX1_rightByDistance_1 20 rfl rfl)
theorem dX1_rightByDistance_45 : decode cX1_rightByDistance 45 = .ok (.iconst 0, 1) := dk_3 (dk_at dksX1_rightByDistance_1 21 rfl rfl)
theorem dX1_rightByDistance_46 : decode cX1_rightByDistance 46 = .ok (.bipush 11, 2) := dk_16 11 (dk_at dksX1_rightByDistance_1 22 rfl rfl)
theorem dX1_rightByDistance_48 : decode cX1_rightByDistance 48 = .ok (.invokestatic 297, 3) := dk_184 1 41 (dk_at dksX1_rightByDistance_2 0 rfl rfl)
theorem dX1_rightByDistance_51 : decode cX1_rightByDistance 51 = .ok (.aload_n 2, 1) := dk_44 (dk_at dksX1_rightByDistance_2 3 rfl rfl)
theorem dX1_rightByDistance_52 : decode cX1_rightByDistance 52 = .ok (.areturn, 1) := dk_176 (dk_at dksX1_rightByDistance_2 4 rfl rfl)
abbrev cX1_oneMore : ByteArray := prog_1_method_50_code
def yX1_oneMore : MethodName := ⟨RX1, "oneMore", "([III)[I"⟩
def dkwX1_oneMore_3 : List UInt8 := [92, 46, 42, 21, 4, 46, 96, 79, 132, 5, 1, 167, 255, 204, 132, 4, 1, 167, 255, 178, 45, 176]
abbrev dktX1_oneMore_3 : List UInt8 := dkwX1_oneMore_3 ++ []
def dkwX1_oneMore_2 : List UInt8 := [16, 10, 112, 54, 6, 45, 16, 11, 21, 6, 104, 21, 4, 16, 11, 112, 96, 27, 21, 5, 184, 0, 226, 96]
abbrev dktX1_oneMore_2 : List UInt8 := dkwX1_oneMore_2 ++ dktX1_oneMore_3
def dkwX1_oneMore_1 : List UInt8 := [167, 0, 61, 3, 54, 5, 21, 5, 16, 10, 162, 0, 51, 21, 4, 16, 11, 108, 28, 21, 5, 104, 96]
abbrev dktX1_oneMore_1 : List UInt8 := dkwX1_oneMore_1 ++ dktX1_oneMore_2
def dkwX1_oneMore_0 : List UInt8 := [42, 190, 188, 10, 78, 3, 54, 4, 21, 4, 42, 190, 162, 0, 77, 42, 21, 4, 46, 154, 0, 6]
abbrev dktX1_oneMore_0 : List UInt8 := dkwX1_oneMore_0 ++ dktX1_oneMore_1
theorem dksX1_oneMore_0 : cX1_oneMore.data.toList.drop 0 = dktX1_oneMore_0 := by decide +kernel
theorem dksX1_oneMore_1 : cX1_oneMore.data.toList.drop 22 = dktX1_oneMore_1 := dk_seg dksX1_oneMore_0 22 rfl rfl
theorem dksX1_oneMore_2 : cX1_oneMore.data.toList.drop 45 = dktX1_oneMore_2 := dk_seg dksX1_oneMore_1 23 rfl rfl
theorem dksX1_oneMore_3 : cX1_oneMore.data.toList.drop 69 = dktX1_oneMore_3 := dk_seg dksX1_oneMore_2 24 rfl rfl
theorem dX1_oneMore_0 : decode cX1_oneMore 0 = .ok (.aload_n 0, 1) := dk_42 (dk_at dksX1_oneMore_0 0 rfl rfl)
theorem dX1_oneMore_1 : decode cX1_oneMore 1 = .ok (.arraylength, 1) := dk_190 (dk_at dksX1_oneMore_0 1 rfl rfl)
theorem dX1_oneMore_2 : decode cX1_oneMore 2 = .ok (.newarray .int, 2) := dk_188_10 (dk_at dksX1_oneMore_0 2 rfl rfl)
theorem dX1_oneMore_4 : decode cX1_oneMore 4 = .ok (.astore_n 3, 1) := dk_78 (dk_at dksX1_oneMore_0 4 rfl rfl)
theorem dX1_oneMore_5 : decode cX1_oneMore 5 = .ok (.iconst 0, 1) := dk_3 (dk_at dksX1_oneMore_0 5 rfl rfl)
theorem dX1_oneMore_6 : decode cX1_oneMore 6 = .ok (.istore 4, 2) := dk_54 4 (dk_at dksX1_oneMore_0 6 rfl rfl)
theorem dX1_oneMore_8 : decode cX1_oneMore 8 = .ok (.iload 4, 2) := dk_21 4 (dk_at dksX1_oneMore_0 8 rfl rfl)
theorem dX1_oneMore_10 : decode cX1_oneMore 10 = .ok (.aload_n 0, 1) := dk_42 (dk_at dksX1_oneMore_0 10 rfl rfl)
theorem dX1_oneMore_11 : decode cX1_oneMore 11 = .ok (.arraylength, 1) := dk_190 (dk_at dksX1_oneMore_0 11 rfl rfl)
theorem dX1_oneMore_12 : decode cX1_oneMore 12 = .ok (.if_icmp .ge 77, 3) := dk_162 0 77 (dk_at dksX1_oneMore_0 12 rfl rfl)
theorem dX1_oneMore_15 : decode cX1_oneMore 15 = .ok (.aload_n 0, 1) := dk_42 (dk_at dksX1_oneMore_0 15 rfl rfl)
theorem dX1_oneMore_16 : decode cX1_oneMore 16 = .ok (.iload 4, 2) := dk_21 4 (dk_at dksX1_oneMore_0 16 rfl rfl)
theorem dX1_oneMore_18 : decode cX1_oneMore 18 = .ok (.iaload, 1) := dk_46 (dk_at dksX1_oneMore_0 18 rfl rfl)
theorem dX1_oneMore_19 : decode cX1_oneMore 19 = .ok (.ifCond .ne 6, 3) := dk_154 0 6 (dk_at dksX1_oneMore_0 19 rfl rfl)
theorem dX1_oneMore_22 : decode cX1_oneMore 22 = .ok (.goto 61, 3) := dk_167 0 61 (dk_at dksX1_oneMore_1 0 rfl rfl)
theorem dX1_oneMore_25 : decode cX1_oneMore 25 = .ok (.iconst 0, 1) := dk_3 (dk_at dksX1_oneMore_1 3 rfl rfl)
theorem dX1_oneMore_26 : decode cX1_oneMore 26 = .ok (.istore 5, 2) := dk_54 5 (dk_at dksX1_oneMore_1 4 rfl rfl)
theorem dX1_oneMore_28 : decode cX1_oneMore 28 = .ok (.iload 5, 2) := dk_21 5 (dk_at dksX1_oneMore_1 6 rfl rfl)
theorem dX1_oneMore_30 : decode cX1_oneMore 30 = .ok (.bipush 10, 2) := dk_16 10 (dk_at dksX1_oneMore_1 8 rfl rfl)
theorem dX1_oneMore_32 : decode cX1_oneMore 32 = .ok (.if_icmp .ge 51, 3) := dk_162 0 51 (dk_at dksX1_oneMore_1 10 rfl rfl)
theorem dX1_oneMore_35 : decode cX1_oneMore 35 = .ok (.iload 4, 2) := dk_21 4 (dk_at dksX1_oneMore_1 13 rfl rfl)
theorem dX1_oneMore_37 : decode cX1_oneMore 37 = .ok (.bipush 11, 2) := dk_16 11 (dk_at dksX1_oneMore_1 15 rfl rfl)
theorem dX1_oneMore_39 : decode cX1_oneMore 39 = .ok (.idiv, 1) := dk_108 (dk_at dksX1_oneMore_1 17 rfl rfl)
theorem dX1_oneMore_40 : decode cX1_oneMore 40 = .ok (.iload_n 2, 1) := dk_28 (dk_at dksX1_oneMore_1 18 rfl rfl)
theorem dX1_oneMore_41 : decode cX1_oneMore 41 = .ok (.iload 5, 2) := dk_21 5 (dk_at dksX1_oneMore_1 19 rfl rfl)
theorem dX1_oneMore_43 : decode cX1_oneMore 43 = .ok (.imul, 1) := dk_104 (dk_at dksX1_oneMore_1 21 rfl rfl)
theorem dX1_oneMore_44 : decode cX1_oneMore 44 = .ok (.iadd, 1) := dk_96 (dk_at dksX1_oneMore_1 22 rfl rfl)
theorem dX1_oneMore_45 : decode cX1_oneMore 45 = .ok (.bipush 10, 2) := dk_16 10 (dk_at dksX1_oneMore_2 0 rfl rfl)
theorem dX1_oneMore_47 : decode cX1_oneMore 47 = .ok (.irem, 1) := dk_112 (dk_at dksX1_oneMore_2 2 rfl rfl)
theorem dX1_oneMore_48 : decode cX1_oneMore 48 = .ok (.istore 6, 2) := dk_54 6 (dk_at dksX1_oneMore_2 3 rfl rfl)
theorem dX1_oneMore_50 : decode cX1_oneMore 50 = .ok (.aload_n 3, 1) := dk_45 (dk_at dksX1_oneMore_2 5 rfl rfl)
theorem dX1_oneMore_51 : decode cX1_oneMore 51 = .ok (.bipush 11, 2) := dk_16 11 (dk_at dksX1_oneMore_2 6 rfl rfl)
theorem dX1_oneMore_53 : decode cX1_oneMore 53 = .ok (.iload 6, 2) := dk_21 6 (dk_at dksX1_oneMore_2 8 rfl rfl)
theorem dX1_oneMore_55 : decode cX1_oneMore 55 = .ok (.imul, 1) := dk_104 (dk_at dksX1_oneMore_2 10 rfl rfl)
theorem dX1_oneMore_56 : decode cX1_oneMore 56 = .ok (.iload 4, 2) := dk_21 4 (dk_at dksX1_oneMore_2 11 rfl rfl)
theorem dX1_oneMore_58 : decode cX1_oneMore 58 = .ok (.bipush 11, 2) := dk_16 11 (dk_at dksX1_oneMore_2 13 rfl rfl)
theorem dX1_oneMore_60 : decode cX1_oneMore 60 = .ok (.irem, 1) := dk_112 (dk_at dksX1_oneMore_2 15 rfl rfl)
theorem dX1_oneMore_61 : decode cX1_oneMore 61 = .ok (.iadd, 1) := dk_96 (dk_at dksX1_oneMore_2 16 rfl rfl)
theorem dX1_oneMore_62 : decode cX1_oneMore 62 = .ok (.iload_n 1, 1) := dk_27 (dk_at dksX1_oneMore_2 17 rfl rfl)
theorem dX1_oneMore_63 : decode cX1_oneMore 63 = .ok (.iload 5, 2) := dk_21 5 (dk_at dksX1_oneMore_2 18 rfl rfl)
theorem dX1_oneMore_65 : decode cX1_oneMore 65 = .ok (.invokestatic 226, 3) := dk_184 0 226 (dk_at dksX1_oneMore_2 20 rfl rfl)
theorem dX1_oneMore_68 : decode cX1_oneMore 68 = .ok (.iadd, 1) := dk_96 (dk_at dksX1_oneMore_2 23 rfl rfl)
theorem dX1_oneMore_69 : decode cX1_oneMore 69 = .ok (.dup2, 1) := dk_92 (dk_at dksX1_oneMore_3 0 rfl rfl)
theorem dX1_oneMore_70 : decode cX1_oneMore 70 = .ok (.iaload, 1) := dk_46 (dk_at dksX1_oneMore_3 1 rfl rfl)
theorem dX1_oneMore_71 : decode cX1_oneMore 71 = .ok (.aload_n 0, 1) := dk_42 (dk_at dksX1_oneMore_3 2 rfl rfl)
theorem dX1_oneMore_72 : decode cX1_oneMore 72 = .ok (.iload 4, 2) := dk_21 4 (dk_at dksX1_oneMore_3 3 rfl rfl)
theorem dX1_oneMore_74 : decode cX1_oneMore 74 = .ok (.iaload, 1) := dk_46 (dk_at dksX1_oneMore_3 5 rfl rfl)
theorem dX1_oneMore_75 : decode cX1_oneMore 75 = .ok (.iadd, 1) := dk_96 (dk_at dksX1_oneMore_3 6 rfl rfl)
theorem dX1_oneMore_76 : decode cX1_oneMore 76 = .ok (.iastore, 1) := dk_79 (dk_at dksX1_oneMore_3 7 rfl rfl)
theorem dX1_oneMore_77 : decode cX1_oneMore 77 = .ok (.iinc 5 1, 3) := dk_132 5 1 (dk_at dksX1_oneMore_3 8 rfl rfl)
theorem dX1_oneMore_80 : decode cX1_oneMore 80 = .ok (.goto (-52), 3) := dk_167 255 204 (dk_at dksX1_oneMore_3 11 rfl rfl)
theorem dX1_oneMore_83 : decode cX1_oneMore 83 = .ok (.iinc 4 1, 3) := dk_132 4 1 (dk_at dksX1_oneMore_3 14 rfl rfl)
theorem dX1_oneMore_86 : decode cX1_oneMore 86 = .ok (.goto (-78), 3) := dk_167 255 178 (dk_at dksX1_oneMore_3 17 rfl rfl)
theorem dX1_oneMore_89 : decode cX1_oneMore 89 = .ok (.aload_n 3, 1) := dk_45 (dk_at dksX1_oneMore_3 20 rfl rfl)
theorem dX1_oneMore_90 : decode cX1_oneMore 90 = .ok (.areturn, 1) := dk_176 (dk_at dksX1_oneMore_3 21 rfl rfl)
abbrev cX1_codesNear : ByteArray := prog_1_method_53_code
def yX1_codesNear : MethodName := ⟨RX1, "codesNear", "(II)I"⟩
def dkwX1_codesNear_2 : List UInt8 := [132, 6, 1, 167, 255, 237, 21, 5, 172]
abbrev dktX1_codesNear_2 : List UInt8 := dkwX1_codesNear_2 ++ []
def dkwX1_codesNear_1 : List UInt8 := [58, 4, 3, 54, 5, 3, 54, 6, 21, 6, 28, 163, 0, 19, 21, 5, 25, 4, 21, 6, 46, 96, 54, 5]
abbrev dktX1_codesNear_1 : List UInt8 := dkwX1_codesNear_1 ++ dktX1_codesNear_2
def dkwX1_codesNear_0 : List UInt8 := [42, 27, 182, 0, 139, 27, 182, 0, 236, 78, 28, 3, 16, 10, 184, 0, 73, 184, 0, 221, 45, 184, 1, 47]
abbrev dktX1_codesNear_0 : List UInt8 := dkwX1_codesNear_0 ++ dktX1_codesNear_1
theorem dksX1_codesNear_0 : cX1_codesNear.data.toList.drop 0 = dktX1_codesNear_0 := by decide +kernel
theorem dksX1_codesNear_1 : cX1_codesNear.data.toList.drop 24 = dktX1_codesNear_1 := dk_seg dksX1_codesNear_0 24 rfl rfl
theorem dksX1_codesNear_2 : cX1_codesNear.data.toList.drop 48 = dktX1_codesNear_2 := dk_seg dksX1_codesNear_1 24 rfl rfl
theorem dX1_codesNear_0 : decode cX1_codesNear 0 = .ok (.aload_n 0, 1) := dk_42 (dk_at dksX1_codesNear_0 0 rfl rfl)
theorem dX1_codesNear_1 : decode cX1_codesNear 1 = .ok (.iload_n 1, 1) := dk_27 (dk_at dksX1_codesNear_0 1 rfl rfl)
theorem dX1_codesNear_2 : decode cX1_codesNear 2 = .ok (.invokevirtual 139, 3) := dk_182 0 139 (dk_at dksX1_codesNear_0 2 rfl rfl)
theorem dX1_codesNear_5 : decode cX1_codesNear 5 = .ok (.iload_n 1, 1) := dk_27 (dk_at dksX1_codesNear_0 5 rfl rfl)
theorem dX1_codesNear_6 : decode cX1_codesNear 6 = .ok (.invokevirtual 236, 3) := dk_182 0 236 (dk_at dksX1_codesNear_0 6 rfl rfl)
theorem dX1_codesNear_9 : decode cX1_codesNear 9 = .ok (.astore_n 3, 1) := dk_78 (dk_at dksX1_codesNear_0 9 rfl rfl)
theorem dX1_codesNear_10 : decode cX1_codesNear 10 = .ok (.iload_n 2, 1) := dk_28 (dk_at dksX1_codesNear_0 10 rfl rfl)
theorem dX1_codesNear_11 : decode cX1_codesNear 11 = .ok (.iconst 0, 1) := dk_3 (dk_at dksX1_codesNear_0 11 rfl rfl)
theorem dX1_codesNear_12 : decode cX1_codesNear 12 = .ok (.bipush 10, 2) := dk_16 10 (dk_at dksX1_codesNear_0 12 rfl rfl)
theorem dX1_codesNear_14 : decode cX1_codesNear 14 = .ok (.invokestatic 73, 3) := dk_184 0 73 (dk_at dksX1_codesNear_0 14 rfl rfl)
theorem dX1_codesNear_17 : decode cX1_codesNear 17 = .ok (.invokestatic 221, 3) := dk_184 0 221 (dk_at dksX1_codesNear_0 17 rfl rfl)
theorem dX1_codesNear_20 : decode cX1_codesNear 20 = .ok (.aload_n 3, 1) := dk_45 (dk_at dksX1_codesNear_0 20 rfl rfl)
theorem dX1_codesNear_21 : decode cX1_codesNear 21 = .ok (.invokestatic 303, 3) := dk_184 1 47 (dk_at dksX1_codesNear_0 21 rfl rfl)
theorem dX1_codesNear_24 : decode cX1_codesNear 24 = .ok (.astore 4, 2) := dk_58 4 (dk_at dksX1_codesNear_1 0 rfl rfl)
theorem dX1_codesNear_26 : decode cX1_codesNear 26 = .ok (.iconst 0, 1) := dk_3 (dk_at dksX1_codesNear_1 2 rfl rfl)
theorem dX1_codesNear_27 : decode cX1_codesNear 27 = .ok (.istore 5, 2) := dk_54 5 (dk_at dksX1_codesNear_1 3 rfl rfl)
theorem dX1_codesNear_29 : decode cX1_codesNear 29 = .ok (.iconst 0, 1) := dk_3 (dk_at dksX1_codesNear_1 5 rfl rfl)
theorem dX1_codesNear_30 : decode cX1_codesNear 30 = .ok (.istore 6, 2) := dk_54 6 (dk_at dksX1_codesNear_1 6 rfl rfl)
theorem dX1_codesNear_32 : decode cX1_codesNear 32 = .ok (.iload 6, 2) := dk_21 6 (dk_at dksX1_codesNear_1 8 rfl rfl)
theorem dX1_codesNear_34 : decode cX1_codesNear 34 = .ok (.iload_n 2, 1) := dk_28 (dk_at dksX1_codesNear_1 10 rfl rfl)
theorem dX1_codesNear_35 : decode cX1_codesNear 35 = .ok (.if_icmp .gt 19, 3) := dk_163 0 19 (dk_at dksX1_codesNear_1 11 rfl rfl)
theorem dX1_codesNear_38 : decode cX1_codesNear 38 = .ok (.iload 5, 2) := dk_21 5 (dk_at dksX1_codesNear_1 14 rfl rfl)
theorem dX1_codesNear_40 : decode cX1_codesNear 40 = .ok (.aload 4, 2) := dk_25 4 (dk_at dksX1_codesNear_1 16 rfl rfl)
theorem dX1_codesNear_42 : decode cX1_codesNear 42 = .ok (.iload 6, 2) := dk_21 6 (dk_at dksX1_codesNear_1 18 rfl rfl)
theorem dX1_codesNear_44 : decode cX1_codesNear 44 = .ok (.iaload, 1) := dk_46 (dk_at dksX1_codesNear_1 20 rfl rfl)
theorem dX1_codesNear_45 : decode cX1_codesNear 45 = .ok (.iadd, 1) := dk_96 (dk_at dksX1_codesNear_1 21 rfl rfl)
theorem dX1_codesNear_46 : decode cX1_codesNear 46 = .ok (.istore 5, 2) := dk_54 5 (dk_at dksX1_codesNear_1 22 rfl rfl)
theorem dX1_codesNear_48 : decode cX1_codesNear 48 = .ok (.iinc 6 1, 3) := dk_132 6 1 (dk_at dksX1_codesNear_2 0 rfl rfl)
theorem dX1_codesNear_51 : decode cX1_codesNear 51 = .ok (.goto (-19), 3) := dk_167 255 237 (dk_at dksX1_codesNear_2 3 rfl rfl)
theorem dX1_codesNear_54 : decode cX1_codesNear 54 = .ok (.iload 5, 2) := dk_21 5 (dk_at dksX1_codesNear_2 6 rfl rfl)
theorem dX1_codesNear_56 : decode cX1_codesNear 56 = .ok (.ireturn, 1) := dk_172 (dk_at dksX1_codesNear_2 8 rfl rfl)
abbrev cX1_firstFix : ByteArray := prog_1_method_55_code
def yX1_firstFix : MethodName := ⟨RX1, "firstFix", "(I)I"⟩
def dkwX1_firstFix_1 : List UInt8 := [29, 159, 0, 9, 132, 4, 1, 167, 255, 243, 21, 4, 172]
abbrev dktX1_firstFix_1 : List UInt8 := dkwX1_firstFix_1 ++ []
def dkwX1_firstFix_0 : List UInt8 := [42, 27, 182, 0, 139, 27, 182, 0, 236, 77, 44, 184, 1, 51, 62, 3, 54, 4, 44, 21, 4, 184, 1, 55]
abbrev dktX1_firstFix_0 : List UInt8 := dkwX1_firstFix_0 ++ dktX1_firstFix_1
theorem dksX1_firstFix_0 : cX1_firstFix.data.toList.drop 0 = dktX1_firstFix_0 := by decide +kernel
theorem dksX1_firstFix_1 : cX1_firstFix.data.toList.drop 24 = dktX1_firstFix_1 := dk_seg dksX1_firstFix_0 24 rfl rfl
theorem dX1_firstFix_0 : decode cX1_firstFix 0 = .ok (.aload_n 0, 1) := dk_42 (dk_at dksX1_firstFix_0 0 rfl rfl)
theorem dX1_firstFix_1 : decode cX1_firstFix 1 = .ok (.iload_n 1, 1) := dk_27 (dk_at dksX1_firstFix_0 1 rfl rfl)
theorem dX1_firstFix_2 : decode cX1_firstFix 2 = .ok (.invokevirtual 139, 3) := dk_182 0 139 (dk_at dksX1_firstFix_0 2 rfl rfl)
theorem dX1_firstFix_5 : decode cX1_firstFix 5 = .ok (.iload_n 1, 1) := dk_27 (dk_at dksX1_firstFix_0 5 rfl rfl)
theorem dX1_firstFix_6 : decode cX1_firstFix 6 = .ok (.invokevirtual 236, 3) := dk_182 0 236 (dk_at dksX1_firstFix_0 6 rfl rfl)
theorem dX1_firstFix_9 : decode cX1_firstFix 9 = .ok (.astore_n 2, 1) := dk_77 (dk_at dksX1_firstFix_0 9 rfl rfl)
theorem dX1_firstFix_10 : decode cX1_firstFix 10 = .ok (.aload_n 2, 1) := dk_44 (dk_at dksX1_firstFix_0 10 rfl rfl)
theorem dX1_firstFix_11 : decode cX1_firstFix 11 = .ok (.invokestatic 307, 3) := dk_184 1 51 (dk_at dksX1_firstFix_0 11 rfl rfl)
theorem dX1_firstFix_14 : decode cX1_firstFix 14 = .ok (.istore_n 3, 1) := dk_62 (dk_at dksX1_firstFix_0 14 rfl rfl)
theorem dX1_firstFix_15 : decode cX1_firstFix 15 = .ok (.iconst 0, 1) := dk_3 (dk_at dksX1_firstFix_0 15 rfl rfl)
theorem dX1_firstFix_16 : decode cX1_firstFix 16 = .ok (.istore 4, 2) := dk_54 4 (dk_at dksX1_firstFix_0 16 rfl rfl)
theorem dX1_firstFix_18 : decode cX1_firstFix 18 = .ok (.aload_n 2, 1) := dk_44 (dk_at dksX1_firstFix_0 18 rfl rfl)
theorem dX1_firstFix_19 : decode cX1_firstFix 19 = .ok (.iload 4, 2) := dk_21 4 (dk_at dksX1_firstFix_0 19 rfl rfl)
theorem dX1_firstFix_21 : decode cX1_firstFix 21 = .ok (.invokestatic 311, 3) := dk_184 1 55 (dk_at dksX1_firstFix_0 21 rfl rfl)
theorem dX1_firstFix_24 : decode cX1_firstFix 24 = .ok (.iload_n 3, 1) := dk_29 (dk_at dksX1_firstFix_1 0 rfl rfl)
theorem dX1_firstFix_25 : decode cX1_firstFix 25 = .ok (.if_icmp .eq 9, 3) := dk_159 0 9 (dk_at dksX1_firstFix_1 1 rfl rfl)
theorem dX1_firstFix_28 : decode cX1_firstFix 28 = .ok (.iinc 4 1, 3) := dk_132 4 1 (dk_at dksX1_firstFix_1 4 rfl rfl)
theorem dX1_firstFix_31 : decode cX1_firstFix 31 = .ok (.goto (-13), 3) := dk_167 255 243 (dk_at dksX1_firstFix_1 7 rfl rfl)
theorem dX1_firstFix_34 : decode cX1_firstFix 34 = .ok (.iload 4, 2) := dk_21 4 (dk_at dksX1_firstFix_1 10 rfl rfl)
theorem dX1_firstFix_36 : decode cX1_firstFix 36 = .ok (.ireturn, 1) := dk_172 (dk_at dksX1_firstFix_1 12 rfl rfl)
abbrev cX1_distanceTo : ByteArray := prog_1_method_54_code
def yX1_distanceTo : MethodName := ⟨RX1, "distanceTo", "(LBadCodes$Letter;I)I"⟩
def dkwX1_distanceTo_1 : List UInt8 := [180, 1, 13, 29, 46, 27, 29, 184, 0, 7, 184, 0, 226, 96, 61, 132, 3, 1, 167, 255, 231, 28, 172]
abbrev dktX1_distanceTo_1 : List UInt8 := dkwX1_distanceTo_1 ++ []
def dkwX1_distanceTo_0 : List UInt8 := [42, 180, 1, 13, 7, 46, 27, 184, 0, 224, 184, 0, 226, 61, 3, 62, 29, 7, 162, 0, 26, 28, 42]
abbrev dktX1_distanceTo_0 : List UInt8 := dkwX1_distanceTo_0 ++ dktX1_distanceTo_1
theorem dksX1_distanceTo_0 : cX1_distanceTo.data.toList.drop 0 = dktX1_distanceTo_0 := by decide +kernel
theorem dksX1_distanceTo_1 : cX1_distanceTo.data.toList.drop 23 = dktX1_distanceTo_1 := dk_seg dksX1_distanceTo_0 23 rfl rfl
theorem dX1_distanceTo_0 : decode cX1_distanceTo 0 = .ok (.aload_n 0, 1) := dk_42 (dk_at dksX1_distanceTo_0 0 rfl rfl)
theorem dX1_distanceTo_1 : decode cX1_distanceTo 1 = .ok (.getfield 269, 3) := dk_180 1 13 (dk_at dksX1_distanceTo_0 1 rfl rfl)
theorem dX1_distanceTo_4 : decode cX1_distanceTo 4 = .ok (.iconst 4, 1) := dk_7 (dk_at dksX1_distanceTo_0 4 rfl rfl)
theorem dX1_distanceTo_5 : decode cX1_distanceTo 5 = .ok (.iaload, 1) := dk_46 (dk_at dksX1_distanceTo_0 5 rfl rfl)
theorem dX1_distanceTo_6 : decode cX1_distanceTo 6 = .ok (.iload_n 1, 1) := dk_27 (dk_at dksX1_distanceTo_0 6 rfl rfl)
theorem dX1_distanceTo_7 : decode cX1_distanceTo 7 = .ok (.invokestatic 224, 3) := dk_184 0 224 (dk_at dksX1_distanceTo_0 7 rfl rfl)
theorem dX1_distanceTo_10 : decode cX1_distanceTo 10 = .ok (.invokestatic 226, 3) := dk_184 0 226 (dk_at dksX1_distanceTo_0 10 rfl rfl)
theorem dX1_distanceTo_13 : decode cX1_distanceTo 13 = .ok (.istore_n 2, 1) := dk_61 (dk_at dksX1_distanceTo_0 13 rfl rfl)
theorem dX1_distanceTo_14 : decode cX1_distanceTo 14 = .ok (.iconst 0, 1) := dk_3 (dk_at dksX1_distanceTo_0 14 rfl rfl)
theorem dX1_distanceTo_15 : decode cX1_distanceTo 15 = .ok (.istore_n 3, 1) := dk_62 (dk_at dksX1_distanceTo_0 15 rfl rfl)
theorem dX1_distanceTo_16 : decode cX1_distanceTo 16 = .ok (.iload_n 3, 1) := dk_29 (dk_at dksX1_distanceTo_0 16 rfl rfl)
theorem dX1_distanceTo_17 : decode cX1_distanceTo 17 = .ok (.iconst 4, 1) := dk_7 (dk_at dksX1_distanceTo_0 17 rfl rfl)
theorem dX1_distanceTo_18 : decode cX1_distanceTo 18 = .ok (.if_icmp .ge 26, 3) := dk_162 0 26 (dk_at dksX1_distanceTo_0 18 rfl rfl)
theorem dX1_distanceTo_21 : decode cX1_distanceTo 21 = .ok (.iload_n 2, 1) := dk_28 (dk_at dksX1_distanceTo_0 21 rfl rfl)
theorem dX1_distanceTo_22 : decode cX1_distanceTo 22 = .ok (.aload_n 0, 1) := dk_42 (dk_at dksX1_distanceTo_0 22 rfl rfl)
theorem dX1_distanceTo_23 : decode cX1_distanceTo 23 = .ok (.getfield 269, 3) := dk_180 1 13 (dk_at dksX1_distanceTo_1 0 rfl rfl)
theorem dX1_distanceTo_26 : decode cX1_distanceTo 26 = .ok (.iload_n 3, 1) := dk_29 (dk_at dksX1_distanceTo_1 3 rfl rfl)
theorem dX1_distanceTo_27 : decode cX1_distanceTo 27 = .ok (.iaload, 1) := dk_46 (dk_at dksX1_distanceTo_1 4 rfl rfl)
theorem dX1_distanceTo_28 : decode cX1_distanceTo 28 = .ok (.iload_n 1, 1) := dk_27 (dk_at dksX1_distanceTo_1 5 rfl rfl)
theorem dX1_distanceTo_29 : decode cX1_distanceTo 29 = .ok (.iload_n 3, 1) := dk_29 (dk_at dksX1_distanceTo_1 6 rfl rfl)
theorem dX1_distanceTo_30 : decode cX1_distanceTo 30 = .ok (.invokestatic 7, 3) := dk_184 0 7 (dk_at dksX1_distanceTo_1 7 rfl rfl)
theorem dX1_distanceTo_33 : decode cX1_distanceTo 33 = .ok (.invokestatic 226, 3) := dk_184 0 226 (dk_at dksX1_distanceTo_1 10 rfl rfl)
theorem dX1_distanceTo_36 : decode cX1_distanceTo 36 = .ok (.iadd, 1) := dk_96 (dk_at dksX1_distanceTo_1 13 rfl rfl)
theorem dX1_distanceTo_37 : decode cX1_distanceTo 37 = .ok (.istore_n 2, 1) := dk_61 (dk_at dksX1_distanceTo_1 14 rfl rfl)
theorem dX1_distanceTo_38 : decode cX1_distanceTo 38 = .ok (.iinc 3 1, 3) := dk_132 3 1 (dk_at dksX1_distanceTo_1 15 rfl rfl)
theorem dX1_distanceTo_41 : decode cX1_distanceTo 41 = .ok (.goto (-25), 3) := dk_167 255 231 (dk_at dksX1_distanceTo_1 18 rfl rfl)
theorem dX1_distanceTo_44 : decode cX1_distanceTo 44 = .ok (.iload_n 2, 1) := dk_28 (dk_at dksX1_distanceTo_1 21 rfl rfl)
theorem dX1_distanceTo_45 : decode cX1_distanceTo 45 = .ok (.ireturn, 1) := dk_172 (dk_at dksX1_distanceTo_1 22 rfl rfl)
abbrev cX1_bundle : ByteArray := prog_1_method_57_code
def yX1_bundle : MethodName := ⟨RX1, "bundle", "(II)I"⟩
def dkwX1_bundle_4 : List UInt8 := [182, 0, 176, 167, 0, 19, 42, 27, 182, 1, 67, 167, 0, 11, 187, 0, 105, 89, 183, 0, 107, 191, 172]
abbrev dktX1_bundle_4 : List UInt8 := dkwX1_bundle_4 ++ []
def dkwX1_bundle_3 : List UInt8 := [167, 0, 44, 42, 5, 189, 0, 152, 89, 3, 25, 4, 83, 89, 4, 45, 186, 1, 66, 0, 0, 83]
abbrev dktX1_bundle_3 : List UInt8 := dkwX1_bundle_3 ++ dktX1_bundle_4
def dkwX1_bundle_2 : List UInt8 := [42, 4, 189, 0, 152, 89, 3, 25, 4, 83, 182, 0, 176, 167, 0, 53, 45, 180, 1, 63, 27, 46]
abbrev dktX1_bundle_2 : List UInt8 := dkwX1_bundle_2 ++ dktX1_bundle_3
def dkwX1_bundle_1 : List UInt8 := [170, 0, 0, 0, 0, 0, 0, 90, 0, 0, 0, 0, 0, 0, 0, 3, 0, 0, 0, 32, 0, 0, 0, 48, 0, 0, 0, 57, 0, 0, 0, 82]
abbrev dktX1_bundle_1 : List UInt8 := dkwX1_bundle_1 ++ dktX1_bundle_2
def dkwX1_bundle_0 : List UInt8 := [42, 27, 182, 1, 59, 78, 45, 27, 186, 1, 62, 0, 0, 58, 4, 28]
abbrev dktX1_bundle_0 : List UInt8 := dkwX1_bundle_0 ++ dktX1_bundle_1
theorem dksX1_bundle_0 : cX1_bundle.data.toList.drop 0 = dktX1_bundle_0 := by decide +kernel
theorem dksX1_bundle_1 : cX1_bundle.data.toList.drop 16 = dktX1_bundle_1 := dk_seg dksX1_bundle_0 16 rfl rfl
theorem dksX1_bundle_2 : cX1_bundle.data.toList.drop 48 = dktX1_bundle_2 := dk_seg dksX1_bundle_1 32 rfl rfl
theorem dksX1_bundle_3 : cX1_bundle.data.toList.drop 70 = dktX1_bundle_3 := dk_seg dksX1_bundle_2 22 rfl rfl
theorem dksX1_bundle_4 : cX1_bundle.data.toList.drop 92 = dktX1_bundle_4 := dk_seg dksX1_bundle_3 22 rfl rfl
theorem dX1_bundle_0 : decode cX1_bundle 0 = .ok (.aload_n 0, 1) := dk_42 (dk_at dksX1_bundle_0 0 rfl rfl)
theorem dX1_bundle_1 : decode cX1_bundle 1 = .ok (.iload_n 1, 1) := dk_27 (dk_at dksX1_bundle_0 1 rfl rfl)
theorem dX1_bundle_2 : decode cX1_bundle 2 = .ok (.invokevirtual 315, 3) := dk_182 1 59 (dk_at dksX1_bundle_0 2 rfl rfl)
theorem dX1_bundle_5 : decode cX1_bundle 5 = .ok (.astore_n 3, 1) := dk_78 (dk_at dksX1_bundle_0 5 rfl rfl)
theorem dX1_bundle_6 : decode cX1_bundle 6 = .ok (.aload_n 3, 1) := dk_45 (dk_at dksX1_bundle_0 6 rfl rfl)
theorem dX1_bundle_7 : decode cX1_bundle 7 = .ok (.iload_n 1, 1) := dk_27 (dk_at dksX1_bundle_0 7 rfl rfl)
theorem dX1_bundle_8 : decode cX1_bundle 8 = .ok (.invokedynamic 318, 5) := by decide +kernel
theorem dX1_bundle_13 : decode cX1_bundle 13 = .ok (.astore 4, 2) := dk_58 4 (dk_at dksX1_bundle_0 13 rfl rfl)
theorem dX1_bundle_15 : decode cX1_bundle 15 = .ok (.iload_n 2, 1) := dk_28 (dk_at dksX1_bundle_0 15 rfl rfl)
theorem dX1_bundle_16 : decode cX1_bundle 16 = .ok (.tableswitch 90 0 3 #[32, 48, 57, 82], 32) := by decide +kernel
theorem dX1_bundle_48 : decode cX1_bundle 48 = .ok (.aload_n 0, 1) := dk_42 (dk_at dksX1_bundle_2 0 rfl rfl)
theorem dX1_bundle_49 : decode cX1_bundle 49 = .ok (.iconst 1, 1) := dk_4 (dk_at dksX1_bundle_2 1 rfl rfl)
theorem dX1_bundle_50 : decode cX1_bundle 50 = .ok (.anewarray 152, 3) := dk_189 0 152 (dk_at dksX1_bundle_2 2 rfl rfl)
theorem dX1_bundle_53 : decode cX1_bundle 53 = .ok (.dup, 1) := dk_89 (dk_at dksX1_bundle_2 5 rfl rfl)
theorem dX1_bundle_54 : decode cX1_bundle 54 = .ok (.iconst 0, 1) := dk_3 (dk_at dksX1_bundle_2 6 rfl rfl)
theorem dX1_bundle_55 : decode cX1_bundle 55 = .ok (.aload 4, 2) := dk_25 4 (dk_at dksX1_bundle_2 7 rfl rfl)
theorem dX1_bundle_57 : decode cX1_bundle 57 = .ok (.aastore, 1) := dk_83 (dk_at dksX1_bundle_2 9 rfl rfl)
theorem dX1_bundle_58 : decode cX1_bundle 58 = .ok (.invokevirtual 176, 3) := dk_182 0 176 (dk_at dksX1_bundle_2 10 rfl rfl)
theorem dX1_bundle_61 : decode cX1_bundle 61 = .ok (.goto 53, 3) := dk_167 0 53 (dk_at dksX1_bundle_2 13 rfl rfl)
theorem dX1_bundle_64 : decode cX1_bundle 64 = .ok (.aload_n 3, 1) := dk_45 (dk_at dksX1_bundle_2 16 rfl rfl)
theorem dX1_bundle_65 : decode cX1_bundle 65 = .ok (.getfield 319, 3) := dk_180 1 63 (dk_at dksX1_bundle_2 17 rfl rfl)
theorem dX1_bundle_68 : decode cX1_bundle 68 = .ok (.iload_n 1, 1) := dk_27 (dk_at dksX1_bundle_2 20 rfl rfl)
theorem dX1_bundle_69 : decode cX1_bundle 69 = .ok (.iaload, 1) := dk_46 (dk_at dksX1_bundle_2 21 rfl rfl)
theorem dX1_bundle_70 : decode cX1_bundle 70 = .ok (.goto 44, 3) := dk_167 0 44 (dk_at dksX1_bundle_3 0 rfl rfl)
theorem dX1_bundle_73 : decode cX1_bundle 73 = .ok (.aload_n 0, 1) := dk_42 (dk_at dksX1_bundle_3 3 rfl rfl)
theorem dX1_bundle_74 : decode cX1_bundle 74 = .ok (.iconst 2, 1) := dk_5 (dk_at dksX1_bundle_3 4 rfl rfl)
theorem dX1_bundle_75 : decode cX1_bundle 75 = .ok (.anewarray 152, 3) := dk_189 0 152 (dk_at dksX1_bundle_3 5 rfl rfl)
theorem dX1_bundle_78 : decode cX1_bundle 78 = .ok (.dup, 1) := dk_89 (dk_at dksX1_bundle_3 8 rfl rfl)
theorem dX1_bundle_79 : decode cX1_bundle 79 = .ok (.iconst 0, 1) := dk_3 (dk_at dksX1_bundle_3 9 rfl rfl)
theorem dX1_bundle_80 : decode cX1_bundle 80 = .ok (.aload 4, 2) := dk_25 4 (dk_at dksX1_bundle_3 10 rfl rfl)
theorem dX1_bundle_82 : decode cX1_bundle 82 = .ok (.aastore, 1) := dk_83 (dk_at dksX1_bundle_3 12 rfl rfl)
theorem dX1_bundle_83 : decode cX1_bundle 83 = .ok (.dup, 1) := dk_89 (dk_at dksX1_bundle_3 13 rfl rfl)
theorem dX1_bundle_84 : decode cX1_bundle 84 = .ok (.iconst 1, 1) := dk_4 (dk_at dksX1_bundle_3 14 rfl rfl)
theorem dX1_bundle_85 : decode cX1_bundle 85 = .ok (.aload_n 3, 1) := dk_45 (dk_at dksX1_bundle_3 15 rfl rfl)
theorem dX1_bundle_86 : decode cX1_bundle 86 = .ok (.invokedynamic 322, 5) := by decide +kernel
theorem dX1_bundle_91 : decode cX1_bundle 91 = .ok (.aastore, 1) := dk_83 (dk_at dksX1_bundle_3 21 rfl rfl)
theorem dX1_bundle_92 : decode cX1_bundle 92 = .ok (.invokevirtual 176, 3) := dk_182 0 176 (dk_at dksX1_bundle_4 0 rfl rfl)
theorem dX1_bundle_95 : decode cX1_bundle 95 = .ok (.goto 19, 3) := dk_167 0 19 (dk_at dksX1_bundle_4 3 rfl rfl)
theorem dX1_bundle_98 : decode cX1_bundle 98 = .ok (.aload_n 0, 1) := dk_42 (dk_at dksX1_bundle_4 6 rfl rfl)
theorem dX1_bundle_99 : decode cX1_bundle 99 = .ok (.iload_n 1, 1) := dk_27 (dk_at dksX1_bundle_4 7 rfl rfl)
theorem dX1_bundle_100 : decode cX1_bundle 100 = .ok (.invokevirtual 323, 3) := dk_182 1 67 (dk_at dksX1_bundle_4 8 rfl rfl)
theorem dX1_bundle_103 : decode cX1_bundle 103 = .ok (.goto 11, 3) := dk_167 0 11 (dk_at dksX1_bundle_4 11 rfl rfl)
theorem dX1_bundle_106 : decode cX1_bundle 106 = .ok (.new 105, 3) := dk_187 0 105 (dk_at dksX1_bundle_4 14 rfl rfl)
theorem dX1_bundle_109 : decode cX1_bundle 109 = .ok (.dup, 1) := dk_89 (dk_at dksX1_bundle_4 17 rfl rfl)
theorem dX1_bundle_110 : decode cX1_bundle 110 = .ok (.invokespecial 107, 3) := dk_183 0 107 (dk_at dksX1_bundle_4 18 rfl rfl)
theorem dX1_bundle_113 : decode cX1_bundle 113 = .ok (.athrow, 1) := dk_191 (dk_at dksX1_bundle_4 21 rfl rfl)
theorem dX1_bundle_114 : decode cX1_bundle 114 = .ok (.ireturn, 1) := dk_172 (dk_at dksX1_bundle_4 22 rfl rfl)
abbrev cX1_withBundle : ByteArray := prog_1_method_21_code
def yX1_withBundle : MethodName := ⟨RX1, "withBundle", "(I)LBadCodes$Office;"⟩
def dkwX1_withBundle_0 : List UInt8 := [42, 182, 0, 135, 77, 27, 3, 8, 184, 0, 73, 184, 0, 77, 44, 176]
abbrev dktX1_withBundle_0 : List UInt8 := dkwX1_withBundle_0 ++ []
theorem dksX1_withBundle_0 : cX1_withBundle.data.toList.drop 0 = dktX1_withBundle_0 := by decide +kernel
theorem dX1_withBundle_0 : decode cX1_withBundle 0 = .ok (.aload_n 0, 1) := dk_42 (dk_at dksX1_withBundle_0 0 rfl rfl)
theorem dX1_withBundle_1 : decode cX1_withBundle 1 = .ok (.invokevirtual 135, 3) := dk_182 0 135 (dk_at dksX1_withBundle_0 1 rfl rfl)
theorem dX1_withBundle_4 : decode cX1_withBundle 4 = .ok (.astore_n 2, 1) := dk_77 (dk_at dksX1_withBundle_0 4 rfl rfl)
theorem dX1_withBundle_5 : decode cX1_withBundle 5 = .ok (.iload_n 1, 1) := dk_27 (dk_at dksX1_withBundle_0 5 rfl rfl)
theorem dX1_withBundle_6 : decode cX1_withBundle 6 = .ok (.iconst 0, 1) := dk_3 (dk_at dksX1_withBundle_0 6 rfl rfl)
theorem dX1_withBundle_7 : decode cX1_withBundle 7 = .ok (.iconst 5, 1) := dk_8 (dk_at dksX1_withBundle_0 7 rfl rfl)
theorem dX1_withBundle_8 : decode cX1_withBundle 8 = .ok (.invokestatic 73, 3) := dk_184 0 73 (dk_at dksX1_withBundle_0 8 rfl rfl)
theorem dX1_withBundle_11 : decode cX1_withBundle 11 = .ok (.invokestatic 77, 3) := dk_184 0 77 (dk_at dksX1_withBundle_0 11 rfl rfl)
theorem dX1_withBundle_14 : decode cX1_withBundle 14 = .ok (.aload_n 2, 1) := dk_44 (dk_at dksX1_withBundle_0 14 rfl rfl)
theorem dX1_withBundle_15 : decode cX1_withBundle 15 = .ok (.areturn, 1) := dk_176 (dk_at dksX1_withBundle_0 15 rfl rfl)
abbrev cX1_lambda_bundle_5 : ByteArray := prog_1_method_100_code
def yX1_lambda_bundle_5 : MethodName := ⟨RX1, "lambda$bundle$5", "(LBadCodes$Office;II)Z"⟩
def dkwX1_lambda_bundle_5_0 : List UInt8 := [42, 28, 182, 0, 236, 180, 0, 240, 27, 160, 0, 7, 4, 167, 0, 4, 3, 172]
abbrev dktX1_lambda_bundle_5_0 : List UInt8 := dkwX1_lambda_bundle_5_0 ++ []
theorem dksX1_lambda_bundle_5_0 : cX1_lambda_bundle_5.data.toList.drop 0 = dktX1_lambda_bundle_5_0 := by decide +kernel
theorem dX1_lambda_bundle_5_0 : decode cX1_lambda_bundle_5 0 = .ok (.aload_n 0, 1) := dk_42 (dk_at dksX1_lambda_bundle_5_0 0 rfl rfl)
theorem dX1_lambda_bundle_5_1 : decode cX1_lambda_bundle_5 1 = .ok (.iload_n 2, 1) := dk_28 (dk_at dksX1_lambda_bundle_5_0 1 rfl rfl)
theorem dX1_lambda_bundle_5_2 : decode cX1_lambda_bundle_5 2 = .ok (.invokevirtual 236, 3) := dk_182 0 236 (dk_at dksX1_lambda_bundle_5_0 2 rfl rfl)
theorem dX1_lambda_bundle_5_5 : decode cX1_lambda_bundle_5 5 = .ok (.getfield 240, 3) := dk_180 0 240 (dk_at dksX1_lambda_bundle_5_0 5 rfl rfl)
theorem dX1_lambda_bundle_5_8 : decode cX1_lambda_bundle_5 8 = .ok (.iload_n 1, 1) := dk_27 (dk_at dksX1_lambda_bundle_5_0 8 rfl rfl)
theorem dX1_lambda_bundle_5_9 : decode cX1_lambda_bundle_5 9 = .ok (.if_icmp .ne 7, 3) := dk_160 0 7 (dk_at dksX1_lambda_bundle_5_0 9 rfl rfl)
theorem dX1_lambda_bundle_5_12 : decode cX1_lambda_bundle_5 12 = .ok (.iconst 1, 1) := dk_4 (dk_at dksX1_lambda_bundle_5_0 12 rfl rfl)
theorem dX1_lambda_bundle_5_13 : decode cX1_lambda_bundle_5 13 = .ok (.goto 4, 3) := dk_167 0 4 (dk_at dksX1_lambda_bundle_5_0 13 rfl rfl)
theorem dX1_lambda_bundle_5_16 : decode cX1_lambda_bundle_5 16 = .ok (.iconst 0, 1) := dk_3 (dk_at dksX1_lambda_bundle_5_0 16 rfl rfl)
theorem dX1_lambda_bundle_5_17 : decode cX1_lambda_bundle_5 17 = .ok (.ireturn, 1) := dk_172 (dk_at dksX1_lambda_bundle_5_0 17 rfl rfl)
abbrev cX1_lambda_bundle_6 : ByteArray := prog_1_method_99_code
def yX1_lambda_bundle_6 : MethodName := ⟨RX1, "lambda$bundle$6", "(LBadCodes$Office;I)Z"⟩
def dkwX1_lambda_bundle_6_0 : List UInt8 := [42, 27, 182, 1, 25, 2, 159, 0, 7, 4, 167, 0, 4, 3, 172]
abbrev dktX1_lambda_bundle_6_0 : List UInt8 := dkwX1_lambda_bundle_6_0 ++ []
theorem dksX1_lambda_bundle_6_0 : cX1_lambda_bundle_6.data.toList.drop 0 = dktX1_lambda_bundle_6_0 := by decide +kernel
theorem dX1_lambda_bundle_6_0 : decode cX1_lambda_bundle_6 0 = .ok (.aload_n 0, 1) := dk_42 (dk_at dksX1_lambda_bundle_6_0 0 rfl rfl)
theorem dX1_lambda_bundle_6_1 : decode cX1_lambda_bundle_6 1 = .ok (.iload_n 1, 1) := dk_27 (dk_at dksX1_lambda_bundle_6_0 1 rfl rfl)
theorem dX1_lambda_bundle_6_2 : decode cX1_lambda_bundle_6 2 = .ok (.invokevirtual 281, 3) := dk_182 1 25 (dk_at dksX1_lambda_bundle_6_0 2 rfl rfl)
theorem dX1_lambda_bundle_6_5 : decode cX1_lambda_bundle_6 5 = .ok (.iconst (-1), 1) := dk_2 (dk_at dksX1_lambda_bundle_6_0 5 rfl rfl)
theorem dX1_lambda_bundle_6_6 : decode cX1_lambda_bundle_6 6 = .ok (.if_icmp .eq 7, 3) := dk_159 0 7 (dk_at dksX1_lambda_bundle_6_0 6 rfl rfl)
theorem dX1_lambda_bundle_6_9 : decode cX1_lambda_bundle_6 9 = .ok (.iconst 1, 1) := dk_4 (dk_at dksX1_lambda_bundle_6_0 9 rfl rfl)
theorem dX1_lambda_bundle_6_10 : decode cX1_lambda_bundle_6 10 = .ok (.goto 4, 3) := dk_167 0 4 (dk_at dksX1_lambda_bundle_6_0 10 rfl rfl)
theorem dX1_lambda_bundle_6_13 : decode cX1_lambda_bundle_6 13 = .ok (.iconst 0, 1) := dk_3 (dk_at dksX1_lambda_bundle_6_0 13 rfl rfl)
theorem dX1_lambda_bundle_6_14 : decode cX1_lambda_bundle_6 14 = .ok (.ireturn, 1) := dk_172 (dk_at dksX1_lambda_bundle_6_0 14 rfl rfl)
abbrev cX1_sumOf : ByteArray := prog_1_method_56_code
def yX1_sumOf : MethodName := ⟨RX1, "sumOf", "(I)I"⟩
def dkwX1_sumOf_3 : List UInt8 := [182, 0, 215, 96, 61, 132, 3, 1, 167, 255, 183, 28, 16, 10, 112, 172]
abbrev dktX1_sumOf_3 : List UInt8 := dkwX1_sumOf_3 ++ []
def dkwX1_sumOf_2 : List UInt8 := [54, 4, 28, 21, 4, 2, 160, 0, 7, 3, 167, 0, 15, 42, 180, 0, 90, 21, 4, 182, 0, 195]
abbrev dktX1_sumOf_2 : List UInt8 := dkwX1_sumOf_2 ++ dktX1_sumOf_3
def dkwX1_sumOf_1 : List UInt8 := [29, 182, 0, 236, 180, 0, 240, 27, 160, 0, 14, 42, 180, 0, 90, 29, 182, 1, 25, 167, 0, 4, 2]
abbrev dktX1_sumOf_1 : List UInt8 := dkwX1_sumOf_1 ++ dktX1_sumOf_2
def dkwX1_sumOf_0 : List UInt8 := [3, 61, 3, 62, 29, 42, 180, 0, 90, 180, 0, 119, 185, 0, 123, 1, 0, 162, 0, 63, 42, 180, 0, 90]
abbrev dktX1_sumOf_0 : List UInt8 := dkwX1_sumOf_0 ++ dktX1_sumOf_1
theorem dksX1_sumOf_0 : cX1_sumOf.data.toList.drop 0 = dktX1_sumOf_0 := by decide +kernel
theorem dksX1_sumOf_1 : cX1_sumOf.data.toList.drop 24 = dktX1_sumOf_1 := dk_seg dksX1_sumOf_0 24 rfl rfl
theorem dksX1_sumOf_2 : cX1_sumOf.data.toList.drop 47 = dktX1_sumOf_2 := dk_seg dksX1_sumOf_1 23 rfl rfl
theorem dksX1_sumOf_3 : cX1_sumOf.data.toList.drop 69 = dktX1_sumOf_3 := dk_seg dksX1_sumOf_2 22 rfl rfl
theorem dX1_sumOf_0 : decode cX1_sumOf 0 = .ok (.iconst 0, 1) := dk_3 (dk_at dksX1_sumOf_0 0 rfl rfl)
theorem dX1_sumOf_1 : decode cX1_sumOf 1 = .ok (.istore_n 2, 1) := dk_61 (dk_at dksX1_sumOf_0 1 rfl rfl)
theorem dX1_sumOf_2 : decode cX1_sumOf 2 = .ok (.iconst 0, 1) := dk_3 (dk_at dksX1_sumOf_0 2 rfl rfl)
theorem dX1_sumOf_3 : decode cX1_sumOf 3 = .ok (.istore_n 3, 1) := dk_62 (dk_at dksX1_sumOf_0 3 rfl rfl)
theorem dX1_sumOf_4 : decode cX1_sumOf 4 = .ok (.iload_n 3, 1) := dk_29 (dk_at dksX1_sumOf_0 4 rfl rfl)
theorem dX1_sumOf_5 : decode cX1_sumOf 5 = .ok (.aload_n 0, 1) := dk_42 (dk_at dksX1_sumOf_0 5 rfl rfl)
theorem dX1_sumOf_6 : decode cX1_sumOf 6 = .ok (.getfield 90, 3) := dk_180 0 90 (dk_at dksX1_sumOf_0 6 rfl rfl)
theorem dX1_sumOf_9 : decode cX1_sumOf 9 = .ok (.getfield 119, 3) := dk_180 0 119 (dk_at dksX1_sumOf_0 9 rfl rfl)
theorem dX1_sumOf_12 : decode cX1_sumOf 12 = .ok (.invokeinterface 123 1, 5) := by decide +kernel
theorem dX1_sumOf_17 : decode cX1_sumOf 17 = .ok (.if_icmp .ge 63, 3) := dk_162 0 63 (dk_at dksX1_sumOf_0 17 rfl rfl)
theorem dX1_sumOf_20 : decode cX1_sumOf 20 = .ok (.aload_n 0, 1) := dk_42 (dk_at dksX1_sumOf_0 20 rfl rfl)
theorem dX1_sumOf_21 : decode cX1_sumOf 21 = .ok (.getfield 90, 3) := dk_180 0 90 (dk_at dksX1_sumOf_0 21 rfl rfl)
theorem dX1_sumOf_24 : decode cX1_sumOf 24 = .ok (.iload_n 3, 1) := dk_29 (dk_at dksX1_sumOf_1 0 rfl rfl)
theorem dX1_sumOf_25 : decode cX1_sumOf 25 = .ok (.invokevirtual 236, 3) := dk_182 0 236 (dk_at dksX1_sumOf_1 1 rfl rfl)
theorem dX1_sumOf_28 : decode cX1_sumOf 28 = .ok (.getfield 240, 3) := dk_180 0 240 (dk_at dksX1_sumOf_1 4 rfl rfl)
theorem dX1_sumOf_31 : decode cX1_sumOf 31 = .ok (.iload_n 1, 1) := dk_27 (dk_at dksX1_sumOf_1 7 rfl rfl)
theorem dX1_sumOf_32 : decode cX1_sumOf 32 = .ok (.if_icmp .ne 14, 3) := dk_160 0 14 (dk_at dksX1_sumOf_1 8 rfl rfl)
theorem dX1_sumOf_35 : decode cX1_sumOf 35 = .ok (.aload_n 0, 1) := dk_42 (dk_at dksX1_sumOf_1 11 rfl rfl)
theorem dX1_sumOf_36 : decode cX1_sumOf 36 = .ok (.getfield 90, 3) := dk_180 0 90 (dk_at dksX1_sumOf_1 12 rfl rfl)
theorem dX1_sumOf_39 : decode cX1_sumOf 39 = .ok (.iload_n 3, 1) := dk_29 (dk_at dksX1_sumOf_1 15 rfl rfl)
theorem dX1_sumOf_40 : decode cX1_sumOf 40 = .ok (.invokevirtual 281, 3) := dk_182 1 25 (dk_at dksX1_sumOf_1 16 rfl rfl)
theorem dX1_sumOf_43 : decode cX1_sumOf 43 = .ok (.goto 4, 3) := dk_167 0 4 (dk_at dksX1_sumOf_1 19 rfl rfl)
theorem dX1_sumOf_46 : decode cX1_sumOf 46 = .ok (.iconst (-1), 1) := dk_2 (dk_at dksX1_sumOf_1 22 rfl rfl)
theorem dX1_sumOf_47 : decode cX1_sumOf 47 = .ok (.istore 4, 2) := dk_54 4 (dk_at dksX1_sumOf_2 0 rfl rfl)
theorem dX1_sumOf_49 : decode cX1_sumOf 49 = .ok (.iload_n 2, 1) := dk_28 (dk_at dksX1_sumOf_2 2 rfl rfl)
theorem dX1_sumOf_50 : decode cX1_sumOf 50 = .ok (.iload 4, 2) := dk_21 4 (dk_at dksX1_sumOf_2 3 rfl rfl)
theorem dX1_sumOf_52 : decode cX1_sumOf 52 = .ok (.iconst (-1), 1) := dk_2 (dk_at dksX1_sumOf_2 5 rfl rfl)
theorem dX1_sumOf_53 : decode cX1_sumOf 53 = .ok (.if_icmp .ne 7, 3) := dk_160 0 7 (dk_at dksX1_sumOf_2 6 rfl rfl)
theorem dX1_sumOf_56 : decode cX1_sumOf 56 = .ok (.iconst 0, 1) := dk_3 (dk_at dksX1_sumOf_2 9 rfl rfl)
theorem dX1_sumOf_57 : decode cX1_sumOf 57 = .ok (.goto 15, 3) := dk_167 0 15 (dk_at dksX1_sumOf_2 10 rfl rfl)
theorem dX1_sumOf_60 : decode cX1_sumOf 60 = .ok (.aload_n 0, 1) := dk_42 (dk_at dksX1_sumOf_2 13 rfl rfl)
theorem dX1_sumOf_61 : decode cX1_sumOf 61 = .ok (.getfield 90, 3) := dk_180 0 90 (dk_at dksX1_sumOf_2 14 rfl rfl)
theorem dX1_sumOf_64 : decode cX1_sumOf 64 = .ok (.iload 4, 2) := dk_21 4 (dk_at dksX1_sumOf_2 17 rfl rfl)
theorem dX1_sumOf_66 : decode cX1_sumOf 66 = .ok (.invokevirtual 195, 3) := dk_182 0 195 (dk_at dksX1_sumOf_2 19 rfl rfl)
theorem dX1_sumOf_69 : decode cX1_sumOf 69 = .ok (.invokevirtual 215, 3) := dk_182 0 215 (dk_at dksX1_sumOf_3 0 rfl rfl)
theorem dX1_sumOf_72 : decode cX1_sumOf 72 = .ok (.iadd, 1) := dk_96 (dk_at dksX1_sumOf_3 3 rfl rfl)
theorem dX1_sumOf_73 : decode cX1_sumOf 73 = .ok (.istore_n 2, 1) := dk_61 (dk_at dksX1_sumOf_3 4 rfl rfl)
theorem dX1_sumOf_74 : decode cX1_sumOf 74 = .ok (.iinc 3 1, 3) := dk_132 3 1 (dk_at dksX1_sumOf_3 5 rfl rfl)
theorem dX1_sumOf_77 : decode cX1_sumOf 77 = .ok (.goto (-73), 3) := dk_167 255 183 (dk_at dksX1_sumOf_3 8 rfl rfl)
theorem dX1_sumOf_80 : decode cX1_sumOf 80 = .ok (.iload_n 2, 1) := dk_28 (dk_at dksX1_sumOf_3 11 rfl rfl)
theorem dX1_sumOf_81 : decode cX1_sumOf 81 = .ok (.bipush 10, 2) := dk_16 10 (dk_at dksX1_sumOf_3 12 rfl rfl)
theorem dX1_sumOf_83 : decode cX1_sumOf 83 = .ok (.irem, 1) := dk_112 (dk_at dksX1_sumOf_3 14 rfl rfl)
theorem dX1_sumOf_84 : decode cX1_sumOf 84 = .ok (.ireturn, 1) := dk_172 (dk_at dksX1_sumOf_3 15 rfl rfl)
abbrev cX1_bag : ByteArray := prog_1_method_59_code
def yX1_bag : MethodName := ⟨RX1, "bag", "(II)I"⟩
def dkwX1_bag_4 : List UInt8 := [27, 182, 1, 79, 167, 0, 11, 187, 0, 105, 89, 183, 0, 107, 191, 172]
abbrev dktX1_bag_4 : List UInt8 := dkwX1_bag_4 ++ []
def dkwX1_bag_3 : List UInt8 := [167, 0, 39, 45, 180, 0, 160, 27, 51, 154, 0, 7, 4, 167, 0, 4, 3, 184, 0, 147, 167, 0, 19, 42]
abbrev dktX1_bag_3 : List UInt8 := dkwX1_bag_3 ++ dktX1_bag_4
def dkwX1_bag_2 : List UInt8 := [45, 180, 0, 156, 27, 46, 167, 0, 57, 45, 180, 1, 73, 27, 46, 167, 0, 48, 45, 180, 1, 76, 27, 46]
abbrev dktX1_bag_2 : List UInt8 := dkwX1_bag_2 ++ dktX1_bag_3
def dkwX1_bag_1 : List UInt8 := [170, 0, 0, 0, 88, 0, 0, 0, 0, 0, 0, 0, 4, 0, 0, 0, 33, 0, 0, 0, 42, 0, 0, 0, 51, 0, 0, 0, 60, 0, 0, 0, 80]
abbrev dktX1_bag_1 : List UInt8 := dkwX1_bag_1 ++ dktX1_bag_2
def dkwX1_bag_0 : List UInt8 := [42, 27, 182, 1, 70, 78, 28]
abbrev dktX1_bag_0 : List UInt8 := dkwX1_bag_0 ++ dktX1_bag_1
theorem dksX1_bag_0 : cX1_bag.data.toList.drop 0 = dktX1_bag_0 := by decide +kernel
theorem dksX1_bag_1 : cX1_bag.data.toList.drop 7 = dktX1_bag_1 := dk_seg dksX1_bag_0 7 rfl rfl
theorem dksX1_bag_2 : cX1_bag.data.toList.drop 40 = dktX1_bag_2 := dk_seg dksX1_bag_1 33 rfl rfl
theorem dksX1_bag_3 : cX1_bag.data.toList.drop 64 = dktX1_bag_3 := dk_seg dksX1_bag_2 24 rfl rfl
theorem dksX1_bag_4 : cX1_bag.data.toList.drop 88 = dktX1_bag_4 := dk_seg dksX1_bag_3 24 rfl rfl
theorem dX1_bag_0 : decode cX1_bag 0 = .ok (.aload_n 0, 1) := dk_42 (dk_at dksX1_bag_0 0 rfl rfl)
theorem dX1_bag_1 : decode cX1_bag 1 = .ok (.iload_n 1, 1) := dk_27 (dk_at dksX1_bag_0 1 rfl rfl)
theorem dX1_bag_2 : decode cX1_bag 2 = .ok (.invokevirtual 326, 3) := dk_182 1 70 (dk_at dksX1_bag_0 2 rfl rfl)
theorem dX1_bag_5 : decode cX1_bag 5 = .ok (.astore_n 3, 1) := dk_78 (dk_at dksX1_bag_0 5 rfl rfl)
theorem dX1_bag_6 : decode cX1_bag 6 = .ok (.iload_n 2, 1) := dk_28 (dk_at dksX1_bag_0 6 rfl rfl)
theorem dX1_bag_7 : decode cX1_bag 7 = .ok (.tableswitch 88 0 4 #[33, 42, 51, 60, 80], 33) := by decide +kernel
theorem dX1_bag_40 : decode cX1_bag 40 = .ok (.aload_n 3, 1) := dk_45 (dk_at dksX1_bag_2 0 rfl rfl)
theorem dX1_bag_41 : decode cX1_bag 41 = .ok (.getfield 156, 3) := dk_180 0 156 (dk_at dksX1_bag_2 1 rfl rfl)
theorem dX1_bag_44 : decode cX1_bag 44 = .ok (.iload_n 1, 1) := dk_27 (dk_at dksX1_bag_2 4 rfl rfl)
theorem dX1_bag_45 : decode cX1_bag 45 = .ok (.iaload, 1) := dk_46 (dk_at dksX1_bag_2 5 rfl rfl)
theorem dX1_bag_46 : decode cX1_bag 46 = .ok (.goto 57, 3) := dk_167 0 57 (dk_at dksX1_bag_2 6 rfl rfl)
theorem dX1_bag_49 : decode cX1_bag 49 = .ok (.aload_n 3, 1) := dk_45 (dk_at dksX1_bag_2 9 rfl rfl)
theorem dX1_bag_50 : decode cX1_bag 50 = .ok (.getfield 329, 3) := dk_180 1 73 (dk_at dksX1_bag_2 10 rfl rfl)
theorem dX1_bag_53 : decode cX1_bag 53 = .ok (.iload_n 1, 1) := dk_27 (dk_at dksX1_bag_2 13 rfl rfl)
theorem dX1_bag_54 : decode cX1_bag 54 = .ok (.iaload, 1) := dk_46 (dk_at dksX1_bag_2 14 rfl rfl)
theorem dX1_bag_55 : decode cX1_bag 55 = .ok (.goto 48, 3) := dk_167 0 48 (dk_at dksX1_bag_2 15 rfl rfl)
theorem dX1_bag_58 : decode cX1_bag 58 = .ok (.aload_n 3, 1) := dk_45 (dk_at dksX1_bag_2 18 rfl rfl)
theorem dX1_bag_59 : decode cX1_bag 59 = .ok (.getfield 332, 3) := dk_180 1 76 (dk_at dksX1_bag_2 19 rfl rfl)
theorem dX1_bag_62 : decode cX1_bag 62 = .ok (.iload_n 1, 1) := dk_27 (dk_at dksX1_bag_2 22 rfl rfl)
theorem dX1_bag_63 : decode cX1_bag 63 = .ok (.iaload, 1) := dk_46 (dk_at dksX1_bag_2 23 rfl rfl)
theorem dX1_bag_64 : decode cX1_bag 64 = .ok (.goto 39, 3) := dk_167 0 39 (dk_at dksX1_bag_3 0 rfl rfl)
theorem dX1_bag_67 : decode cX1_bag 67 = .ok (.aload_n 3, 1) := dk_45 (dk_at dksX1_bag_3 3 rfl rfl)
theorem dX1_bag_68 : decode cX1_bag 68 = .ok (.getfield 160, 3) := dk_180 0 160 (dk_at dksX1_bag_3 4 rfl rfl)
theorem dX1_bag_71 : decode cX1_bag 71 = .ok (.iload_n 1, 1) := dk_27 (dk_at dksX1_bag_3 7 rfl rfl)
theorem dX1_bag_72 : decode cX1_bag 72 = .ok (.baload, 1) := dk_51 (dk_at dksX1_bag_3 8 rfl rfl)
theorem dX1_bag_73 : decode cX1_bag 73 = .ok (.ifCond .ne 7, 3) := dk_154 0 7 (dk_at dksX1_bag_3 9 rfl rfl)
theorem dX1_bag_76 : decode cX1_bag 76 = .ok (.iconst 1, 1) := dk_4 (dk_at dksX1_bag_3 12 rfl rfl)
theorem dX1_bag_77 : decode cX1_bag 77 = .ok (.goto 4, 3) := dk_167 0 4 (dk_at dksX1_bag_3 13 rfl rfl)
theorem dX1_bag_80 : decode cX1_bag 80 = .ok (.iconst 0, 1) := dk_3 (dk_at dksX1_bag_3 16 rfl rfl)
theorem dX1_bag_81 : decode cX1_bag 81 = .ok (.invokestatic 147, 3) := dk_184 0 147 (dk_at dksX1_bag_3 17 rfl rfl)
theorem dX1_bag_84 : decode cX1_bag 84 = .ok (.goto 19, 3) := dk_167 0 19 (dk_at dksX1_bag_3 20 rfl rfl)
theorem dX1_bag_87 : decode cX1_bag 87 = .ok (.aload_n 0, 1) := dk_42 (dk_at dksX1_bag_3 23 rfl rfl)
theorem dX1_bag_88 : decode cX1_bag 88 = .ok (.iload_n 1, 1) := dk_27 (dk_at dksX1_bag_4 0 rfl rfl)
theorem dX1_bag_89 : decode cX1_bag 89 = .ok (.invokevirtual 335, 3) := dk_182 1 79 (dk_at dksX1_bag_4 1 rfl rfl)
theorem dX1_bag_92 : decode cX1_bag 92 = .ok (.goto 11, 3) := dk_167 0 11 (dk_at dksX1_bag_4 4 rfl rfl)
theorem dX1_bag_95 : decode cX1_bag 95 = .ok (.new 105, 3) := dk_187 0 105 (dk_at dksX1_bag_4 7 rfl rfl)
theorem dX1_bag_98 : decode cX1_bag 98 = .ok (.dup, 1) := dk_89 (dk_at dksX1_bag_4 10 rfl rfl)
theorem dX1_bag_99 : decode cX1_bag 99 = .ok (.invokespecial 107, 3) := dk_183 0 107 (dk_at dksX1_bag_4 11 rfl rfl)
theorem dX1_bag_102 : decode cX1_bag 102 = .ok (.athrow, 1) := dk_191 (dk_at dksX1_bag_4 14 rfl rfl)
theorem dX1_bag_103 : decode cX1_bag 103 = .ok (.ireturn, 1) := dk_172 (dk_at dksX1_bag_4 15 rfl rfl)
abbrev cX1_withRoute : ByteArray := prog_1_method_22_code
def yX1_withRoute : MethodName := ⟨RX1, "withRoute", "(I)LBadCodes$Office;"⟩
def dkwX1_withRoute_0 : List UInt8 := [42, 182, 0, 135, 77, 27, 3, 8, 184, 0, 73, 184, 0, 77, 44, 176]
abbrev dktX1_withRoute_0 : List UInt8 := dkwX1_withRoute_0 ++ []
theorem dksX1_withRoute_0 : cX1_withRoute.data.toList.drop 0 = dktX1_withRoute_0 := by decide +kernel
theorem dX1_withRoute_0 : decode cX1_withRoute 0 = .ok (.aload_n 0, 1) := dk_42 (dk_at dksX1_withRoute_0 0 rfl rfl)
theorem dX1_withRoute_1 : decode cX1_withRoute 1 = .ok (.invokevirtual 135, 3) := dk_182 0 135 (dk_at dksX1_withRoute_0 1 rfl rfl)
theorem dX1_withRoute_4 : decode cX1_withRoute 4 = .ok (.astore_n 2, 1) := dk_77 (dk_at dksX1_withRoute_0 4 rfl rfl)
theorem dX1_withRoute_5 : decode cX1_withRoute 5 = .ok (.iload_n 1, 1) := dk_27 (dk_at dksX1_withRoute_0 5 rfl rfl)
theorem dX1_withRoute_6 : decode cX1_withRoute 6 = .ok (.iconst 0, 1) := dk_3 (dk_at dksX1_withRoute_0 6 rfl rfl)
theorem dX1_withRoute_7 : decode cX1_withRoute 7 = .ok (.iconst 5, 1) := dk_8 (dk_at dksX1_withRoute_0 7 rfl rfl)
theorem dX1_withRoute_8 : decode cX1_withRoute 8 = .ok (.invokestatic 73, 3) := dk_184 0 73 (dk_at dksX1_withRoute_0 8 rfl rfl)
theorem dX1_withRoute_11 : decode cX1_withRoute 11 = .ok (.invokestatic 77, 3) := dk_184 0 77 (dk_at dksX1_withRoute_0 11 rfl rfl)
theorem dX1_withRoute_14 : decode cX1_withRoute 14 = .ok (.aload_n 2, 1) := dk_44 (dk_at dksX1_withRoute_0 14 rfl rfl)
theorem dX1_withRoute_15 : decode cX1_withRoute 15 = .ok (.areturn, 1) := dk_176 (dk_at dksX1_withRoute_0 15 rfl rfl)
abbrev cX1_townsOn : ByteArray := prog_1_method_58_code
def yX1_townsOn : MethodName := ⟨RX1, "townsOn", "(I)I"⟩
def dkwX1_townsOn_2 : List UInt8 := [132, 3, 1, 167, 255, 211, 28, 172]
abbrev dktX1_townsOn_2 : List UInt8 := dkwX1_townsOn_2 ++ []
def dkwX1_townsOn_1 : List UInt8 := [180, 0, 90, 29, 182, 0, 195, 182, 0, 204, 27, 160, 0, 7, 4, 167, 0, 4, 3, 184, 0, 147, 96, 61]
abbrev dktX1_townsOn_1 : List UInt8 := dkwX1_townsOn_1 ++ dktX1_townsOn_2
def dkwX1_townsOn_0 : List UInt8 := [3, 61, 3, 62, 29, 42, 180, 0, 90, 180, 0, 136, 185, 0, 123, 1, 0, 162, 0, 35, 28, 42]
abbrev dktX1_townsOn_0 : List UInt8 := dkwX1_townsOn_0 ++ dktX1_townsOn_1
theorem dksX1_townsOn_0 : cX1_townsOn.data.toList.drop 0 = dktX1_townsOn_0 := by decide +kernel
theorem dksX1_townsOn_1 : cX1_townsOn.data.toList.drop 22 = dktX1_townsOn_1 := dk_seg dksX1_townsOn_0 22 rfl rfl
theorem dksX1_townsOn_2 : cX1_townsOn.data.toList.drop 46 = dktX1_townsOn_2 := dk_seg dksX1_townsOn_1 24 rfl rfl
theorem dX1_townsOn_0 : decode cX1_townsOn 0 = .ok (.iconst 0, 1) := dk_3 (dk_at dksX1_townsOn_0 0 rfl rfl)
theorem dX1_townsOn_1 : decode cX1_townsOn 1 = .ok (.istore_n 2, 1) := dk_61 (dk_at dksX1_townsOn_0 1 rfl rfl)
theorem dX1_townsOn_2 : decode cX1_townsOn 2 = .ok (.iconst 0, 1) := dk_3 (dk_at dksX1_townsOn_0 2 rfl rfl)
theorem dX1_townsOn_3 : decode cX1_townsOn 3 = .ok (.istore_n 3, 1) := dk_62 (dk_at dksX1_townsOn_0 3 rfl rfl)
theorem dX1_townsOn_4 : decode cX1_townsOn 4 = .ok (.iload_n 3, 1) := dk_29 (dk_at dksX1_townsOn_0 4 rfl rfl)
theorem dX1_townsOn_5 : decode cX1_townsOn 5 = .ok (.aload_n 0, 1) := dk_42 (dk_at dksX1_townsOn_0 5 rfl rfl)
theorem dX1_townsOn_6 : decode cX1_townsOn 6 = .ok (.getfield 90, 3) := dk_180 0 90 (dk_at dksX1_townsOn_0 6 rfl rfl)
theorem dX1_townsOn_9 : decode cX1_townsOn 9 = .ok (.getfield 136, 3) := dk_180 0 136 (dk_at dksX1_townsOn_0 9 rfl rfl)
theorem dX1_townsOn_12 : decode cX1_townsOn 12 = .ok (.invokeinterface 123 1, 5) := by decide +kernel
theorem dX1_townsOn_17 : decode cX1_townsOn 17 = .ok (.if_icmp .ge 35, 3) := dk_162 0 35 (dk_at dksX1_townsOn_0 17 rfl rfl)
theorem dX1_townsOn_20 : decode cX1_townsOn 20 = .ok (.iload_n 2, 1) := dk_28 (dk_at dksX1_townsOn_0 20 rfl rfl)
theorem dX1_townsOn_21 : decode cX1_townsOn 21 = .ok (.aload_n 0, 1) := dk_42 (dk_at dksX1_townsOn_0 21 rfl rfl)
theorem dX1_townsOn_22 : decode cX1_townsOn 22 = .ok (.getfield 90, 3) := dk_180 0 90 (dk_at dksX1_townsOn_1 0 rfl rfl)
theorem dX1_townsOn_25 : decode cX1_townsOn 25 = .ok (.iload_n 3, 1) := dk_29 (dk_at dksX1_townsOn_1 3 rfl rfl)
theorem dX1_townsOn_26 : decode cX1_townsOn 26 = .ok (.invokevirtual 195, 3) := dk_182 0 195 (dk_at dksX1_townsOn_1 4 rfl rfl)
theorem dX1_townsOn_29 : decode cX1_townsOn 29 = .ok (.invokevirtual 204, 3) := dk_182 0 204 (dk_at dksX1_townsOn_1 7 rfl rfl)
theorem dX1_townsOn_32 : decode cX1_townsOn 32 = .ok (.iload_n 1, 1) := dk_27 (dk_at dksX1_townsOn_1 10 rfl rfl)
theorem dX1_townsOn_33 : decode cX1_townsOn 33 = .ok (.if_icmp .ne 7, 3) := dk_160 0 7 (dk_at dksX1_townsOn_1 11 rfl rfl)
theorem dX1_townsOn_36 : decode cX1_townsOn 36 = .ok (.iconst 1, 1) := dk_4 (dk_at dksX1_townsOn_1 14 rfl rfl)
theorem dX1_townsOn_37 : decode cX1_townsOn 37 = .ok (.goto 4, 3) := dk_167 0 4 (dk_at dksX1_townsOn_1 15 rfl rfl)
theorem dX1_townsOn_40 : decode cX1_townsOn 40 = .ok (.iconst 0, 1) := dk_3 (dk_at dksX1_townsOn_1 18 rfl rfl)
theorem dX1_townsOn_41 : decode cX1_townsOn 41 = .ok (.invokestatic 147, 3) := dk_184 0 147 (dk_at dksX1_townsOn_1 19 rfl rfl)
theorem dX1_townsOn_44 : decode cX1_townsOn 44 = .ok (.iadd, 1) := dk_96 (dk_at dksX1_townsOn_1 22 rfl rfl)
theorem dX1_townsOn_45 : decode cX1_townsOn 45 = .ok (.istore_n 2, 1) := dk_61 (dk_at dksX1_townsOn_1 23 rfl rfl)
theorem dX1_townsOn_46 : decode cX1_townsOn 46 = .ok (.iinc 3 1, 3) := dk_132 3 1 (dk_at dksX1_townsOn_2 0 rfl rfl)
theorem dX1_townsOn_49 : decode cX1_townsOn 49 = .ok (.goto (-45), 3) := dk_167 255 211 (dk_at dksX1_townsOn_2 3 rfl rfl)
theorem dX1_townsOn_52 : decode cX1_townsOn 52 = .ok (.iload_n 2, 1) := dk_28 (dk_at dksX1_townsOn_2 6 rfl rfl)
theorem dX1_townsOn_53 : decode cX1_townsOn 53 = .ok (.ireturn, 1) := dk_172 (dk_at dksX1_townsOn_2 7 rfl rfl)
abbrev cX1_causes : ByteArray := prog_1_method_60_code
def yX1_causes : MethodName := ⟨RX1, "causes", "(I)I"⟩
def dkwX1_causes_1 : List UInt8 := [186, 1, 82, 0, 0, 83, 89, 4, 44, 27, 186, 1, 83, 0, 0, 83, 182, 0, 176, 172]
abbrev dktX1_causes_1 : List UInt8 := dkwX1_causes_1 ++ []
def dkwX1_causes_0 : List UInt8 := [42, 182, 0, 135, 77, 27, 4, 7, 184, 0, 73, 184, 0, 221, 42, 5, 189, 0, 152, 89, 3, 44]
abbrev dktX1_causes_0 : List UInt8 := dkwX1_causes_0 ++ dktX1_causes_1
theorem dksX1_causes_0 : cX1_causes.data.toList.drop 0 = dktX1_causes_0 := by decide +kernel
theorem dksX1_causes_1 : cX1_causes.data.toList.drop 22 = dktX1_causes_1 := dk_seg dksX1_causes_0 22 rfl rfl
theorem dX1_causes_0 : decode cX1_causes 0 = .ok (.aload_n 0, 1) := dk_42 (dk_at dksX1_causes_0 0 rfl rfl)
theorem dX1_causes_1 : decode cX1_causes 1 = .ok (.invokevirtual 135, 3) := dk_182 0 135 (dk_at dksX1_causes_0 1 rfl rfl)
theorem dX1_causes_4 : decode cX1_causes 4 = .ok (.astore_n 2, 1) := dk_77 (dk_at dksX1_causes_0 4 rfl rfl)
theorem dX1_causes_5 : decode cX1_causes 5 = .ok (.iload_n 1, 1) := dk_27 (dk_at dksX1_causes_0 5 rfl rfl)
theorem dX1_causes_6 : decode cX1_causes 6 = .ok (.iconst 1, 1) := dk_4 (dk_at dksX1_causes_0 6 rfl rfl)
theorem dX1_causes_7 : decode cX1_causes 7 = .ok (.iconst 4, 1) := dk_7 (dk_at dksX1_causes_0 7 rfl rfl)
theorem dX1_causes_8 : decode cX1_causes 8 = .ok (.invokestatic 73, 3) := dk_184 0 73 (dk_at dksX1_causes_0 8 rfl rfl)
theorem dX1_causes_11 : decode cX1_causes 11 = .ok (.invokestatic 221, 3) := dk_184 0 221 (dk_at dksX1_causes_0 11 rfl rfl)
theorem dX1_causes_14 : decode cX1_causes 14 = .ok (.aload_n 0, 1) := dk_42 (dk_at dksX1_causes_0 14 rfl rfl)
theorem dX1_causes_15 : decode cX1_causes 15 = .ok (.iconst 2, 1) := dk_5 (dk_at dksX1_causes_0 15 rfl rfl)
theorem dX1_causes_16 : decode cX1_causes 16 = .ok (.anewarray 152, 3) := dk_189 0 152 (dk_at dksX1_causes_0 16 rfl rfl)
theorem dX1_causes_19 : decode cX1_causes 19 = .ok (.dup, 1) := dk_89 (dk_at dksX1_causes_0 19 rfl rfl)
theorem dX1_causes_20 : decode cX1_causes 20 = .ok (.iconst 0, 1) := dk_3 (dk_at dksX1_causes_0 20 rfl rfl)
theorem dX1_causes_21 : decode cX1_causes 21 = .ok (.aload_n 2, 1) := dk_44 (dk_at dksX1_causes_0 21 rfl rfl)
theorem dX1_causes_22 : decode cX1_causes 22 = .ok (.invokedynamic 338, 5) := by decide +kernel
theorem dX1_causes_27 : decode cX1_causes 27 = .ok (.aastore, 1) := dk_83 (dk_at dksX1_causes_1 5 rfl rfl)
theorem dX1_causes_28 : decode cX1_causes 28 = .ok (.dup, 1) := dk_89 (dk_at dksX1_causes_1 6 rfl rfl)
theorem dX1_causes_29 : decode cX1_causes 29 = .ok (.iconst 1, 1) := dk_4 (dk_at dksX1_causes_1 7 rfl rfl)
theorem dX1_causes_30 : decode cX1_causes 30 = .ok (.aload_n 2, 1) := dk_44 (dk_at dksX1_causes_1 8 rfl rfl)
theorem dX1_causes_31 : decode cX1_causes 31 = .ok (.iload_n 1, 1) := dk_27 (dk_at dksX1_causes_1 9 rfl rfl)
theorem dX1_causes_32 : decode cX1_causes 32 = .ok (.invokedynamic 339, 5) := by decide +kernel
theorem dX1_causes_37 : decode cX1_causes 37 = .ok (.aastore, 1) := dk_83 (dk_at dksX1_causes_1 15 rfl rfl)
theorem dX1_causes_38 : decode cX1_causes 38 = .ok (.invokevirtual 176, 3) := dk_182 0 176 (dk_at dksX1_causes_1 16 rfl rfl)
theorem dX1_causes_41 : decode cX1_causes 41 = .ok (.ireturn, 1) := dk_172 (dk_at dksX1_causes_1 19 rfl rfl)
abbrev cX1_lambda_causes_7 : ByteArray := prog_1_method_98_code
def yX1_lambda_causes_7 : MethodName := ⟨RX1, "lambda$causes$7", "(LBadCodes$Office;I)Z"⟩
def dkwX1_lambda_causes_7_0 : List UInt8 := [42, 27, 182, 0, 236, 180, 0, 245, 5, 160, 0, 7, 4, 167, 0, 4, 3, 172]
abbrev dktX1_lambda_causes_7_0 : List UInt8 := dkwX1_lambda_causes_7_0 ++ []
theorem dksX1_lambda_causes_7_0 : cX1_lambda_causes_7.data.toList.drop 0 = dktX1_lambda_causes_7_0 := by decide +kernel
theorem dX1_lambda_causes_7_0 : decode cX1_lambda_causes_7 0 = .ok (.aload_n 0, 1) := dk_42 (dk_at dksX1_lambda_causes_7_0 0 rfl rfl)
theorem dX1_lambda_causes_7_1 : decode cX1_lambda_causes_7 1 = .ok (.iload_n 1, 1) := dk_27 (dk_at dksX1_lambda_causes_7_0 1 rfl rfl)
theorem dX1_lambda_causes_7_2 : decode cX1_lambda_causes_7 2 = .ok (.invokevirtual 236, 3) := dk_182 0 236 (dk_at dksX1_lambda_causes_7_0 2 rfl rfl)
theorem dX1_lambda_causes_7_5 : decode cX1_lambda_causes_7 5 = .ok (.getfield 245, 3) := dk_180 0 245 (dk_at dksX1_lambda_causes_7_0 5 rfl rfl)
theorem dX1_lambda_causes_7_8 : decode cX1_lambda_causes_7 8 = .ok (.iconst 2, 1) := dk_5 (dk_at dksX1_lambda_causes_7_0 8 rfl rfl)
theorem dX1_lambda_causes_7_9 : decode cX1_lambda_causes_7 9 = .ok (.if_icmp .ne 7, 3) := dk_160 0 7 (dk_at dksX1_lambda_causes_7_0 9 rfl rfl)
theorem dX1_lambda_causes_7_12 : decode cX1_lambda_causes_7 12 = .ok (.iconst 1, 1) := dk_4 (dk_at dksX1_lambda_causes_7_0 12 rfl rfl)
theorem dX1_lambda_causes_7_13 : decode cX1_lambda_causes_7 13 = .ok (.goto 4, 3) := dk_167 0 4 (dk_at dksX1_lambda_causes_7_0 13 rfl rfl)
theorem dX1_lambda_causes_7_16 : decode cX1_lambda_causes_7 16 = .ok (.iconst 0, 1) := dk_3 (dk_at dksX1_lambda_causes_7_0 16 rfl rfl)
theorem dX1_lambda_causes_7_17 : decode cX1_lambda_causes_7 17 = .ok (.ireturn, 1) := dk_172 (dk_at dksX1_lambda_causes_7_0 17 rfl rfl)
abbrev cX1_lambda_causes_8 : ByteArray := prog_1_method_97_code
def yX1_lambda_causes_8 : MethodName := ⟨RX1, "lambda$causes$8", "(LBadCodes$Office;II)Z"⟩
def dkwX1_lambda_causes_8_0 : List UInt8 := [42, 28, 182, 0, 236, 180, 0, 254, 27, 160, 0, 7, 4, 167, 0, 4, 3, 172]
abbrev dktX1_lambda_causes_8_0 : List UInt8 := dkwX1_lambda_causes_8_0 ++ []
theorem dksX1_lambda_causes_8_0 : cX1_lambda_causes_8.data.toList.drop 0 = dktX1_lambda_causes_8_0 := by decide +kernel
theorem dX1_lambda_causes_8_0 : decode cX1_lambda_causes_8 0 = .ok (.aload_n 0, 1) := dk_42 (dk_at dksX1_lambda_causes_8_0 0 rfl rfl)
theorem dX1_lambda_causes_8_1 : decode cX1_lambda_causes_8 1 = .ok (.iload_n 2, 1) := dk_28 (dk_at dksX1_lambda_causes_8_0 1 rfl rfl)
theorem dX1_lambda_causes_8_2 : decode cX1_lambda_causes_8 2 = .ok (.invokevirtual 236, 3) := dk_182 0 236 (dk_at dksX1_lambda_causes_8_0 2 rfl rfl)
theorem dX1_lambda_causes_8_5 : decode cX1_lambda_causes_8 5 = .ok (.getfield 254, 3) := dk_180 0 254 (dk_at dksX1_lambda_causes_8_0 5 rfl rfl)
theorem dX1_lambda_causes_8_8 : decode cX1_lambda_causes_8 8 = .ok (.iload_n 1, 1) := dk_27 (dk_at dksX1_lambda_causes_8_0 8 rfl rfl)
theorem dX1_lambda_causes_8_9 : decode cX1_lambda_causes_8 9 = .ok (.if_icmp .ne 7, 3) := dk_160 0 7 (dk_at dksX1_lambda_causes_8_0 9 rfl rfl)
theorem dX1_lambda_causes_8_12 : decode cX1_lambda_causes_8 12 = .ok (.iconst 1, 1) := dk_4 (dk_at dksX1_lambda_causes_8_0 12 rfl rfl)
theorem dX1_lambda_causes_8_13 : decode cX1_lambda_causes_8 13 = .ok (.goto 4, 3) := dk_167 0 4 (dk_at dksX1_lambda_causes_8_0 13 rfl rfl)
theorem dX1_lambda_causes_8_16 : decode cX1_lambda_causes_8 16 = .ok (.iconst 0, 1) := dk_3 (dk_at dksX1_lambda_causes_8_0 16 rfl rfl)
theorem dX1_lambda_causes_8_17 : decode cX1_lambda_causes_8 17 = .ok (.ireturn, 1) := dk_172 (dk_at dksX1_lambda_causes_8_0 17 rfl rfl)
abbrev cX1_gap : ByteArray := prog_1_method_62_code
def yX1_gap : MethodName := ⟨RX1, "gap", "()I"⟩
def dkwX1_gap_4 : List UInt8 := [132, 3, 1, 167, 255, 216, 28, 172]
abbrev dktX1_gap_4 : List UInt8 := dkwX1_gap_4 ++ []
def dkwX1_gap_3 : List UInt8 := [43, 180, 0, 167, 43, 180, 1, 73, 29, 46, 104, 96, 43, 180, 1, 76, 29, 46, 100, 184, 1, 87, 96, 61]
abbrev dktX1_gap_3 : List UInt8 := dkwX1_gap_3 ++ dktX1_gap_4
def dkwX1_gap_2 : List UInt8 := [182, 0, 170, 100, 184, 1, 87, 96, 61, 3, 62, 29, 16, 6, 162, 0, 40, 28, 43, 180, 0, 156, 29, 46]
abbrev dktX1_gap_2 : List UInt8 := dkwX1_gap_2 ++ dktX1_gap_3
def dkwX1_gap_1 : List UInt8 := [180, 0, 119, 185, 0, 123, 1, 0, 43, 3, 182, 0, 170, 100, 43, 4, 182, 0, 170, 100, 43, 5]
abbrev dktX1_gap_1 : List UInt8 := dkwX1_gap_1 ++ dktX1_gap_2
def dkwX1_gap_0 : List UInt8 := [42, 182, 0, 135, 76, 42, 4, 189, 0, 152, 89, 3, 42, 43, 186, 1, 84, 0, 0, 83, 182, 0, 176, 43]
abbrev dktX1_gap_0 : List UInt8 := dkwX1_gap_0 ++ dktX1_gap_1
theorem dksX1_gap_0 : cX1_gap.data.toList.drop 0 = dktX1_gap_0 := by decide +kernel
theorem dksX1_gap_1 : cX1_gap.data.toList.drop 24 = dktX1_gap_1 := dk_seg dksX1_gap_0 24 rfl rfl
theorem dksX1_gap_2 : cX1_gap.data.toList.drop 46 = dktX1_gap_2 := dk_seg dksX1_gap_1 22 rfl rfl
theorem dksX1_gap_3 : cX1_gap.data.toList.drop 70 = dktX1_gap_3 := dk_seg dksX1_gap_2 24 rfl rfl
theorem dksX1_gap_4 : cX1_gap.data.toList.drop 94 = dktX1_gap_4 := dk_seg dksX1_gap_3 24 rfl rfl
theorem dX1_gap_0 : decode cX1_gap 0 = .ok (.aload_n 0, 1) := dk_42 (dk_at dksX1_gap_0 0 rfl rfl)
theorem dX1_gap_1 : decode cX1_gap 1 = .ok (.invokevirtual 135, 3) := dk_182 0 135 (dk_at dksX1_gap_0 1 rfl rfl)
theorem dX1_gap_4 : decode cX1_gap 4 = .ok (.astore_n 1, 1) := dk_76 (dk_at dksX1_gap_0 4 rfl rfl)
theorem dX1_gap_5 : decode cX1_gap 5 = .ok (.aload_n 0, 1) := dk_42 (dk_at dksX1_gap_0 5 rfl rfl)
theorem dX1_gap_6 : decode cX1_gap 6 = .ok (.iconst 1, 1) := dk_4 (dk_at dksX1_gap_0 6 rfl rfl)
theorem dX1_gap_7 : decode cX1_gap 7 = .ok (.anewarray 152, 3) := dk_189 0 152 (dk_at dksX1_gap_0 7 rfl rfl)
theorem dX1_gap_10 : decode cX1_gap 10 = .ok (.dup, 1) := dk_89 (dk_at dksX1_gap_0 10 rfl rfl)
theorem dX1_gap_11 : decode cX1_gap 11 = .ok (.iconst 0, 1) := dk_3 (dk_at dksX1_gap_0 11 rfl rfl)
theorem dX1_gap_12 : decode cX1_gap 12 = .ok (.aload_n 0, 1) := dk_42 (dk_at dksX1_gap_0 12 rfl rfl)
theorem dX1_gap_13 : decode cX1_gap 13 = .ok (.aload_n 1, 1) := dk_43 (dk_at dksX1_gap_0 13 rfl rfl)
theorem dX1_gap_14 : decode cX1_gap 14 = .ok (.invokedynamic 340, 5) := by decide +kernel
theorem dX1_gap_19 : decode cX1_gap 19 = .ok (.aastore, 1) := dk_83 (dk_at dksX1_gap_0 19 rfl rfl)
theorem dX1_gap_20 : decode cX1_gap 20 = .ok (.invokevirtual 176, 3) := dk_182 0 176 (dk_at dksX1_gap_0 20 rfl rfl)
theorem dX1_gap_23 : decode cX1_gap 23 = .ok (.aload_n 1, 1) := dk_43 (dk_at dksX1_gap_0 23 rfl rfl)
theorem dX1_gap_24 : decode cX1_gap 24 = .ok (.getfield 119, 3) := dk_180 0 119 (dk_at dksX1_gap_1 0 rfl rfl)
theorem dX1_gap_27 : decode cX1_gap 27 = .ok (.invokeinterface 123 1, 5) := by decide +kernel
theorem dX1_gap_32 : decode cX1_gap 32 = .ok (.aload_n 1, 1) := dk_43 (dk_at dksX1_gap_1 8 rfl rfl)
theorem dX1_gap_33 : decode cX1_gap 33 = .ok (.iconst 0, 1) := dk_3 (dk_at dksX1_gap_1 9 rfl rfl)
theorem dX1_gap_34 : decode cX1_gap 34 = .ok (.invokevirtual 170, 3) := dk_182 0 170 (dk_at dksX1_gap_1 10 rfl rfl)
theorem dX1_gap_37 : decode cX1_gap 37 = .ok (.isub, 1) := dk_100 (dk_at dksX1_gap_1 13 rfl rfl)
theorem dX1_gap_38 : decode cX1_gap 38 = .ok (.aload_n 1, 1) := dk_43 (dk_at dksX1_gap_1 14 rfl rfl)
theorem dX1_gap_39 : decode cX1_gap 39 = .ok (.iconst 1, 1) := dk_4 (dk_at dksX1_gap_1 15 rfl rfl)
theorem dX1_gap_40 : decode cX1_gap 40 = .ok (.invokevirtual 170, 3) := dk_182 0 170 (dk_at dksX1_gap_1 16 rfl rfl)
theorem dX1_gap_43 : decode cX1_gap 43 = .ok (.isub, 1) := dk_100 (dk_at dksX1_gap_1 19 rfl rfl)
theorem dX1_gap_44 : decode cX1_gap 44 = .ok (.aload_n 1, 1) := dk_43 (dk_at dksX1_gap_1 20 rfl rfl)
theorem dX1_gap_45 : decode cX1_gap 45 = .ok (.iconst 2, 1) := dk_5 (dk_at dksX1_gap_1 21 rfl rfl)
theorem dX1_gap_46 : decode cX1_gap 46 = .ok (.invokevirtual 170, 3) := dk_182 0 170 (dk_at dksX1_gap_2 0 rfl rfl)
theorem dX1_gap_49 : decode cX1_gap 49 = .ok (.isub, 1) := dk_100 (dk_at dksX1_gap_2 3 rfl rfl)
theorem dX1_gap_50 : decode cX1_gap 50 = .ok (.invokestatic 343, 3) := dk_184 1 87 (dk_at dksX1_gap_2 4 rfl rfl)
theorem dX1_gap_53 : decode cX1_gap 53 = .ok (.iadd, 1) := dk_96 (dk_at dksX1_gap_2 7 rfl rfl)
theorem dX1_gap_54 : decode cX1_gap 54 = .ok (.istore_n 2, 1) := dk_61 (dk_at dksX1_gap_2 8 rfl rfl)
theorem dX1_gap_55 : decode cX1_gap 55 = .ok (.iconst 0, 1) := dk_3 (dk_at dksX1_gap_2 9 rfl rfl)
theorem dX1_gap_56 : decode cX1_gap 56 = .ok (.istore_n 3, 1) := dk_62 (dk_at dksX1_gap_2 10 rfl rfl)
theorem dX1_gap_57 : decode cX1_gap 57 = .ok (.iload_n 3, 1) := dk_29 (dk_at dksX1_gap_2 11 rfl rfl)
theorem dX1_gap_58 : decode cX1_gap 58 = .ok (.bipush 6, 2) := dk_16 6 (dk_at dksX1_gap_2 12 rfl rfl)
theorem dX1_gap_60 : decode cX1_gap 60 = .ok (.if_icmp .ge 40, 3) := dk_162 0 40 (dk_at dksX1_gap_2 14 rfl rfl)
theorem dX1_gap_63 : decode cX1_gap 63 = .ok (.iload_n 2, 1) := dk_28 (dk_at dksX1_gap_2 17 rfl rfl)
theorem dX1_gap_64 : decode cX1_gap 64 = .ok (.aload_n 1, 1) := dk_43 (dk_at dksX1_gap_2 18 rfl rfl)
theorem dX1_gap_65 : decode cX1_gap 65 = .ok (.getfield 156, 3) := dk_180 0 156 (dk_at dksX1_gap_2 19 rfl rfl)
theorem dX1_gap_68 : decode cX1_gap 68 = .ok (.iload_n 3, 1) := dk_29 (dk_at dksX1_gap_2 22 rfl rfl)
theorem dX1_gap_69 : decode cX1_gap 69 = .ok (.iaload, 1) := dk_46 (dk_at dksX1_gap_2 23 rfl rfl)
theorem dX1_gap_70 : decode cX1_gap 70 = .ok (.aload_n 1, 1) := dk_43 (dk_at dksX1_gap_3 0 rfl rfl)
theorem dX1_gap_71 : decode cX1_gap 71 = .ok (.getfield 167, 3) := dk_180 0 167 (dk_at dksX1_gap_3 1 rfl rfl)
theorem dX1_gap_74 : decode cX1_gap 74 = .ok (.aload_n 1, 1) := dk_43 (dk_at dksX1_gap_3 4 rfl rfl)
theorem dX1_gap_75 : decode cX1_gap 75 = .ok (.getfield 329, 3) := dk_180 1 73 (dk_at dksX1_gap_3 5 rfl rfl)
theorem dX1_gap_78 : decode cX1_gap 78 = .ok (.iload_n 3, 1) := dk_29 (dk_at dksX1_gap_3 8 rfl rfl)
theorem dX1_gap_79 : decode cX1_gap 79 = .ok (.iaload, 1) := dk_46 (dk_at dksX1_gap_3 9 rfl rfl)
theorem dX1_gap_80 : decode cX1_gap 80 = .ok (.imul, 1) := dk_104 (dk_at dksX1_gap_3 10 rfl rfl)
theorem dX1_gap_81 : decode cX1_gap 81 = .ok (.iadd, 1) := dk_96 (dk_at dksX1_gap_3 11 rfl rfl)
theorem dX1_gap_82 : decode cX1_gap 82 = .ok (.aload_n 1, 1) := dk_43 (dk_at dksX1_gap_3 12 rfl rfl)
theorem dX1_gap_83 : decode cX1_gap 83 = .ok (.getfield 332, 3) := dk_180 1 76 (dk_at dksX1_gap_3 13 rfl rfl)
theorem dX1_gap_86 : decode cX1_gap 86 = .ok (.iload_n 3, 1) := dk_29 (dk_at dksX1_gap_3 16 rfl rfl)
theorem dX1_gap_87 : decode cX1_gap 87 = .ok (.iaload, 1) := dk_46 (dk_at dksX1_gap_3 17 rfl rfl)
theorem dX1_gap_88 : decode cX1_gap 88 = .ok (.isub, 1) := dk_100 (dk_at dksX1_gap_3 18 rfl rfl)
theorem dX1_gap_89 : decode cX1_gap 89 = .ok (.invokestatic 343, 3) := dk_184 1 87 (dk_at dksX1_gap_3 19 rfl rfl)
theorem dX1_gap_92 : decode cX1_gap 92 = .ok (.iadd, 1) := dk_96 (dk_at dksX1_gap_3 22 rfl rfl)
theorem dX1_gap_93 : decode cX1_gap 93 = .ok (.istore_n 2, 1) := dk_61 (dk_at dksX1_gap_3 23 rfl rfl)
theorem dX1_gap_94 : decode cX1_gap 94 = .ok (.iinc 3 1, 3) := dk_132 3 1 (dk_at dksX1_gap_4 0 rfl rfl)
theorem dX1_gap_97 : decode cX1_gap 97 = .ok (.goto (-40), 3) := dk_167 255 216 (dk_at dksX1_gap_4 3 rfl rfl)
theorem dX1_gap_100 : decode cX1_gap 100 = .ok (.iload_n 2, 1) := dk_28 (dk_at dksX1_gap_4 6 rfl rfl)
theorem dX1_gap_101 : decode cX1_gap 101 = .ok (.ireturn, 1) := dk_172 (dk_at dksX1_gap_4 7 rfl rfl)
abbrev cX1_lambda_gap_9 : ByteArray := prog_1_method_96_code
def yX1_lambda_gap_9 : MethodName := ⟨RX1, "lambda$gap$9", "(LBadCodes$Office;I)Z"⟩
def dkwX1_lambda_gap_9_0 : List UInt8 := [42, 43, 28, 182, 1, 22, 182, 1, 188, 172]
abbrev dktX1_lambda_gap_9_0 : List UInt8 := dkwX1_lambda_gap_9_0 ++ []
theorem dksX1_lambda_gap_9_0 : cX1_lambda_gap_9.data.toList.drop 0 = dktX1_lambda_gap_9_0 := by decide +kernel
theorem dX1_lambda_gap_9_0 : decode cX1_lambda_gap_9 0 = .ok (.aload_n 0, 1) := dk_42 (dk_at dksX1_lambda_gap_9_0 0 rfl rfl)
theorem dX1_lambda_gap_9_1 : decode cX1_lambda_gap_9 1 = .ok (.aload_n 1, 1) := dk_43 (dk_at dksX1_lambda_gap_9_0 1 rfl rfl)
theorem dX1_lambda_gap_9_2 : decode cX1_lambda_gap_9 2 = .ok (.iload_n 2, 1) := dk_28 (dk_at dksX1_lambda_gap_9_0 2 rfl rfl)
theorem dX1_lambda_gap_9_3 : decode cX1_lambda_gap_9 3 = .ok (.invokevirtual 278, 3) := dk_182 1 22 (dk_at dksX1_lambda_gap_9_0 3 rfl rfl)
theorem dX1_lambda_gap_9_6 : decode cX1_lambda_gap_9 6 = .ok (.invokevirtual 444, 3) := dk_182 1 188 (dk_at dksX1_lambda_gap_9_0 6 rfl rfl)
theorem dX1_lambda_gap_9_9 : decode cX1_lambda_gap_9 9 = .ok (.ireturn, 1) := dk_172 (dk_at dksX1_lambda_gap_9_0 9 rfl rfl)
abbrev cX1_isWrong : ByteArray := prog_1_method_61_code
def yX1_isWrong : MethodName := ⟨RX1, "isWrong", "(I)Z"⟩
def dkwX1_isWrong_2 : List UInt8 := [29, 16, 10, 112, 153, 0, 7, 4, 167, 0, 4, 3, 172]
abbrev dktX1_isWrong_2 : List UInt8 := dkwX1_isWrong_2 ++ []
def dkwX1_isWrong_1 : List UInt8 := [162, 0, 24, 29, 21, 4, 184, 0, 3, 44, 21, 4, 182, 0, 218, 104, 96, 62, 132, 4, 1, 167, 255, 232]
abbrev dktX1_isWrong_1 : List UInt8 := dkwX1_isWrong_1 ++ dktX1_isWrong_2
def dkwX1_isWrong_0 : List UInt8 := [27, 2, 160, 0, 5, 3, 172, 42, 180, 0, 90, 27, 182, 0, 195, 77, 3, 62, 3, 54, 4, 21, 4, 8]
abbrev dktX1_isWrong_0 : List UInt8 := dkwX1_isWrong_0 ++ dktX1_isWrong_1
theorem dksX1_isWrong_0 : cX1_isWrong.data.toList.drop 0 = dktX1_isWrong_0 := by decide +kernel
theorem dksX1_isWrong_1 : cX1_isWrong.data.toList.drop 24 = dktX1_isWrong_1 := dk_seg dksX1_isWrong_0 24 rfl rfl
theorem dksX1_isWrong_2 : cX1_isWrong.data.toList.drop 48 = dktX1_isWrong_2 := dk_seg dksX1_isWrong_1 24 rfl rfl
theorem dX1_isWrong_0 : decode cX1_isWrong 0 = .ok (.iload_n 1, 1) := dk_27 (dk_at dksX1_isWrong_0 0 rfl rfl)
theorem dX1_isWrong_1 : decode cX1_isWrong 1 = .ok (.iconst (-1), 1) := dk_2 (dk_at dksX1_isWrong_0 1 rfl rfl)
theorem dX1_isWrong_2 : decode cX1_isWrong 2 = .ok (.if_icmp .ne 5, 3) := dk_160 0 5 (dk_at dksX1_isWrong_0 2 rfl rfl)
theorem dX1_isWrong_5 : decode cX1_isWrong 5 = .ok (.iconst 0, 1) := dk_3 (dk_at dksX1_isWrong_0 5 rfl rfl)
theorem dX1_isWrong_6 : decode cX1_isWrong 6 = .ok (.ireturn, 1) := dk_172 (dk_at dksX1_isWrong_0 6 rfl rfl)
theorem dX1_isWrong_7 : decode cX1_isWrong 7 = .ok (.aload_n 0, 1) := dk_42 (dk_at dksX1_isWrong_0 7 rfl rfl)
theorem dX1_isWrong_8 : decode cX1_isWrong 8 = .ok (.getfield 90, 3) := dk_180 0 90 (dk_at dksX1_isWrong_0 8 rfl rfl)
theorem dX1_isWrong_11 : decode cX1_isWrong 11 = .ok (.iload_n 1, 1) := dk_27 (dk_at dksX1_isWrong_0 11 rfl rfl)
theorem dX1_isWrong_12 : decode cX1_isWrong 12 = .ok (.invokevirtual 195, 3) := dk_182 0 195 (dk_at dksX1_isWrong_0 12 rfl rfl)
theorem dX1_isWrong_15 : decode cX1_isWrong 15 = .ok (.astore_n 2, 1) := dk_77 (dk_at dksX1_isWrong_0 15 rfl rfl)
theorem dX1_isWrong_16 : decode cX1_isWrong 16 = .ok (.iconst 0, 1) := dk_3 (dk_at dksX1_isWrong_0 16 rfl rfl)
theorem dX1_isWrong_17 : decode cX1_isWrong 17 = .ok (.istore_n 3, 1) := dk_62 (dk_at dksX1_isWrong_0 17 rfl rfl)
theorem dX1_isWrong_18 : decode cX1_isWrong 18 = .ok (.iconst 0, 1) := dk_3 (dk_at dksX1_isWrong_0 18 rfl rfl)
theorem dX1_isWrong_19 : decode cX1_isWrong 19 = .ok (.istore 4, 2) := dk_54 4 (dk_at dksX1_isWrong_0 19 rfl rfl)
theorem dX1_isWrong_21 : decode cX1_isWrong 21 = .ok (.iload 4, 2) := dk_21 4 (dk_at dksX1_isWrong_0 21 rfl rfl)
theorem dX1_isWrong_23 : decode cX1_isWrong 23 = .ok (.iconst 5, 1) := dk_8 (dk_at dksX1_isWrong_0 23 rfl rfl)
theorem dX1_isWrong_24 : decode cX1_isWrong 24 = .ok (.if_icmp .ge 24, 3) := dk_162 0 24 (dk_at dksX1_isWrong_1 0 rfl rfl)
theorem dX1_isWrong_27 : decode cX1_isWrong 27 = .ok (.iload_n 3, 1) := dk_29 (dk_at dksX1_isWrong_1 3 rfl rfl)
theorem dX1_isWrong_28 : decode cX1_isWrong 28 = .ok (.iload 4, 2) := dk_21 4 (dk_at dksX1_isWrong_1 4 rfl rfl)
theorem dX1_isWrong_30 : decode cX1_isWrong 30 = .ok (.invokestatic 3, 3) := dk_184 0 3 (dk_at dksX1_isWrong_1 6 rfl rfl)
theorem dX1_isWrong_33 : decode cX1_isWrong 33 = .ok (.aload_n 2, 1) := dk_44 (dk_at dksX1_isWrong_1 9 rfl rfl)
theorem dX1_isWrong_34 : decode cX1_isWrong 34 = .ok (.iload 4, 2) := dk_21 4 (dk_at dksX1_isWrong_1 10 rfl rfl)
theorem dX1_isWrong_36 : decode cX1_isWrong 36 = .ok (.invokevirtual 218, 3) := dk_182 0 218 (dk_at dksX1_isWrong_1 12 rfl rfl)
theorem dX1_isWrong_39 : decode cX1_isWrong 39 = .ok (.imul, 1) := dk_104 (dk_at dksX1_isWrong_1 15 rfl rfl)
theorem dX1_isWrong_40 : decode cX1_isWrong 40 = .ok (.iadd, 1) := dk_96 (dk_at dksX1_isWrong_1 16 rfl rfl)
theorem dX1_isWrong_41 : decode cX1_isWrong 41 = .ok (.istore_n 3, 1) := dk_62 (dk_at dksX1_isWrong_1 17 rfl rfl)
theorem dX1_isWrong_42 : decode cX1_isWrong 42 = .ok (.iinc 4 1, 3) := dk_132 4 1 (dk_at dksX1_isWrong_1 18 rfl rfl)
theorem dX1_isWrong_45 : decode cX1_isWrong 45 = .ok (.goto (-24), 3) := dk_167 255 232 (dk_at dksX1_isWrong_1 21 rfl rfl)
theorem dX1_isWrong_48 : decode cX1_isWrong 48 = .ok (.iload_n 3, 1) := dk_29 (dk_at dksX1_isWrong_2 0 rfl rfl)
theorem dX1_isWrong_49 : decode cX1_isWrong 49 = .ok (.bipush 10, 2) := dk_16 10 (dk_at dksX1_isWrong_2 1 rfl rfl)
theorem dX1_isWrong_51 : decode cX1_isWrong 51 = .ok (.irem, 1) := dk_112 (dk_at dksX1_isWrong_2 3 rfl rfl)
theorem dX1_isWrong_52 : decode cX1_isWrong 52 = .ok (.ifCond .eq 7, 3) := dk_153 0 7 (dk_at dksX1_isWrong_2 4 rfl rfl)
theorem dX1_isWrong_55 : decode cX1_isWrong 55 = .ok (.iconst 1, 1) := dk_4 (dk_at dksX1_isWrong_2 7 rfl rfl)
theorem dX1_isWrong_56 : decode cX1_isWrong 56 = .ok (.goto 4, 3) := dk_167 0 4 (dk_at dksX1_isWrong_2 8 rfl rfl)
theorem dX1_isWrong_59 : decode cX1_isWrong 59 = .ok (.iconst 0, 1) := dk_3 (dk_at dksX1_isWrong_2 11 rfl rfl)
theorem dX1_isWrong_60 : decode cX1_isWrong 60 = .ok (.ireturn, 1) := dk_172 (dk_at dksX1_isWrong_2 12 rfl rfl)
abbrev cX1_decidedIf : ByteArray := prog_1_method_64_code
def yX1_decidedIf : MethodName := ⟨RX1, "decidedIf", "(III)I"⟩
def dkwX1_decidedIf_0 : List UInt8 := [42, 27, 28, 182, 1, 9, 58, 4, 29, 184, 1, 90, 184, 0, 221, 25, 4, 27, 28, 29, 184, 1, 93, 172]
abbrev dktX1_decidedIf_0 : List UInt8 := dkwX1_decidedIf_0 ++ []
theorem dksX1_decidedIf_0 : cX1_decidedIf.data.toList.drop 0 = dktX1_decidedIf_0 := by decide +kernel
theorem dX1_decidedIf_0 : decode cX1_decidedIf 0 = .ok (.aload_n 0, 1) := dk_42 (dk_at dksX1_decidedIf_0 0 rfl rfl)
theorem dX1_decidedIf_1 : decode cX1_decidedIf 1 = .ok (.iload_n 1, 1) := dk_27 (dk_at dksX1_decidedIf_0 1 rfl rfl)
theorem dX1_decidedIf_2 : decode cX1_decidedIf 2 = .ok (.iload_n 2, 1) := dk_28 (dk_at dksX1_decidedIf_0 2 rfl rfl)
theorem dX1_decidedIf_3 : decode cX1_decidedIf 3 = .ok (.invokevirtual 265, 3) := dk_182 1 9 (dk_at dksX1_decidedIf_0 3 rfl rfl)
theorem dX1_decidedIf_6 : decode cX1_decidedIf 6 = .ok (.astore 4, 2) := dk_58 4 (dk_at dksX1_decidedIf_0 6 rfl rfl)
theorem dX1_decidedIf_8 : decode cX1_decidedIf 8 = .ok (.iload_n 3, 1) := dk_29 (dk_at dksX1_decidedIf_0 8 rfl rfl)
theorem dX1_decidedIf_9 : decode cX1_decidedIf 9 = .ok (.invokestatic 346, 3) := dk_184 1 90 (dk_at dksX1_decidedIf_0 9 rfl rfl)
theorem dX1_decidedIf_12 : decode cX1_decidedIf 12 = .ok (.invokestatic 221, 3) := dk_184 0 221 (dk_at dksX1_decidedIf_0 12 rfl rfl)
theorem dX1_decidedIf_15 : decode cX1_decidedIf 15 = .ok (.aload 4, 2) := dk_25 4 (dk_at dksX1_decidedIf_0 15 rfl rfl)
theorem dX1_decidedIf_17 : decode cX1_decidedIf 17 = .ok (.iload_n 1, 1) := dk_27 (dk_at dksX1_decidedIf_0 17 rfl rfl)
theorem dX1_decidedIf_18 : decode cX1_decidedIf 18 = .ok (.iload_n 2, 1) := dk_28 (dk_at dksX1_decidedIf_0 18 rfl rfl)
theorem dX1_decidedIf_19 : decode cX1_decidedIf 19 = .ok (.iload_n 3, 1) := dk_29 (dk_at dksX1_decidedIf_0 19 rfl rfl)
theorem dX1_decidedIf_20 : decode cX1_decidedIf 20 = .ok (.invokestatic 349, 3) := dk_184 1 93 (dk_at dksX1_decidedIf_0 20 rfl rfl)
theorem dX1_decidedIf_23 : decode cX1_decidedIf 23 = .ok (.ireturn, 1) := dk_172 (dk_at dksX1_decidedIf_0 23 rfl rfl)
abbrev cX1_isDigit : ByteArray := prog_1_method_23_code
def yX1_isDigit : MethodName := ⟨RX1, "isDigit", "(I)Z"⟩
def dkwX1_isDigit_0 : List UInt8 := [26, 2, 16, 9, 184, 0, 73, 172]
abbrev dktX1_isDigit_0 : List UInt8 := dkwX1_isDigit_0 ++ []
theorem dksX1_isDigit_0 : cX1_isDigit.data.toList.drop 0 = dktX1_isDigit_0 := by decide +kernel
theorem dX1_isDigit_0 : decode cX1_isDigit 0 = .ok (.iload_n 0, 1) := dk_26 (dk_at dksX1_isDigit_0 0 rfl rfl)
theorem dX1_isDigit_1 : decode cX1_isDigit 1 = .ok (.iconst (-1), 1) := dk_2 (dk_at dksX1_isDigit_0 1 rfl rfl)
theorem dX1_isDigit_2 : decode cX1_isDigit 2 = .ok (.bipush 9, 2) := dk_16 9 (dk_at dksX1_isDigit_0 2 rfl rfl)
theorem dX1_isDigit_4 : decode cX1_isDigit 4 = .ok (.invokestatic 73, 3) := dk_184 0 73 (dk_at dksX1_isDigit_0 4 rfl rfl)
theorem dX1_isDigit_7 : decode cX1_isDigit 7 = .ok (.ireturn, 1) := dk_172 (dk_at dksX1_isDigit_0 7 rfl rfl)
abbrev cX1_decidedWith : ByteArray := prog_1_method_63_code
def yX1_decidedWith : MethodName := ⟨RX1, "decidedWith", "(LBadCodes$Office;III)I"⟩
def dkwX1_decidedWith_1 : List UInt8 := [42, 27, 182, 1, 22, 54, 6, 25, 4, 180, 1, 13, 28, 21, 5, 79, 21, 6, 172]
abbrev dktX1_decidedWith_1 : List UInt8 := dkwX1_decidedWith_1 ++ []
def dkwX1_decidedWith_0 : List UInt8 := [42, 27, 182, 0, 236, 58, 4, 25, 4, 180, 1, 13, 28, 46, 54, 5, 25, 4, 180, 1, 13, 28, 29, 79]
abbrev dktX1_decidedWith_0 : List UInt8 := dkwX1_decidedWith_0 ++ dktX1_decidedWith_1
theorem dksX1_decidedWith_0 : cX1_decidedWith.data.toList.drop 0 = dktX1_decidedWith_0 := by decide +kernel
theorem dksX1_decidedWith_1 : cX1_decidedWith.data.toList.drop 24 = dktX1_decidedWith_1 := dk_seg dksX1_decidedWith_0 24 rfl rfl
theorem dX1_decidedWith_0 : decode cX1_decidedWith 0 = .ok (.aload_n 0, 1) := dk_42 (dk_at dksX1_decidedWith_0 0 rfl rfl)
theorem dX1_decidedWith_1 : decode cX1_decidedWith 1 = .ok (.iload_n 1, 1) := dk_27 (dk_at dksX1_decidedWith_0 1 rfl rfl)
theorem dX1_decidedWith_2 : decode cX1_decidedWith 2 = .ok (.invokevirtual 236, 3) := dk_182 0 236 (dk_at dksX1_decidedWith_0 2 rfl rfl)
theorem dX1_decidedWith_5 : decode cX1_decidedWith 5 = .ok (.astore 4, 2) := dk_58 4 (dk_at dksX1_decidedWith_0 5 rfl rfl)
theorem dX1_decidedWith_7 : decode cX1_decidedWith 7 = .ok (.aload 4, 2) := dk_25 4 (dk_at dksX1_decidedWith_0 7 rfl rfl)
theorem dX1_decidedWith_9 : decode cX1_decidedWith 9 = .ok (.getfield 269, 3) := dk_180 1 13 (dk_at dksX1_decidedWith_0 9 rfl rfl)
theorem dX1_decidedWith_12 : decode cX1_decidedWith 12 = .ok (.iload_n 2, 1) := dk_28 (dk_at dksX1_decidedWith_0 12 rfl rfl)
theorem dX1_decidedWith_13 : decode cX1_decidedWith 13 = .ok (.iaload, 1) := dk_46 (dk_at dksX1_decidedWith_0 13 rfl rfl)
theorem dX1_decidedWith_14 : decode cX1_decidedWith 14 = .ok (.istore 5, 2) := dk_54 5 (dk_at dksX1_decidedWith_0 14 rfl rfl)
theorem dX1_decidedWith_16 : decode cX1_decidedWith 16 = .ok (.aload 4, 2) := dk_25 4 (dk_at dksX1_decidedWith_0 16 rfl rfl)
theorem dX1_decidedWith_18 : decode cX1_decidedWith 18 = .ok (.getfield 269, 3) := dk_180 1 13 (dk_at dksX1_decidedWith_0 18 rfl rfl)
theorem dX1_decidedWith_21 : decode cX1_decidedWith 21 = .ok (.iload_n 2, 1) := dk_28 (dk_at dksX1_decidedWith_0 21 rfl rfl)
theorem dX1_decidedWith_22 : decode cX1_decidedWith 22 = .ok (.iload_n 3, 1) := dk_29 (dk_at dksX1_decidedWith_0 22 rfl rfl)
theorem dX1_decidedWith_23 : decode cX1_decidedWith 23 = .ok (.iastore, 1) := dk_79 (dk_at dksX1_decidedWith_0 23 rfl rfl)
theorem dX1_decidedWith_24 : decode cX1_decidedWith 24 = .ok (.aload_n 0, 1) := dk_42 (dk_at dksX1_decidedWith_1 0 rfl rfl)
theorem dX1_decidedWith_25 : decode cX1_decidedWith 25 = .ok (.iload_n 1, 1) := dk_27 (dk_at dksX1_decidedWith_1 1 rfl rfl)
theorem dX1_decidedWith_26 : decode cX1_decidedWith 26 = .ok (.invokevirtual 278, 3) := dk_182 1 22 (dk_at dksX1_decidedWith_1 2 rfl rfl)
theorem dX1_decidedWith_29 : decode cX1_decidedWith 29 = .ok (.istore 6, 2) := dk_54 6 (dk_at dksX1_decidedWith_1 5 rfl rfl)
theorem dX1_decidedWith_31 : decode cX1_decidedWith 31 = .ok (.aload 4, 2) := dk_25 4 (dk_at dksX1_decidedWith_1 7 rfl rfl)
theorem dX1_decidedWith_33 : decode cX1_decidedWith 33 = .ok (.getfield 269, 3) := dk_180 1 13 (dk_at dksX1_decidedWith_1 9 rfl rfl)
theorem dX1_decidedWith_36 : decode cX1_decidedWith 36 = .ok (.iload_n 2, 1) := dk_28 (dk_at dksX1_decidedWith_1 12 rfl rfl)
theorem dX1_decidedWith_37 : decode cX1_decidedWith 37 = .ok (.iload 5, 2) := dk_21 5 (dk_at dksX1_decidedWith_1 13 rfl rfl)
theorem dX1_decidedWith_39 : decode cX1_decidedWith 39 = .ok (.iastore, 1) := dk_79 (dk_at dksX1_decidedWith_1 15 rfl rfl)
theorem dX1_decidedWith_40 : decode cX1_decidedWith 40 = .ok (.iload 6, 2) := dk_21 6 (dk_at dksX1_decidedWith_1 16 rfl rfl)
theorem dX1_decidedWith_42 : decode cX1_decidedWith 42 = .ok (.ireturn, 1) := dk_172 (dk_at dksX1_decidedWith_1 18 rfl rfl)
abbrev cX1_sortedIf : ByteArray := prog_1_method_66_code
def yX1_sortedIf : MethodName := ⟨RX1, "sortedIf", "(I)I"⟩
def dkwX1_sortedIf_0 : List UInt8 := [42, 182, 0, 135, 77, 27, 3, 16, 8, 184, 0, 73, 184, 0, 221, 42, 27, 182, 1, 103, 172]
abbrev dktX1_sortedIf_0 : List UInt8 := dkwX1_sortedIf_0 ++ []
theorem dksX1_sortedIf_0 : cX1_sortedIf.data.toList.drop 0 = dktX1_sortedIf_0 := by decide +kernel
theorem dX1_sortedIf_0 : decode cX1_sortedIf 0 = .ok (.aload_n 0, 1) := dk_42 (dk_at dksX1_sortedIf_0 0 rfl rfl)
theorem dX1_sortedIf_1 : decode cX1_sortedIf 1 = .ok (.invokevirtual 135, 3) := dk_182 0 135 (dk_at dksX1_sortedIf_0 1 rfl rfl)
theorem dX1_sortedIf_4 : decode cX1_sortedIf 4 = .ok (.astore_n 2, 1) := dk_77 (dk_at dksX1_sortedIf_0 4 rfl rfl)
theorem dX1_sortedIf_5 : decode cX1_sortedIf 5 = .ok (.iload_n 1, 1) := dk_27 (dk_at dksX1_sortedIf_0 5 rfl rfl)
theorem dX1_sortedIf_6 : decode cX1_sortedIf 6 = .ok (.iconst 0, 1) := dk_3 (dk_at dksX1_sortedIf_0 6 rfl rfl)
theorem dX1_sortedIf_7 : decode cX1_sortedIf 7 = .ok (.bipush 8, 2) := dk_16 8 (dk_at dksX1_sortedIf_0 7 rfl rfl)
theorem dX1_sortedIf_9 : decode cX1_sortedIf 9 = .ok (.invokestatic 73, 3) := dk_184 0 73 (dk_at dksX1_sortedIf_0 9 rfl rfl)
theorem dX1_sortedIf_12 : decode cX1_sortedIf 12 = .ok (.invokestatic 221, 3) := dk_184 0 221 (dk_at dksX1_sortedIf_0 12 rfl rfl)
theorem dX1_sortedIf_15 : decode cX1_sortedIf 15 = .ok (.aload_n 0, 1) := dk_42 (dk_at dksX1_sortedIf_0 15 rfl rfl)
theorem dX1_sortedIf_16 : decode cX1_sortedIf 16 = .ok (.iload_n 1, 1) := dk_27 (dk_at dksX1_sortedIf_0 16 rfl rfl)
theorem dX1_sortedIf_17 : decode cX1_sortedIf 17 = .ok (.invokevirtual 359, 3) := dk_182 1 103 (dk_at dksX1_sortedIf_0 17 rfl rfl)
theorem dX1_sortedIf_20 : decode cX1_sortedIf 20 = .ok (.ireturn, 1) := dk_172 (dk_at dksX1_sortedIf_0 20 rfl rfl)
abbrev cX1_sortedWith : ByteArray := prog_1_method_65_code
def yX1_sortedWith : MethodName := ⟨RX1, "sortedWith", "(I)I"⟩
def dkwX1_sortedWith_0 : List UInt8 := [187, 0, 46, 89, 42, 180, 0, 90, 183, 1, 97, 77, 44, 27, 181, 0, 164, 44, 182, 1, 100, 172]
abbrev dktX1_sortedWith_0 : List UInt8 := dkwX1_sortedWith_0 ++ []
theorem dksX1_sortedWith_0 : cX1_sortedWith.data.toList.drop 0 = dktX1_sortedWith_0 := by decide +kernel
theorem dX1_sortedWith_0 : decode cX1_sortedWith 0 = .ok (.new 46, 3) := dk_187 0 46 (dk_at dksX1_sortedWith_0 0 rfl rfl)
theorem dX1_sortedWith_3 : decode cX1_sortedWith 3 = .ok (.dup, 1) := dk_89 (dk_at dksX1_sortedWith_0 3 rfl rfl)
theorem dX1_sortedWith_4 : decode cX1_sortedWith 4 = .ok (.aload_n 0, 1) := dk_42 (dk_at dksX1_sortedWith_0 4 rfl rfl)
theorem dX1_sortedWith_5 : decode cX1_sortedWith 5 = .ok (.getfield 90, 3) := dk_180 0 90 (dk_at dksX1_sortedWith_0 5 rfl rfl)
theorem dX1_sortedWith_8 : decode cX1_sortedWith 8 = .ok (.invokespecial 353, 3) := dk_183 1 97 (dk_at dksX1_sortedWith_0 8 rfl rfl)
theorem dX1_sortedWith_11 : decode cX1_sortedWith 11 = .ok (.astore_n 2, 1) := dk_77 (dk_at dksX1_sortedWith_0 11 rfl rfl)
theorem dX1_sortedWith_12 : decode cX1_sortedWith 12 = .ok (.aload_n 2, 1) := dk_44 (dk_at dksX1_sortedWith_0 12 rfl rfl)
theorem dX1_sortedWith_13 : decode cX1_sortedWith 13 = .ok (.iload_n 1, 1) := dk_27 (dk_at dksX1_sortedWith_0 13 rfl rfl)
theorem dX1_sortedWith_14 : decode cX1_sortedWith 14 = .ok (.putfield 164, 3) := dk_181 0 164 (dk_at dksX1_sortedWith_0 14 rfl rfl)
theorem dX1_sortedWith_17 : decode cX1_sortedWith 17 = .ok (.aload_n 2, 1) := dk_44 (dk_at dksX1_sortedWith_0 17 rfl rfl)
theorem dX1_sortedWith_18 : decode cX1_sortedWith 18 = .ok (.invokevirtual 356, 3) := dk_182 1 100 (dk_at dksX1_sortedWith_0 18 rfl rfl)
theorem dX1_sortedWith_21 : decode cX1_sortedWith 21 = .ok (.ireturn, 1) := dk_172 (dk_at dksX1_sortedWith_0 21 rfl rfl)
abbrev cX1_bestLimit : ByteArray := prog_1_method_67_code
def yX1_bestLimit : MethodName := ⟨RX1, "bestLimit", "()I"⟩
def dkwX1_bestLimit_2 : List UInt8 := [132, 4, 1, 167, 255, 223, 28, 172]
abbrev dktX1_bestLimit_2 : List UInt8 := dkwX1_bestLimit_2 ++ []
def dkwX1_bestLimit_1 : List UInt8 := [21, 4, 182, 1, 103, 54, 5, 21, 5, 29, 163, 0, 6, 167, 0, 9, 21, 5, 62, 21, 4, 61]
abbrev dktX1_bestLimit_1 : List UInt8 := dkwX1_bestLimit_1 ++ dktX1_bestLimit_2
def dkwX1_bestLimit_0 : List UInt8 := [42, 182, 0, 135, 76, 3, 61, 42, 3, 182, 1, 103, 62, 4, 54, 4, 21, 4, 16, 8, 163, 0, 32, 42]
abbrev dktX1_bestLimit_0 : List UInt8 := dkwX1_bestLimit_0 ++ dktX1_bestLimit_1
theorem dksX1_bestLimit_0 : cX1_bestLimit.data.toList.drop 0 = dktX1_bestLimit_0 := by decide +kernel
theorem dksX1_bestLimit_1 : cX1_bestLimit.data.toList.drop 24 = dktX1_bestLimit_1 := dk_seg dksX1_bestLimit_0 24 rfl rfl
theorem dksX1_bestLimit_2 : cX1_bestLimit.data.toList.drop 46 = dktX1_bestLimit_2 := dk_seg dksX1_bestLimit_1 22 rfl rfl
theorem dX1_bestLimit_0 : decode cX1_bestLimit 0 = .ok (.aload_n 0, 1) := dk_42 (dk_at dksX1_bestLimit_0 0 rfl rfl)
theorem dX1_bestLimit_1 : decode cX1_bestLimit 1 = .ok (.invokevirtual 135, 3) := dk_182 0 135 (dk_at dksX1_bestLimit_0 1 rfl rfl)
theorem dX1_bestLimit_4 : decode cX1_bestLimit 4 = .ok (.astore_n 1, 1) := dk_76 (dk_at dksX1_bestLimit_0 4 rfl rfl)
theorem dX1_bestLimit_5 : decode cX1_bestLimit 5 = .ok (.iconst 0, 1) := dk_3 (dk_at dksX1_bestLimit_0 5 rfl rfl)
theorem dX1_bestLimit_6 : decode cX1_bestLimit 6 = .ok (.istore_n 2, 1) := dk_61 (dk_at dksX1_bestLimit_0 6 rfl rfl)
theorem dX1_bestLimit_7 : decode cX1_bestLimit 7 = .ok (.aload_n 0, 1) := dk_42 (dk_at dksX1_bestLimit_0 7 rfl rfl)
theorem dX1_bestLimit_8 : decode cX1_bestLimit 8 = .ok (.iconst 0, 1) := dk_3 (dk_at dksX1_bestLimit_0 8 rfl rfl)
theorem dX1_bestLimit_9 : decode cX1_bestLimit 9 = .ok (.invokevirtual 359, 3) := dk_182 1 103 (dk_at dksX1_bestLimit_0 9 rfl rfl)
theorem dX1_bestLimit_12 : decode cX1_bestLimit 12 = .ok (.istore_n 3, 1) := dk_62 (dk_at dksX1_bestLimit_0 12 rfl rfl)
theorem dX1_bestLimit_13 : decode cX1_bestLimit 13 = .ok (.iconst 1, 1) := dk_4 (dk_at dksX1_bestLimit_0 13 rfl rfl)
theorem dX1_bestLimit_14 : decode cX1_bestLimit 14 = .ok (.istore 4, 2) := dk_54 4 (dk_at dksX1_bestLimit_0 14 rfl rfl)
theorem dX1_bestLimit_16 : decode cX1_bestLimit 16 = .ok (.iload 4, 2) := dk_21 4 (dk_at dksX1_bestLimit_0 16 rfl rfl)
theorem dX1_bestLimit_18 : decode cX1_bestLimit 18 = .ok (.bipush 8, 2) := dk_16 8 (dk_at dksX1_bestLimit_0 18 rfl rfl)
theorem dX1_bestLimit_20 : decode cX1_bestLimit 20 = .ok (.if_icmp .gt 32, 3) := dk_163 0 32 (dk_at dksX1_bestLimit_0 20 rfl rfl)
theorem dX1_bestLimit_23 : decode cX1_bestLimit 23 = .ok (.aload_n 0, 1) := dk_42 (dk_at dksX1_bestLimit_0 23 rfl rfl)
theorem dX1_bestLimit_24 : decode cX1_bestLimit 24 = .ok (.iload 4, 2) := dk_21 4 (dk_at dksX1_bestLimit_1 0 rfl rfl)
theorem dX1_bestLimit_26 : decode cX1_bestLimit 26 = .ok (.invokevirtual 359, 3) := dk_182 1 103 (dk_at dksX1_bestLimit_1 2 rfl rfl)
theorem dX1_bestLimit_29 : decode cX1_bestLimit 29 = .ok (.istore 5, 2) := dk_54 5 (dk_at dksX1_bestLimit_1 5 rfl rfl)
theorem dX1_bestLimit_31 : decode cX1_bestLimit 31 = .ok (.iload 5, 2) := dk_21 5 (dk_at dksX1_bestLimit_1 7 rfl rfl)
theorem dX1_bestLimit_33 : decode cX1_bestLimit 33 = .ok (.iload_n 3, 1) := dk_29 (dk_at dksX1_bestLimit_1 9 rfl rfl)
theorem dX1_bestLimit_34 : decode cX1_bestLimit 34 = .ok (.if_icmp .gt 6, 3) := dk_163 0 6 (dk_at dksX1_bestLimit_1 10 rfl rfl)
theorem dX1_bestLimit_37 : decode cX1_bestLimit 37 = .ok (.goto 9, 3) := dk_167 0 9 (dk_at dksX1_bestLimit_1 13 rfl rfl)
theorem dX1_bestLimit_40 : decode cX1_bestLimit 40 = .ok (.iload 5, 2) := dk_21 5 (dk_at dksX1_bestLimit_1 16 rfl rfl)
theorem dX1_bestLimit_42 : decode cX1_bestLimit 42 = .ok (.istore_n 3, 1) := dk_62 (dk_at dksX1_bestLimit_1 18 rfl rfl)
theorem dX1_bestLimit_43 : decode cX1_bestLimit 43 = .ok (.iload 4, 2) := dk_21 4 (dk_at dksX1_bestLimit_1 19 rfl rfl)
theorem dX1_bestLimit_45 : decode cX1_bestLimit 45 = .ok (.istore_n 2, 1) := dk_61 (dk_at dksX1_bestLimit_1 21 rfl rfl)
theorem dX1_bestLimit_46 : decode cX1_bestLimit 46 = .ok (.iinc 4 1, 3) := dk_132 4 1 (dk_at dksX1_bestLimit_2 0 rfl rfl)
theorem dX1_bestLimit_49 : decode cX1_bestLimit 49 = .ok (.goto (-33), 3) := dk_167 255 223 (dk_at dksX1_bestLimit_2 3 rfl rfl)
theorem dX1_bestLimit_52 : decode cX1_bestLimit 52 = .ok (.iload_n 2, 1) := dk_28 (dk_at dksX1_bestLimit_2 6 rfl rfl)
theorem dX1_bestLimit_53 : decode cX1_bestLimit 53 = .ok (.ireturn, 1) := dk_172 (dk_at dksX1_bestLimit_2 7 rfl rfl)
abbrev cX1_sumFor : ByteArray := prog_1_method_69_code
def yX1_sumFor : MethodName := ⟨RX1, "sumFor", "(I)I"⟩
def dkwX1_sumFor_2 : List UInt8 := [21, 4, 163, 0, 6, 167, 0, 10, 21, 6, 54, 4, 21, 5, 62, 132, 5, 1, 167, 255, 213, 29, 172]
abbrev dktX1_sumFor_2 : List UInt8 := dkwX1_sumFor_2 ++ []
def dkwX1_sumFor_1 : List UInt8 := [16, 10, 162, 0, 42, 44, 180, 1, 63, 27, 21, 5, 79, 42, 44, 27, 182, 1, 108, 54, 6, 21, 6]
abbrev dktX1_sumFor_1 : List UInt8 := dkwX1_sumFor_1 ++ dktX1_sumFor_2
def dkwX1_sumFor_0 : List UInt8 := [187, 0, 46, 89, 42, 27, 182, 1, 59, 183, 1, 97, 77, 3, 62, 2, 54, 4, 3, 54, 5, 21, 5]
abbrev dktX1_sumFor_0 : List UInt8 := dkwX1_sumFor_0 ++ dktX1_sumFor_1
theorem dksX1_sumFor_0 : cX1_sumFor.data.toList.drop 0 = dktX1_sumFor_0 := by decide +kernel
theorem dksX1_sumFor_1 : cX1_sumFor.data.toList.drop 23 = dktX1_sumFor_1 := dk_seg dksX1_sumFor_0 23 rfl rfl
theorem dksX1_sumFor_2 : cX1_sumFor.data.toList.drop 46 = dktX1_sumFor_2 := dk_seg dksX1_sumFor_1 23 rfl rfl
theorem dX1_sumFor_0 : decode cX1_sumFor 0 = .ok (.new 46, 3) := dk_187 0 46 (dk_at dksX1_sumFor_0 0 rfl rfl)
theorem dX1_sumFor_3 : decode cX1_sumFor 3 = .ok (.dup, 1) := dk_89 (dk_at dksX1_sumFor_0 3 rfl rfl)
theorem dX1_sumFor_4 : decode cX1_sumFor 4 = .ok (.aload_n 0, 1) := dk_42 (dk_at dksX1_sumFor_0 4 rfl rfl)
theorem dX1_sumFor_5 : decode cX1_sumFor 5 = .ok (.iload_n 1, 1) := dk_27 (dk_at dksX1_sumFor_0 5 rfl rfl)
theorem dX1_sumFor_6 : decode cX1_sumFor 6 = .ok (.invokevirtual 315, 3) := dk_182 1 59 (dk_at dksX1_sumFor_0 6 rfl rfl)
theorem dX1_sumFor_9 : decode cX1_sumFor 9 = .ok (.invokespecial 353, 3) := dk_183 1 97 (dk_at dksX1_sumFor_0 9 rfl rfl)
theorem dX1_sumFor_12 : decode cX1_sumFor 12 = .ok (.astore_n 2, 1) := dk_77 (dk_at dksX1_sumFor_0 12 rfl rfl)
theorem dX1_sumFor_13 : decode cX1_sumFor 13 = .ok (.iconst 0, 1) := dk_3 (dk_at dksX1_sumFor_0 13 rfl rfl)
theorem dX1_sumFor_14 : decode cX1_sumFor 14 = .ok (.istore_n 3, 1) := dk_62 (dk_at dksX1_sumFor_0 14 rfl rfl)
theorem dX1_sumFor_15 : decode cX1_sumFor 15 = .ok (.iconst (-1), 1) := dk_2 (dk_at dksX1_sumFor_0 15 rfl rfl)
theorem dX1_sumFor_16 : decode cX1_sumFor 16 = .ok (.istore 4, 2) := dk_54 4 (dk_at dksX1_sumFor_0 16 rfl rfl)
theorem dX1_sumFor_18 : decode cX1_sumFor 18 = .ok (.iconst 0, 1) := dk_3 (dk_at dksX1_sumFor_0 18 rfl rfl)
theorem dX1_sumFor_19 : decode cX1_sumFor 19 = .ok (.istore 5, 2) := dk_54 5 (dk_at dksX1_sumFor_0 19 rfl rfl)
theorem dX1_sumFor_21 : decode cX1_sumFor 21 = .ok (.iload 5, 2) := dk_21 5 (dk_at dksX1_sumFor_0 21 rfl rfl)
theorem dX1_sumFor_23 : decode cX1_sumFor 23 = .ok (.bipush 10, 2) := dk_16 10 (dk_at dksX1_sumFor_1 0 rfl rfl)
theorem dX1_sumFor_25 : decode cX1_sumFor 25 = .ok (.if_icmp .ge 42, 3) := dk_162 0 42 (dk_at dksX1_sumFor_1 2 rfl rfl)
theorem dX1_sumFor_28 : decode cX1_sumFor 28 = .ok (.aload_n 2, 1) := dk_44 (dk_at dksX1_sumFor_1 5 rfl rfl)
theorem dX1_sumFor_29 : decode cX1_sumFor 29 = .ok (.getfield 319, 3) := dk_180 1 63 (dk_at dksX1_sumFor_1 6 rfl rfl)
theorem dX1_sumFor_32 : decode cX1_sumFor 32 = .ok (.iload_n 1, 1) := dk_27 (dk_at dksX1_sumFor_1 9 rfl rfl)
theorem dX1_sumFor_33 : decode cX1_sumFor 33 = .ok (.iload 5, 2) := dk_21 5 (dk_at dksX1_sumFor_1 10 rfl rfl)
theorem dX1_sumFor_35 : decode cX1_sumFor 35 = .ok (.iastore, 1) := dk_79 (dk_at dksX1_sumFor_1 12 rfl rfl)
theorem dX1_sumFor_36 : decode cX1_sumFor 36 = .ok (.aload_n 0, 1) := dk_42 (dk_at dksX1_sumFor_1 13 rfl rfl)
theorem dX1_sumFor_37 : decode cX1_sumFor 37 = .ok (.aload_n 2, 1) := dk_44 (dk_at dksX1_sumFor_1 14 rfl rfl)
theorem dX1_sumFor_38 : decode cX1_sumFor 38 = .ok (.iload_n 1, 1) := dk_27 (dk_at dksX1_sumFor_1 15 rfl rfl)
theorem dX1_sumFor_39 : decode cX1_sumFor 39 = .ok (.invokevirtual 364, 3) := dk_182 1 108 (dk_at dksX1_sumFor_1 16 rfl rfl)
theorem dX1_sumFor_42 : decode cX1_sumFor 42 = .ok (.istore 6, 2) := dk_54 6 (dk_at dksX1_sumFor_1 19 rfl rfl)
theorem dX1_sumFor_44 : decode cX1_sumFor 44 = .ok (.iload 6, 2) := dk_21 6 (dk_at dksX1_sumFor_1 21 rfl rfl)
theorem dX1_sumFor_46 : decode cX1_sumFor 46 = .ok (.iload 4, 2) := dk_21 4 (dk_at dksX1_sumFor_2 0 rfl rfl)
theorem dX1_sumFor_48 : decode cX1_sumFor 48 = .ok (.if_icmp .gt 6, 3) := dk_163 0 6 (dk_at dksX1_sumFor_2 2 rfl rfl)
theorem dX1_sumFor_51 : decode cX1_sumFor 51 = .ok (.goto 10, 3) := dk_167 0 10 (dk_at dksX1_sumFor_2 5 rfl rfl)
theorem dX1_sumFor_54 : decode cX1_sumFor 54 = .ok (.iload 6, 2) := dk_21 6 (dk_at dksX1_sumFor_2 8 rfl rfl)
theorem dX1_sumFor_56 : decode cX1_sumFor 56 = .ok (.istore 4, 2) := dk_54 4 (dk_at dksX1_sumFor_2 10 rfl rfl)
theorem dX1_sumFor_58 : decode cX1_sumFor 58 = .ok (.iload 5, 2) := dk_21 5 (dk_at dksX1_sumFor_2 12 rfl rfl)
theorem dX1_sumFor_60 : decode cX1_sumFor 60 = .ok (.istore_n 3, 1) := dk_62 (dk_at dksX1_sumFor_2 14 rfl rfl)
theorem dX1_sumFor_61 : decode cX1_sumFor 61 = .ok (.iinc 5 1, 3) := dk_132 5 1 (dk_at dksX1_sumFor_2 15 rfl rfl)
theorem dX1_sumFor_64 : decode cX1_sumFor 64 = .ok (.goto (-43), 3) := dk_167 255 213 (dk_at dksX1_sumFor_2 18 rfl rfl)
theorem dX1_sumFor_67 : decode cX1_sumFor 67 = .ok (.iload_n 3, 1) := dk_29 (dk_at dksX1_sumFor_2 21 rfl rfl)
theorem dX1_sumFor_68 : decode cX1_sumFor 68 = .ok (.ireturn, 1) := dk_172 (dk_at dksX1_sumFor_2 22 rfl rfl)
abbrev cX1_decidedIn : ByteArray := prog_1_method_68_code
def yX1_decidedIn : MethodName := ⟨RX1, "decidedIn", "(LBadCodes$Office;I)I"⟩
def dkwX1_decidedIn_1 : List UInt8 := [182, 0, 176, 172]
abbrev dktX1_decidedIn_1 : List UInt8 := dkwX1_decidedIn_1 ++ []
def dkwX1_decidedIn_0 : List UInt8 := [42, 5, 189, 0, 152, 89, 3, 43, 28, 186, 1, 106, 0, 0, 83, 89, 4, 43, 186, 1, 107, 0, 0, 83]
abbrev dktX1_decidedIn_0 : List UInt8 := dkwX1_decidedIn_0 ++ dktX1_decidedIn_1
theorem dksX1_decidedIn_0 : cX1_decidedIn.data.toList.drop 0 = dktX1_decidedIn_0 := by decide +kernel
theorem dksX1_decidedIn_1 : cX1_decidedIn.data.toList.drop 24 = dktX1_decidedIn_1 := dk_seg dksX1_decidedIn_0 24 rfl rfl
theorem dX1_decidedIn_0 : decode cX1_decidedIn 0 = .ok (.aload_n 0, 1) := dk_42 (dk_at dksX1_decidedIn_0 0 rfl rfl)
theorem dX1_decidedIn_1 : decode cX1_decidedIn 1 = .ok (.iconst 2, 1) := dk_5 (dk_at dksX1_decidedIn_0 1 rfl rfl)
theorem dX1_decidedIn_2 : decode cX1_decidedIn 2 = .ok (.anewarray 152, 3) := dk_189 0 152 (dk_at dksX1_decidedIn_0 2 rfl rfl)
theorem dX1_decidedIn_5 : decode cX1_decidedIn 5 = .ok (.dup, 1) := dk_89 (dk_at dksX1_decidedIn_0 5 rfl rfl)
theorem dX1_decidedIn_6 : decode cX1_decidedIn 6 = .ok (.iconst 0, 1) := dk_3 (dk_at dksX1_decidedIn_0 6 rfl rfl)
theorem dX1_decidedIn_7 : decode cX1_decidedIn 7 = .ok (.aload_n 1, 1) := dk_43 (dk_at dksX1_decidedIn_0 7 rfl rfl)
theorem dX1_decidedIn_8 : decode cX1_decidedIn 8 = .ok (.iload_n 2, 1) := dk_28 (dk_at dksX1_decidedIn_0 8 rfl rfl)
theorem dX1_decidedIn_9 : decode cX1_decidedIn 9 = .ok (.invokedynamic 362, 5) := by decide +kernel
theorem dX1_decidedIn_14 : decode cX1_decidedIn 14 = .ok (.aastore, 1) := dk_83 (dk_at dksX1_decidedIn_0 14 rfl rfl)
theorem dX1_decidedIn_15 : decode cX1_decidedIn 15 = .ok (.dup, 1) := dk_89 (dk_at dksX1_decidedIn_0 15 rfl rfl)
theorem dX1_decidedIn_16 : decode cX1_decidedIn 16 = .ok (.iconst 1, 1) := dk_4 (dk_at dksX1_decidedIn_0 16 rfl rfl)
theorem dX1_decidedIn_17 : decode cX1_decidedIn 17 = .ok (.aload_n 1, 1) := dk_43 (dk_at dksX1_decidedIn_0 17 rfl rfl)
theorem dX1_decidedIn_18 : decode cX1_decidedIn 18 = .ok (.invokedynamic 363, 5) := by decide +kernel
theorem dX1_decidedIn_23 : decode cX1_decidedIn 23 = .ok (.aastore, 1) := dk_83 (dk_at dksX1_decidedIn_0 23 rfl rfl)
theorem dX1_decidedIn_24 : decode cX1_decidedIn 24 = .ok (.invokevirtual 176, 3) := dk_182 0 176 (dk_at dksX1_decidedIn_1 0 rfl rfl)
theorem dX1_decidedIn_27 : decode cX1_decidedIn 27 = .ok (.ireturn, 1) := dk_172 (dk_at dksX1_decidedIn_1 3 rfl rfl)
abbrev cX1_lambda_decidedIn_10 : ByteArray := prog_1_method_95_code
def yX1_lambda_decidedIn_10 : MethodName := ⟨RX1, "lambda$decidedIn$10", "(LBadCodes$Office;II)Z"⟩
def dkwX1_lambda_decidedIn_10_0 : List UInt8 := [42, 28, 182, 0, 236, 180, 0, 240, 27, 160, 0, 7, 4, 167, 0, 4, 3, 172]
abbrev dktX1_lambda_decidedIn_10_0 : List UInt8 := dkwX1_lambda_decidedIn_10_0 ++ []
theorem dksX1_lambda_decidedIn_10_0 : cX1_lambda_decidedIn_10.data.toList.drop 0 = dktX1_lambda_decidedIn_10_0 := by decide +kernel
theorem dX1_lambda_decidedIn_10_0 : decode cX1_lambda_decidedIn_10 0 = .ok (.aload_n 0, 1) := dk_42 (dk_at dksX1_lambda_decidedIn_10_0 0 rfl rfl)
theorem dX1_lambda_decidedIn_10_1 : decode cX1_lambda_decidedIn_10 1 = .ok (.iload_n 2, 1) := dk_28 (dk_at dksX1_lambda_decidedIn_10_0 1 rfl rfl)
theorem dX1_lambda_decidedIn_10_2 : decode cX1_lambda_decidedIn_10 2 = .ok (.invokevirtual 236, 3) := dk_182 0 236 (dk_at dksX1_lambda_decidedIn_10_0 2 rfl rfl)
theorem dX1_lambda_decidedIn_10_5 : decode cX1_lambda_decidedIn_10 5 = .ok (.getfield 240, 3) := dk_180 0 240 (dk_at dksX1_lambda_decidedIn_10_0 5 rfl rfl)
theorem dX1_lambda_decidedIn_10_8 : decode cX1_lambda_decidedIn_10 8 = .ok (.iload_n 1, 1) := dk_27 (dk_at dksX1_lambda_decidedIn_10_0 8 rfl rfl)
theorem dX1_lambda_decidedIn_10_9 : decode cX1_lambda_decidedIn_10 9 = .ok (.if_icmp .ne 7, 3) := dk_160 0 7 (dk_at dksX1_lambda_decidedIn_10_0 9 rfl rfl)
theorem dX1_lambda_decidedIn_10_12 : decode cX1_lambda_decidedIn_10 12 = .ok (.iconst 1, 1) := dk_4 (dk_at dksX1_lambda_decidedIn_10_0 12 rfl rfl)
theorem dX1_lambda_decidedIn_10_13 : decode cX1_lambda_decidedIn_10 13 = .ok (.goto 4, 3) := dk_167 0 4 (dk_at dksX1_lambda_decidedIn_10_0 13 rfl rfl)
theorem dX1_lambda_decidedIn_10_16 : decode cX1_lambda_decidedIn_10 16 = .ok (.iconst 0, 1) := dk_3 (dk_at dksX1_lambda_decidedIn_10_0 16 rfl rfl)
theorem dX1_lambda_decidedIn_10_17 : decode cX1_lambda_decidedIn_10 17 = .ok (.ireturn, 1) := dk_172 (dk_at dksX1_lambda_decidedIn_10_0 17 rfl rfl)
abbrev cX1_lambda_decidedIn_11 : ByteArray := prog_1_method_94_code
def yX1_lambda_decidedIn_11 : MethodName := ⟨RX1, "lambda$decidedIn$11", "(LBadCodes$Office;I)Z"⟩
def dkwX1_lambda_decidedIn_11_0 : List UInt8 := [42, 27, 182, 1, 22, 2, 159, 0, 7, 4, 167, 0, 4, 3, 172]
abbrev dktX1_lambda_decidedIn_11_0 : List UInt8 := dkwX1_lambda_decidedIn_11_0 ++ []
theorem dksX1_lambda_decidedIn_11_0 : cX1_lambda_decidedIn_11.data.toList.drop 0 = dktX1_lambda_decidedIn_11_0 := by decide +kernel
theorem dX1_lambda_decidedIn_11_0 : decode cX1_lambda_decidedIn_11 0 = .ok (.aload_n 0, 1) := dk_42 (dk_at dksX1_lambda_decidedIn_11_0 0 rfl rfl)
theorem dX1_lambda_decidedIn_11_1 : decode cX1_lambda_decidedIn_11 1 = .ok (.iload_n 1, 1) := dk_27 (dk_at dksX1_lambda_decidedIn_11_0 1 rfl rfl)
theorem dX1_lambda_decidedIn_11_2 : decode cX1_lambda_decidedIn_11 2 = .ok (.invokevirtual 278, 3) := dk_182 1 22 (dk_at dksX1_lambda_decidedIn_11_0 2 rfl rfl)
theorem dX1_lambda_decidedIn_11_5 : decode cX1_lambda_decidedIn_11 5 = .ok (.iconst (-1), 1) := dk_2 (dk_at dksX1_lambda_decidedIn_11_0 5 rfl rfl)
theorem dX1_lambda_decidedIn_11_6 : decode cX1_lambda_decidedIn_11 6 = .ok (.if_icmp .eq 7, 3) := dk_159 0 7 (dk_at dksX1_lambda_decidedIn_11_0 6 rfl rfl)
theorem dX1_lambda_decidedIn_11_9 : decode cX1_lambda_decidedIn_11 9 = .ok (.iconst 1, 1) := dk_4 (dk_at dksX1_lambda_decidedIn_11_0 9 rfl rfl)
theorem dX1_lambda_decidedIn_11_10 : decode cX1_lambda_decidedIn_11 10 = .ok (.goto 4, 3) := dk_167 0 4 (dk_at dksX1_lambda_decidedIn_11_0 10 rfl rfl)
theorem dX1_lambda_decidedIn_11_13 : decode cX1_lambda_decidedIn_11 13 = .ok (.iconst 0, 1) := dk_3 (dk_at dksX1_lambda_decidedIn_11_0 13 rfl rfl)
theorem dX1_lambda_decidedIn_11_14 : decode cX1_lambda_decidedIn_11 14 = .ok (.ireturn, 1) := dk_172 (dk_at dksX1_lambda_decidedIn_11_0 14 rfl rfl)
abbrev cX1_bagsIf : ByteArray := prog_1_method_70_code
def yX1_bagsIf : MethodName := ⟨RX1, "bagsIf", "(I)I"⟩
def dkwX1_bagsIf_2 : List UInt8 := [182, 0, 180, 29, 100, 172]
abbrev dktX1_bagsIf_2 : List UInt8 := dkwX1_bagsIf_2 ++ []
def dkwX1_bagsIf_1 : List UInt8 := [182, 0, 180, 62, 44, 27, 181, 0, 167, 44, 180, 0, 156, 3, 184, 1, 112, 44, 182, 1, 100, 54, 4, 44]
abbrev dktX1_bagsIf_1 : List UInt8 := dkwX1_bagsIf_1 ++ dktX1_bagsIf_2
def dkwX1_bagsIf_0 : List UInt8 := [187, 0, 46, 89, 42, 182, 0, 135, 183, 1, 97, 77, 27, 4, 16, 9, 184, 0, 73, 184, 0, 221, 44]
abbrev dktX1_bagsIf_0 : List UInt8 := dkwX1_bagsIf_0 ++ dktX1_bagsIf_1
theorem dksX1_bagsIf_0 : cX1_bagsIf.data.toList.drop 0 = dktX1_bagsIf_0 := by decide +kernel
theorem dksX1_bagsIf_1 : cX1_bagsIf.data.toList.drop 23 = dktX1_bagsIf_1 := dk_seg dksX1_bagsIf_0 23 rfl rfl
theorem dksX1_bagsIf_2 : cX1_bagsIf.data.toList.drop 47 = dktX1_bagsIf_2 := dk_seg dksX1_bagsIf_1 24 rfl rfl
theorem dX1_bagsIf_0 : decode cX1_bagsIf 0 = .ok (.new 46, 3) := dk_187 0 46 (dk_at dksX1_bagsIf_0 0 rfl rfl)
theorem dX1_bagsIf_3 : decode cX1_bagsIf 3 = .ok (.dup, 1) := dk_89 (dk_at dksX1_bagsIf_0 3 rfl rfl)
theorem dX1_bagsIf_4 : decode cX1_bagsIf 4 = .ok (.aload_n 0, 1) := dk_42 (dk_at dksX1_bagsIf_0 4 rfl rfl)
theorem dX1_bagsIf_5 : decode cX1_bagsIf 5 = .ok (.invokevirtual 135, 3) := dk_182 0 135 (dk_at dksX1_bagsIf_0 5 rfl rfl)
theorem dX1_bagsIf_8 : decode cX1_bagsIf 8 = .ok (.invokespecial 353, 3) := dk_183 1 97 (dk_at dksX1_bagsIf_0 8 rfl rfl)
theorem dX1_bagsIf_11 : decode cX1_bagsIf 11 = .ok (.astore_n 2, 1) := dk_77 (dk_at dksX1_bagsIf_0 11 rfl rfl)
theorem dX1_bagsIf_12 : decode cX1_bagsIf 12 = .ok (.iload_n 1, 1) := dk_27 (dk_at dksX1_bagsIf_0 12 rfl rfl)
theorem dX1_bagsIf_13 : decode cX1_bagsIf 13 = .ok (.iconst 1, 1) := dk_4 (dk_at dksX1_bagsIf_0 13 rfl rfl)
theorem dX1_bagsIf_14 : decode cX1_bagsIf 14 = .ok (.bipush 9, 2) := dk_16 9 (dk_at dksX1_bagsIf_0 14 rfl rfl)
theorem dX1_bagsIf_16 : decode cX1_bagsIf 16 = .ok (.invokestatic 73, 3) := dk_184 0 73 (dk_at dksX1_bagsIf_0 16 rfl rfl)
theorem dX1_bagsIf_19 : decode cX1_bagsIf 19 = .ok (.invokestatic 221, 3) := dk_184 0 221 (dk_at dksX1_bagsIf_0 19 rfl rfl)
theorem dX1_bagsIf_22 : decode cX1_bagsIf 22 = .ok (.aload_n 2, 1) := dk_44 (dk_at dksX1_bagsIf_0 22 rfl rfl)
theorem dX1_bagsIf_23 : decode cX1_bagsIf 23 = .ok (.invokevirtual 180, 3) := dk_182 0 180 (dk_at dksX1_bagsIf_1 0 rfl rfl)
theorem dX1_bagsIf_26 : decode cX1_bagsIf 26 = .ok (.istore_n 3, 1) := dk_62 (dk_at dksX1_bagsIf_1 3 rfl rfl)
theorem dX1_bagsIf_27 : decode cX1_bagsIf 27 = .ok (.aload_n 2, 1) := dk_44 (dk_at dksX1_bagsIf_1 4 rfl rfl)
theorem dX1_bagsIf_28 : decode cX1_bagsIf 28 = .ok (.iload_n 1, 1) := dk_27 (dk_at dksX1_bagsIf_1 5 rfl rfl)
theorem dX1_bagsIf_29 : decode cX1_bagsIf 29 = .ok (.putfield 167, 3) := dk_181 0 167 (dk_at dksX1_bagsIf_1 6 rfl rfl)
theorem dX1_bagsIf_32 : decode cX1_bagsIf 32 = .ok (.aload_n 2, 1) := dk_44 (dk_at dksX1_bagsIf_1 9 rfl rfl)
theorem dX1_bagsIf_33 : decode cX1_bagsIf 33 = .ok (.getfield 156, 3) := dk_180 0 156 (dk_at dksX1_bagsIf_1 10 rfl rfl)
theorem dX1_bagsIf_36 : decode cX1_bagsIf 36 = .ok (.iconst 0, 1) := dk_3 (dk_at dksX1_bagsIf_1 13 rfl rfl)
theorem dX1_bagsIf_37 : decode cX1_bagsIf 37 = .ok (.invokestatic 368, 3) := dk_184 1 112 (dk_at dksX1_bagsIf_1 14 rfl rfl)
theorem dX1_bagsIf_40 : decode cX1_bagsIf 40 = .ok (.aload_n 2, 1) := dk_44 (dk_at dksX1_bagsIf_1 17 rfl rfl)
theorem dX1_bagsIf_41 : decode cX1_bagsIf 41 = .ok (.invokevirtual 356, 3) := dk_182 1 100 (dk_at dksX1_bagsIf_1 18 rfl rfl)
theorem dX1_bagsIf_44 : decode cX1_bagsIf 44 = .ok (.istore 4, 2) := dk_54 4 (dk_at dksX1_bagsIf_1 21 rfl rfl)
theorem dX1_bagsIf_46 : decode cX1_bagsIf 46 = .ok (.aload_n 2, 1) := dk_44 (dk_at dksX1_bagsIf_1 23 rfl rfl)
theorem dX1_bagsIf_47 : decode cX1_bagsIf 47 = .ok (.invokevirtual 180, 3) := dk_182 0 180 (dk_at dksX1_bagsIf_2 0 rfl rfl)
theorem dX1_bagsIf_50 : decode cX1_bagsIf 50 = .ok (.iload_n 3, 1) := dk_29 (dk_at dksX1_bagsIf_2 3 rfl rfl)
theorem dX1_bagsIf_51 : decode cX1_bagsIf 51 = .ok (.isub, 1) := dk_100 (dk_at dksX1_bagsIf_2 4 rfl rfl)
theorem dX1_bagsIf_52 : decode cX1_bagsIf 52 = .ok (.ireturn, 1) := dk_172 (dk_at dksX1_bagsIf_2 5 rfl rfl)
abbrev cX1_helpful : ByteArray := prog_1_method_71_code
def yX1_helpful : MethodName := ⟨RX1, "helpful", "(I)I"⟩
def dkwX1_helpful_1 : List UInt8 := [29, 2, 184, 1, 93, 2, 159, 0, 5, 29, 172, 132, 3, 1, 167, 255, 226, 2, 172]
abbrev dktX1_helpful_1 : List UInt8 := dkwX1_helpful_1 ++ []
def dkwX1_helpful_0 : List UInt8 := [42, 27, 182, 0, 139, 77, 3, 62, 29, 8, 162, 0, 31, 44, 27, 182, 1, 22, 2, 160, 0, 22, 44, 27]
abbrev dktX1_helpful_0 : List UInt8 := dkwX1_helpful_0 ++ dktX1_helpful_1
theorem dksX1_helpful_0 : cX1_helpful.data.toList.drop 0 = dktX1_helpful_0 := by decide +kernel
theorem dksX1_helpful_1 : cX1_helpful.data.toList.drop 24 = dktX1_helpful_1 := dk_seg dksX1_helpful_0 24 rfl rfl
theorem dX1_helpful_0 : decode cX1_helpful 0 = .ok (.aload_n 0, 1) := dk_42 (dk_at dksX1_helpful_0 0 rfl rfl)
theorem dX1_helpful_1 : decode cX1_helpful 1 = .ok (.iload_n 1, 1) := dk_27 (dk_at dksX1_helpful_0 1 rfl rfl)
theorem dX1_helpful_2 : decode cX1_helpful 2 = .ok (.invokevirtual 139, 3) := dk_182 0 139 (dk_at dksX1_helpful_0 2 rfl rfl)
theorem dX1_helpful_5 : decode cX1_helpful 5 = .ok (.astore_n 2, 1) := dk_77 (dk_at dksX1_helpful_0 5 rfl rfl)
theorem dX1_helpful_6 : decode cX1_helpful 6 = .ok (.iconst 0, 1) := dk_3 (dk_at dksX1_helpful_0 6 rfl rfl)
theorem dX1_helpful_7 : decode cX1_helpful 7 = .ok (.istore_n 3, 1) := dk_62 (dk_at dksX1_helpful_0 7 rfl rfl)
theorem dX1_helpful_8 : decode cX1_helpful 8 = .ok (.iload_n 3, 1) := dk_29 (dk_at dksX1_helpful_0 8 rfl rfl)
theorem dX1_helpful_9 : decode cX1_helpful 9 = .ok (.iconst 5, 1) := dk_8 (dk_at dksX1_helpful_0 9 rfl rfl)
theorem dX1_helpful_10 : decode cX1_helpful 10 = .ok (.if_icmp .ge 31, 3) := dk_162 0 31 (dk_at dksX1_helpful_0 10 rfl rfl)
theorem dX1_helpful_13 : decode cX1_helpful 13 = .ok (.aload_n 2, 1) := dk_44 (dk_at dksX1_helpful_0 13 rfl rfl)
theorem dX1_helpful_14 : decode cX1_helpful 14 = .ok (.iload_n 1, 1) := dk_27 (dk_at dksX1_helpful_0 14 rfl rfl)
theorem dX1_helpful_15 : decode cX1_helpful 15 = .ok (.invokevirtual 278, 3) := dk_182 1 22 (dk_at dksX1_helpful_0 15 rfl rfl)
theorem dX1_helpful_18 : decode cX1_helpful 18 = .ok (.iconst (-1), 1) := dk_2 (dk_at dksX1_helpful_0 18 rfl rfl)
theorem dX1_helpful_19 : decode cX1_helpful 19 = .ok (.if_icmp .ne 22, 3) := dk_160 0 22 (dk_at dksX1_helpful_0 19 rfl rfl)
theorem dX1_helpful_22 : decode cX1_helpful 22 = .ok (.aload_n 2, 1) := dk_44 (dk_at dksX1_helpful_0 22 rfl rfl)
theorem dX1_helpful_23 : decode cX1_helpful 23 = .ok (.iload_n 1, 1) := dk_27 (dk_at dksX1_helpful_0 23 rfl rfl)
theorem dX1_helpful_24 : decode cX1_helpful 24 = .ok (.iload_n 3, 1) := dk_29 (dk_at dksX1_helpful_1 0 rfl rfl)
theorem dX1_helpful_25 : decode cX1_helpful 25 = .ok (.iconst (-1), 1) := dk_2 (dk_at dksX1_helpful_1 1 rfl rfl)
theorem dX1_helpful_26 : decode cX1_helpful 26 = .ok (.invokestatic 349, 3) := dk_184 1 93 (dk_at dksX1_helpful_1 2 rfl rfl)
theorem dX1_helpful_29 : decode cX1_helpful 29 = .ok (.iconst (-1), 1) := dk_2 (dk_at dksX1_helpful_1 5 rfl rfl)
theorem dX1_helpful_30 : decode cX1_helpful 30 = .ok (.if_icmp .eq 5, 3) := dk_159 0 5 (dk_at dksX1_helpful_1 6 rfl rfl)
theorem dX1_helpful_33 : decode cX1_helpful 33 = .ok (.iload_n 3, 1) := dk_29 (dk_at dksX1_helpful_1 9 rfl rfl)
theorem dX1_helpful_34 : decode cX1_helpful 34 = .ok (.ireturn, 1) := dk_172 (dk_at dksX1_helpful_1 10 rfl rfl)
theorem dX1_helpful_35 : decode cX1_helpful 35 = .ok (.iinc 3 1, 3) := dk_132 3 1 (dk_at dksX1_helpful_1 11 rfl rfl)
theorem dX1_helpful_38 : decode cX1_helpful 38 = .ok (.goto (-30), 3) := dk_167 255 226 (dk_at dksX1_helpful_1 14 rfl rfl)
theorem dX1_helpful_41 : decode cX1_helpful 41 = .ok (.iconst (-1), 1) := dk_2 (dk_at dksX1_helpful_1 17 rfl rfl)
theorem dX1_helpful_42 : decode cX1_helpful 42 = .ok (.ireturn, 1) := dk_172 (dk_at dksX1_helpful_1 18 rfl rfl)
abbrev cX1_causeIf : ByteArray := prog_1_method_72_code
def yX1_causeIf : MethodName := ⟨RX1, "causeIf", "(I)I"⟩
def dkwX1_causeIf_1 : List UInt8 := [167, 0, 4, 3, 172]
abbrev dktX1_causeIf_1 : List UInt8 := dkwX1_causeIf_1 ++ []
def dkwX1_causeIf_0 : List UInt8 := [42, 27, 182, 0, 139, 77, 44, 27, 182, 0, 236, 180, 0, 245, 154, 0, 11, 44, 27, 182, 1, 115]
abbrev dktX1_causeIf_0 : List UInt8 := dkwX1_causeIf_0 ++ dktX1_causeIf_1
theorem dksX1_causeIf_0 : cX1_causeIf.data.toList.drop 0 = dktX1_causeIf_0 := by decide +kernel
theorem dksX1_causeIf_1 : cX1_causeIf.data.toList.drop 22 = dktX1_causeIf_1 := dk_seg dksX1_causeIf_0 22 rfl rfl
theorem dX1_causeIf_0 : decode cX1_causeIf 0 = .ok (.aload_n 0, 1) := dk_42 (dk_at dksX1_causeIf_0 0 rfl rfl)
theorem dX1_causeIf_1 : decode cX1_causeIf 1 = .ok (.iload_n 1, 1) := dk_27 (dk_at dksX1_causeIf_0 1 rfl rfl)
theorem dX1_causeIf_2 : decode cX1_causeIf 2 = .ok (.invokevirtual 139, 3) := dk_182 0 139 (dk_at dksX1_causeIf_0 2 rfl rfl)
theorem dX1_causeIf_5 : decode cX1_causeIf 5 = .ok (.astore_n 2, 1) := dk_77 (dk_at dksX1_causeIf_0 5 rfl rfl)
theorem dX1_causeIf_6 : decode cX1_causeIf 6 = .ok (.aload_n 2, 1) := dk_44 (dk_at dksX1_causeIf_0 6 rfl rfl)
theorem dX1_causeIf_7 : decode cX1_causeIf 7 = .ok (.iload_n 1, 1) := dk_27 (dk_at dksX1_causeIf_0 7 rfl rfl)
theorem dX1_causeIf_8 : decode cX1_causeIf 8 = .ok (.invokevirtual 236, 3) := dk_182 0 236 (dk_at dksX1_causeIf_0 8 rfl rfl)
theorem dX1_causeIf_11 : decode cX1_causeIf 11 = .ok (.getfield 245, 3) := dk_180 0 245 (dk_at dksX1_causeIf_0 11 rfl rfl)
theorem dX1_causeIf_14 : decode cX1_causeIf 14 = .ok (.ifCond .ne 11, 3) := dk_154 0 11 (dk_at dksX1_causeIf_0 14 rfl rfl)
theorem dX1_causeIf_17 : decode cX1_causeIf 17 = .ok (.aload_n 2, 1) := dk_44 (dk_at dksX1_causeIf_0 17 rfl rfl)
theorem dX1_causeIf_18 : decode cX1_causeIf 18 = .ok (.iload_n 1, 1) := dk_27 (dk_at dksX1_causeIf_0 18 rfl rfl)
theorem dX1_causeIf_19 : decode cX1_causeIf 19 = .ok (.invokevirtual 371, 3) := dk_182 1 115 (dk_at dksX1_causeIf_0 19 rfl rfl)
theorem dX1_causeIf_22 : decode cX1_causeIf 22 = .ok (.goto 4, 3) := dk_167 0 4 (dk_at dksX1_causeIf_1 0 rfl rfl)
theorem dX1_causeIf_25 : decode cX1_causeIf 25 = .ok (.iconst 0, 1) := dk_3 (dk_at dksX1_causeIf_1 3 rfl rfl)
theorem dX1_causeIf_26 : decode cX1_causeIf 26 = .ok (.ireturn, 1) := dk_172 (dk_at dksX1_causeIf_1 4 rfl rfl)
abbrev cX1_share : ByteArray := prog_1_method_73_code
def yX1_share : MethodName := ⟨RX1, "share", "()F"⟩
def dkwX1_share_1 : List UInt8 := [167, 0, 12, 43, 4, 182, 0, 170, 134, 28, 134, 110, 174]
abbrev dktX1_share_1 : List UInt8 := dkwX1_share_1 ++ []
def dkwX1_share_0 : List UInt8 := [42, 182, 0, 135, 76, 43, 4, 182, 0, 170, 43, 5, 182, 0, 170, 96, 61, 28, 154, 0, 7, 11]
abbrev dktX1_share_0 : List UInt8 := dkwX1_share_0 ++ dktX1_share_1
theorem dksX1_share_0 : cX1_share.data.toList.drop 0 = dktX1_share_0 := by decide +kernel
theorem dksX1_share_1 : cX1_share.data.toList.drop 22 = dktX1_share_1 := dk_seg dksX1_share_0 22 rfl rfl
theorem dX1_share_0 : decode cX1_share 0 = .ok (.aload_n 0, 1) := dk_42 (dk_at dksX1_share_0 0 rfl rfl)
theorem dX1_share_1 : decode cX1_share 1 = .ok (.invokevirtual 135, 3) := dk_182 0 135 (dk_at dksX1_share_0 1 rfl rfl)
theorem dX1_share_4 : decode cX1_share 4 = .ok (.astore_n 1, 1) := dk_76 (dk_at dksX1_share_0 4 rfl rfl)
theorem dX1_share_5 : decode cX1_share 5 = .ok (.aload_n 1, 1) := dk_43 (dk_at dksX1_share_0 5 rfl rfl)
theorem dX1_share_6 : decode cX1_share 6 = .ok (.iconst 1, 1) := dk_4 (dk_at dksX1_share_0 6 rfl rfl)
theorem dX1_share_7 : decode cX1_share 7 = .ok (.invokevirtual 170, 3) := dk_182 0 170 (dk_at dksX1_share_0 7 rfl rfl)
theorem dX1_share_10 : decode cX1_share 10 = .ok (.aload_n 1, 1) := dk_43 (dk_at dksX1_share_0 10 rfl rfl)
theorem dX1_share_11 : decode cX1_share 11 = .ok (.iconst 2, 1) := dk_5 (dk_at dksX1_share_0 11 rfl rfl)
theorem dX1_share_12 : decode cX1_share 12 = .ok (.invokevirtual 170, 3) := dk_182 0 170 (dk_at dksX1_share_0 12 rfl rfl)
theorem dX1_share_15 : decode cX1_share 15 = .ok (.iadd, 1) := dk_96 (dk_at dksX1_share_0 15 rfl rfl)
theorem dX1_share_16 : decode cX1_share 16 = .ok (.istore_n 2, 1) := dk_61 (dk_at dksX1_share_0 16 rfl rfl)
theorem dX1_share_17 : decode cX1_share 17 = .ok (.iload_n 2, 1) := dk_28 (dk_at dksX1_share_0 17 rfl rfl)
theorem dX1_share_18 : decode cX1_share 18 = .ok (.ifCond .ne 7, 3) := dk_154 0 7 (dk_at dksX1_share_0 18 rfl rfl)
theorem dX1_share_21 : decode cX1_share 21 = .ok (.fconst 0, 1) := dk_11 (dk_at dksX1_share_0 21 rfl rfl)
theorem dX1_share_22 : decode cX1_share 22 = .ok (.goto 12, 3) := dk_167 0 12 (dk_at dksX1_share_1 0 rfl rfl)
theorem dX1_share_25 : decode cX1_share 25 = .ok (.aload_n 1, 1) := dk_43 (dk_at dksX1_share_1 3 rfl rfl)
theorem dX1_share_26 : decode cX1_share 26 = .ok (.iconst 1, 1) := dk_4 (dk_at dksX1_share_1 4 rfl rfl)
theorem dX1_share_27 : decode cX1_share 27 = .ok (.invokevirtual 170, 3) := dk_182 0 170 (dk_at dksX1_share_1 5 rfl rfl)
theorem dX1_share_30 : decode cX1_share 30 = .ok (.i2f, 1) := dk_134 (dk_at dksX1_share_1 8 rfl rfl)
theorem dX1_share_31 : decode cX1_share 31 = .ok (.iload_n 2, 1) := dk_28 (dk_at dksX1_share_1 9 rfl rfl)
theorem dX1_share_32 : decode cX1_share 32 = .ok (.i2f, 1) := dk_134 (dk_at dksX1_share_1 10 rfl rfl)
theorem dX1_share_33 : decode cX1_share 33 = .ok (.fdiv, 1) := dk_110 (dk_at dksX1_share_1 11 rfl rfl)
theorem dX1_share_34 : decode cX1_share 34 = .ok (.freturn, 1) := dk_174 (dk_at dksX1_share_1 12 rfl rfl)
abbrev cX1_meanDistance : ByteArray := prog_1_method_74_code
def yX1_meanDistance : MethodName := ⟨RX1, "meanDistance", "()D"⟩
def dkwX1_meanDistance_3 : List UInt8 := [28, 135, 29, 135, 111, 175]
abbrev dktX1_meanDistance_3 : List UInt8 := dkwX1_meanDistance_3 ++ []
def dkwX1_meanDistance_2 : List UInt8 := [21, 5, 182, 0, 233, 96, 61, 132, 3, 1, 132, 4, 1, 167, 255, 208, 29, 154, 0, 7, 14, 167, 0, 8]
abbrev dktX1_meanDistance_2 : List UInt8 := dkwX1_meanDistance_2 ++ dktX1_meanDistance_3
def dkwX1_meanDistance_1 : List UInt8 := [162, 0, 40, 43, 21, 4, 182, 1, 22, 54, 5, 21, 5, 2, 160, 0, 6, 167, 0, 17, 28, 43, 21, 4]
abbrev dktX1_meanDistance_1 : List UInt8 := dkwX1_meanDistance_1 ++ dktX1_meanDistance_2
def dkwX1_meanDistance_0 : List UInt8 := [42, 182, 0, 135, 76, 3, 61, 3, 62, 3, 54, 4, 21, 4, 43, 180, 0, 119, 185, 0, 123, 1, 0]
abbrev dktX1_meanDistance_0 : List UInt8 := dkwX1_meanDistance_0 ++ dktX1_meanDistance_1
theorem dksX1_meanDistance_0 : cX1_meanDistance.data.toList.drop 0 = dktX1_meanDistance_0 := by decide +kernel
theorem dksX1_meanDistance_1 : cX1_meanDistance.data.toList.drop 23 = dktX1_meanDistance_1 := dk_seg dksX1_meanDistance_0 23 rfl rfl
theorem dksX1_meanDistance_2 : cX1_meanDistance.data.toList.drop 47 = dktX1_meanDistance_2 := dk_seg dksX1_meanDistance_1 24 rfl rfl
theorem dksX1_meanDistance_3 : cX1_meanDistance.data.toList.drop 71 = dktX1_meanDistance_3 := dk_seg dksX1_meanDistance_2 24 rfl rfl
theorem dX1_meanDistance_0 : decode cX1_meanDistance 0 = .ok (.aload_n 0, 1) := dk_42 (dk_at dksX1_meanDistance_0 0 rfl rfl)
theorem dX1_meanDistance_1 : decode cX1_meanDistance 1 = .ok (.invokevirtual 135, 3) := dk_182 0 135 (dk_at dksX1_meanDistance_0 1 rfl rfl)
theorem dX1_meanDistance_4 : decode cX1_meanDistance 4 = .ok (.astore_n 1, 1) := dk_76 (dk_at dksX1_meanDistance_0 4 rfl rfl)
theorem dX1_meanDistance_5 : decode cX1_meanDistance 5 = .ok (.iconst 0, 1) := dk_3 (dk_at dksX1_meanDistance_0 5 rfl rfl)
theorem dX1_meanDistance_6 : decode cX1_meanDistance 6 = .ok (.istore_n 2, 1) := dk_61 (dk_at dksX1_meanDistance_0 6 rfl rfl)
theorem dX1_meanDistance_7 : decode cX1_meanDistance 7 = .ok (.iconst 0, 1) := dk_3 (dk_at dksX1_meanDistance_0 7 rfl rfl)
theorem dX1_meanDistance_8 : decode cX1_meanDistance 8 = .ok (.istore_n 3, 1) := dk_62 (dk_at dksX1_meanDistance_0 8 rfl rfl)
theorem dX1_meanDistance_9 : decode cX1_meanDistance 9 = .ok (.iconst 0, 1) := dk_3 (dk_at dksX1_meanDistance_0 9 rfl rfl)
theorem dX1_meanDistance_10 : decode cX1_meanDistance 10 = .ok (.istore 4, 2) := dk_54 4 (dk_at dksX1_meanDistance_0 10 rfl rfl)
theorem dX1_meanDistance_12 : decode cX1_meanDistance 12 = .ok (.iload 4, 2) := dk_21 4 (dk_at dksX1_meanDistance_0 12 rfl rfl)
theorem dX1_meanDistance_14 : decode cX1_meanDistance 14 = .ok (.aload_n 1, 1) := dk_43 (dk_at dksX1_meanDistance_0 14 rfl rfl)
theorem dX1_meanDistance_15 : decode cX1_meanDistance 15 = .ok (.getfield 119, 3) := dk_180 0 119 (dk_at dksX1_meanDistance_0 15 rfl rfl)
theorem dX1_meanDistance_18 : decode cX1_meanDistance 18 = .ok (.invokeinterface 123 1, 5) := by decide +kernel
theorem dX1_meanDistance_23 : decode cX1_meanDistance 23 = .ok (.if_icmp .ge 40, 3) := dk_162 0 40 (dk_at dksX1_meanDistance_1 0 rfl rfl)
theorem dX1_meanDistance_26 : decode cX1_meanDistance 26 = .ok (.aload_n 1, 1) := dk_43 (dk_at dksX1_meanDistance_1 3 rfl rfl)
theorem dX1_meanDistance_27 : decode cX1_meanDistance 27 = .ok (.iload 4, 2) := dk_21 4 (dk_at dksX1_meanDistance_1 4 rfl rfl)
theorem dX1_meanDistance_29 : decode cX1_meanDistance 29 = .ok (.invokevirtual 278, 3) := dk_182 1 22 (dk_at dksX1_meanDistance_1 6 rfl rfl)
theorem dX1_meanDistance_32 : decode cX1_meanDistance 32 = .ok (.istore 5, 2) := dk_54 5 (dk_at dksX1_meanDistance_1 9 rfl rfl)
theorem dX1_meanDistance_34 : decode cX1_meanDistance 34 = .ok (.iload 5, 2) := dk_21 5 (dk_at dksX1_meanDistance_1 11 rfl rfl)
theorem dX1_meanDistance_36 : decode cX1_meanDistance 36 = .ok (.iconst (-1), 1) := dk_2 (dk_at dksX1_meanDistance_1 13 rfl rfl)
theorem dX1_meanDistance_37 : decode cX1_meanDistance 37 = .ok (.if_icmp .ne 6, 3) := dk_160 0 6 (dk_at dksX1_meanDistance_1 14 rfl rfl)
theorem dX1_meanDistance_40 : decode cX1_meanDistance 40 = .ok (.goto 17, 3) := dk_167 0 17 (dk_at dksX1_meanDistance_1 17 rfl rfl)
theorem dX1_meanDistance_43 : decode cX1_meanDistance 43 = .ok (.iload_n 2, 1) := dk_28 (dk_at dksX1_meanDistance_1 20 rfl rfl)
theorem dX1_meanDistance_44 : decode cX1_meanDistance 44 = .ok (.aload_n 1, 1) := dk_43 (dk_at dksX1_meanDistance_1 21 rfl rfl)
theorem dX1_meanDistance_45 : decode cX1_meanDistance 45 = .ok (.iload 4, 2) := dk_21 4 (dk_at dksX1_meanDistance_1 22 rfl rfl)
theorem dX1_meanDistance_47 : decode cX1_meanDistance 47 = .ok (.iload 5, 2) := dk_21 5 (dk_at dksX1_meanDistance_2 0 rfl rfl)
theorem dX1_meanDistance_49 : decode cX1_meanDistance 49 = .ok (.invokevirtual 233, 3) := dk_182 0 233 (dk_at dksX1_meanDistance_2 2 rfl rfl)
theorem dX1_meanDistance_52 : decode cX1_meanDistance 52 = .ok (.iadd, 1) := dk_96 (dk_at dksX1_meanDistance_2 5 rfl rfl)
theorem dX1_meanDistance_53 : decode cX1_meanDistance 53 = .ok (.istore_n 2, 1) := dk_61 (dk_at dksX1_meanDistance_2 6 rfl rfl)
theorem dX1_meanDistance_54 : decode cX1_meanDistance 54 = .ok (.iinc 3 1, 3) := dk_132 3 1 (dk_at dksX1_meanDistance_2 7 rfl rfl)
theorem dX1_meanDistance_57 : decode cX1_meanDistance 57 = .ok (.iinc 4 1, 3) := dk_132 4 1 (dk_at dksX1_meanDistance_2 10 rfl rfl)
theorem dX1_meanDistance_60 : decode cX1_meanDistance 60 = .ok (.goto (-48), 3) := dk_167 255 208 (dk_at dksX1_meanDistance_2 13 rfl rfl)
theorem dX1_meanDistance_63 : decode cX1_meanDistance 63 = .ok (.iload_n 3, 1) := dk_29 (dk_at dksX1_meanDistance_2 16 rfl rfl)
theorem dX1_meanDistance_64 : decode cX1_meanDistance 64 = .ok (.ifCond .ne 7, 3) := dk_154 0 7 (dk_at dksX1_meanDistance_2 17 rfl rfl)
theorem dX1_meanDistance_67 : decode cX1_meanDistance 67 = .ok (.dconst 0, 1) := dk_14 (dk_at dksX1_meanDistance_2 20 rfl rfl)
theorem dX1_meanDistance_68 : decode cX1_meanDistance 68 = .ok (.goto 8, 3) := dk_167 0 8 (dk_at dksX1_meanDistance_2 21 rfl rfl)
theorem dX1_meanDistance_71 : decode cX1_meanDistance 71 = .ok (.iload_n 2, 1) := dk_28 (dk_at dksX1_meanDistance_3 0 rfl rfl)
theorem dX1_meanDistance_72 : decode cX1_meanDistance 72 = .ok (.i2d, 1) := dk_135 (dk_at dksX1_meanDistance_3 1 rfl rfl)
theorem dX1_meanDistance_73 : decode cX1_meanDistance 73 = .ok (.iload_n 3, 1) := dk_29 (dk_at dksX1_meanDistance_3 2 rfl rfl)
theorem dX1_meanDistance_74 : decode cX1_meanDistance 74 = .ok (.i2d, 1) := dk_135 (dk_at dksX1_meanDistance_3 3 rfl rfl)
theorem dX1_meanDistance_75 : decode cX1_meanDistance 75 = .ok (.ddiv, 1) := dk_111 (dk_at dksX1_meanDistance_3 4 rfl rfl)
theorem dX1_meanDistance_76 : decode cX1_meanDistance 76 = .ok (.dreturn, 1) := dk_175 (dk_at dksX1_meanDistance_3 5 rfl rfl)
abbrev cX1_writeLetter : ByteArray := prog_1_method_77_code
def yX1_writeLetter : MethodName := ⟨RX1, "writeLetter", "(I)I"⟩
def dkwX1_writeLetter_5 : List UInt8 := [45, 182, 1, 140, 172]
abbrev dktX1_writeLetter_5 : List UInt8 := dkwX1_writeLetter_5 ++ []
def dkwX1_writeLetter_4 : List UInt8 := [160, 0, 13, 45, 16, 45, 182, 1, 133, 87, 167, 0, 13, 45, 44, 21, 4, 182, 0, 195, 184, 1, 136, 42]
abbrev dktX1_writeLetter_4 : List UInt8 := dkwX1_writeLetter_4 ++ dktX1_writeLetter_5
def dkwX1_writeLetter_3 : List UInt8 := [132, 6, 1, 167, 255, 216, 45, 16, 62, 182, 1, 133, 87, 44, 27, 182, 1, 22, 54, 4, 21, 4, 2]
abbrev dktX1_writeLetter_3 : List UInt8 := dkwX1_writeLetter_3 ++ dktX1_writeLetter_4
def dkwX1_writeLetter_2 : List UInt8 := [21, 7, 2, 160, 0, 13, 45, 16, 63, 182, 1, 133, 87, 167, 0, 10, 45, 21, 7, 182, 1, 128, 87]
abbrev dktX1_writeLetter_2 : List UInt8 := dkwX1_writeLetter_2 ++ dktX1_writeLetter_3
def dkwX1_writeLetter_1 : List UInt8 := [58, 4, 25, 4, 190, 54, 5, 3, 54, 6, 21, 6, 21, 5, 162, 0, 39, 25, 4, 21, 6, 46, 54, 7]
abbrev dktX1_writeLetter_1 : List UInt8 := dkwX1_writeLetter_1 ++ dktX1_writeLetter_2
def dkwX1_writeLetter_0 : List UInt8 := [42, 27, 182, 0, 139, 77, 187, 1, 118, 89, 16, 12, 183, 1, 132, 78, 44, 27, 182, 0, 236, 180, 1, 13]
abbrev dktX1_writeLetter_0 : List UInt8 := dkwX1_writeLetter_0 ++ dktX1_writeLetter_1
theorem dksX1_writeLetter_0 : cX1_writeLetter.data.toList.drop 0 = dktX1_writeLetter_0 := by decide +kernel
theorem dksX1_writeLetter_1 : cX1_writeLetter.data.toList.drop 24 = dktX1_writeLetter_1 := dk_seg dksX1_writeLetter_0 24 rfl rfl
theorem dksX1_writeLetter_2 : cX1_writeLetter.data.toList.drop 48 = dktX1_writeLetter_2 := dk_seg dksX1_writeLetter_1 24 rfl rfl
theorem dksX1_writeLetter_3 : cX1_writeLetter.data.toList.drop 71 = dktX1_writeLetter_3 := dk_seg dksX1_writeLetter_2 23 rfl rfl
theorem dksX1_writeLetter_4 : cX1_writeLetter.data.toList.drop 94 = dktX1_writeLetter_4 := dk_seg dksX1_writeLetter_3 23 rfl rfl
theorem dksX1_writeLetter_5 : cX1_writeLetter.data.toList.drop 118 = dktX1_writeLetter_5 := dk_seg dksX1_writeLetter_4 24 rfl rfl
theorem dX1_writeLetter_0 : decode cX1_writeLetter 0 = .ok (.aload_n 0, 1) := dk_42 (dk_at dksX1_writeLetter_0 0 rfl rfl)
theorem dX1_writeLetter_1 : decode cX1_writeLetter 1 = .ok (.iload_n 1, 1) := dk_27 (dk_at dksX1_writeLetter_0 1 rfl rfl)
theorem dX1_writeLetter_2 : decode cX1_writeLetter 2 = .ok (.invokevirtual 139, 3) := dk_182 0 139 (dk_at dksX1_writeLetter_0 2 rfl rfl)
theorem dX1_writeLetter_5 : decode cX1_writeLetter 5 = .ok (.astore_n 2, 1) := dk_77 (dk_at dksX1_writeLetter_0 5 rfl rfl)
theorem dX1_writeLetter_6 : decode cX1_writeLetter 6 = .ok (.new 374, 3) := dk_187 1 118 (dk_at dksX1_writeLetter_0 6 rfl rfl)
theorem dX1_writeLetter_9 : decode cX1_writeLetter 9 = .ok (.dup, 1) := dk_89 (dk_at dksX1_writeLetter_0 9 rfl rfl)
theorem dX1_writeLetter_10 : decode cX1_writeLetter 10 = .ok (.bipush 12, 2) := dk_16 12 (dk_at dksX1_writeLetter_0 10 rfl rfl)
theorem dX1_writeLetter_12 : decode cX1_writeLetter 12 = .ok (.invokespecial 388, 3) := dk_183 1 132 (dk_at dksX1_writeLetter_0 12 rfl rfl)
theorem dX1_writeLetter_15 : decode cX1_writeLetter 15 = .ok (.astore_n 3, 1) := dk_78 (dk_at dksX1_writeLetter_0 15 rfl rfl)
theorem dX1_writeLetter_16 : decode cX1_writeLetter 16 = .ok (.aload_n 2, 1) := dk_44 (dk_at dksX1_writeLetter_0 16 rfl rfl)
theorem dX1_writeLetter_17 : decode cX1_writeLetter 17 = .ok (.iload_n 1, 1) := dk_27 (dk_at dksX1_writeLetter_0 17 rfl rfl)
theorem dX1_writeLetter_18 : decode cX1_writeLetter 18 = .ok (.invokevirtual 236, 3) := dk_182 0 236 (dk_at dksX1_writeLetter_0 18 rfl rfl)
theorem dX1_writeLetter_21 : decode cX1_writeLetter 21 = .ok (.getfield 269, 3) := dk_180 1 13 (dk_at dksX1_writeLetter_0 21 rfl rfl)
theorem dX1_writeLetter_24 : decode cX1_writeLetter 24 = .ok (.astore 4, 2) := dk_58 4 (dk_at dksX1_writeLetter_1 0 rfl rfl)
theorem dX1_writeLetter_26 : decode cX1_writeLetter 26 = .ok (.aload 4, 2) := dk_25 4 (dk_at dksX1_writeLetter_1 2 rfl rfl)
theorem dX1_writeLetter_28 : decode cX1_writeLetter 28 = .ok (.arraylength, 1) := dk_190 (dk_at dksX1_writeLetter_1 4 rfl rfl)
theorem dX1_writeLetter_29 : decode cX1_writeLetter 29 = .ok (.istore 5, 2) := dk_54 5 (dk_at dksX1_writeLetter_1 5 rfl rfl)
theorem dX1_writeLetter_31 : decode cX1_writeLetter 31 = .ok (.iconst 0, 1) := dk_3 (dk_at dksX1_writeLetter_1 7 rfl rfl)
theorem dX1_writeLetter_32 : decode cX1_writeLetter 32 = .ok (.istore 6, 2) := dk_54 6 (dk_at dksX1_writeLetter_1 8 rfl rfl)
theorem dX1_writeLetter_34 : decode cX1_writeLetter 34 = .ok (.iload 6, 2) := dk_21 6 (dk_at dksX1_writeLetter_1 10 rfl rfl)
theorem dX1_writeLetter_36 : decode cX1_writeLetter 36 = .ok (.iload 5, 2) := dk_21 5 (dk_at dksX1_writeLetter_1 12 rfl rfl)
theorem dX1_writeLetter_38 : decode cX1_writeLetter 38 = .ok (.if_icmp .ge 39, 3) := dk_162 0 39 (dk_at dksX1_writeLetter_1 14 rfl rfl)
theorem dX1_writeLetter_41 : decode cX1_writeLetter 41 = .ok (.aload 4, 2) := dk_25 4 (dk_at dksX1_writeLetter_1 17 rfl rfl)
theorem dX1_writeLetter_43 : decode cX1_writeLetter 43 = .ok (.iload 6, 2) := dk_21 6 (dk_at dksX1_writeLetter_1 19 rfl rfl)
theorem dX1_writeLetter_45 : decode cX1_writeLetter 45 = .ok (.iaload, 1) := dk_46 (dk_at dksX1_writeLetter_1 21 rfl rfl)
theorem dX1_writeLetter_46 : decode cX1_writeLetter 46 = .ok (.istore 7, 2) := dk_54 7 (dk_at dksX1_writeLetter_1 22 rfl rfl)
theorem dX1_writeLetter_48 : decode cX1_writeLetter 48 = .ok (.iload 7, 2) := dk_21 7 (dk_at dksX1_writeLetter_2 0 rfl rfl)
theorem dX1_writeLetter_50 : decode cX1_writeLetter 50 = .ok (.iconst (-1), 1) := dk_2 (dk_at dksX1_writeLetter_2 2 rfl rfl)
theorem dX1_writeLetter_51 : decode cX1_writeLetter 51 = .ok (.if_icmp .ne 13, 3) := dk_160 0 13 (dk_at dksX1_writeLetter_2 3 rfl rfl)
theorem dX1_writeLetter_54 : decode cX1_writeLetter 54 = .ok (.aload_n 3, 1) := dk_45 (dk_at dksX1_writeLetter_2 6 rfl rfl)
theorem dX1_writeLetter_55 : decode cX1_writeLetter 55 = .ok (.bipush 63, 2) := dk_16 63 (dk_at dksX1_writeLetter_2 7 rfl rfl)
theorem dX1_writeLetter_57 : decode cX1_writeLetter 57 = .ok (.invokevirtual 389, 3) := dk_182 1 133 (dk_at dksX1_writeLetter_2 9 rfl rfl)
theorem dX1_writeLetter_60 : decode cX1_writeLetter 60 = .ok (.pop, 1) := dk_87 (dk_at dksX1_writeLetter_2 12 rfl rfl)
theorem dX1_writeLetter_61 : decode cX1_writeLetter 61 = .ok (.goto 10, 3) := dk_167 0 10 (dk_at dksX1_writeLetter_2 13 rfl rfl)
theorem dX1_writeLetter_64 : decode cX1_writeLetter 64 = .ok (.aload_n 3, 1) := dk_45 (dk_at dksX1_writeLetter_2 16 rfl rfl)
theorem dX1_writeLetter_65 : decode cX1_writeLetter 65 = .ok (.iload 7, 2) := dk_21 7 (dk_at dksX1_writeLetter_2 17 rfl rfl)
theorem dX1_writeLetter_67 : decode cX1_writeLetter 67 = .ok (.invokevirtual 384, 3) := dk_182 1 128 (dk_at dksX1_writeLetter_2 19 rfl rfl)
theorem dX1_writeLetter_70 : decode cX1_writeLetter 70 = .ok (.pop, 1) := dk_87 (dk_at dksX1_writeLetter_2 22 rfl rfl)
theorem dX1_writeLetter_71 : decode cX1_writeLetter 71 = .ok (.iinc 6 1, 3) := dk_132 6 1 (dk_at dksX1_writeLetter_3 0 rfl rfl)
theorem dX1_writeLetter_74 : decode cX1_writeLetter 74 = .ok (.goto (-40), 3) := dk_167 255 216 (dk_at dksX1_writeLetter_3 3 rfl rfl)
theorem dX1_writeLetter_77 : decode cX1_writeLetter 77 = .ok (.aload_n 3, 1) := dk_45 (dk_at dksX1_writeLetter_3 6 rfl rfl)
theorem dX1_writeLetter_78 : decode cX1_writeLetter 78 = .ok (.bipush 62, 2) := dk_16 62 (dk_at dksX1_writeLetter_3 7 rfl rfl)
theorem dX1_writeLetter_80 : decode cX1_writeLetter 80 = .ok (.invokevirtual 389, 3) := dk_182 1 133 (dk_at dksX1_writeLetter_3 9 rfl rfl)
theorem dX1_writeLetter_83 : decode cX1_writeLetter 83 = .ok (.pop, 1) := dk_87 (dk_at dksX1_writeLetter_3 12 rfl rfl)
theorem dX1_writeLetter_84 : decode cX1_writeLetter 84 = .ok (.aload_n 2, 1) := dk_44 (dk_at dksX1_writeLetter_3 13 rfl rfl)
theorem dX1_writeLetter_85 : decode cX1_writeLetter 85 = .ok (.iload_n 1, 1) := dk_27 (dk_at dksX1_writeLetter_3 14 rfl rfl)
theorem dX1_writeLetter_86 : decode cX1_writeLetter 86 = .ok (.invokevirtual 278, 3) := dk_182 1 22 (dk_at dksX1_writeLetter_3 15 rfl rfl)
theorem dX1_writeLetter_89 : decode cX1_writeLetter 89 = .ok (.istore 4, 2) := dk_54 4 (dk_at dksX1_writeLetter_3 18 rfl rfl)
theorem dX1_writeLetter_91 : decode cX1_writeLetter 91 = .ok (.iload 4, 2) := dk_21 4 (dk_at dksX1_writeLetter_3 20 rfl rfl)
theorem dX1_writeLetter_93 : decode cX1_writeLetter 93 = .ok (.iconst (-1), 1) := dk_2 (dk_at dksX1_writeLetter_3 22 rfl rfl)
theorem dX1_writeLetter_94 : decode cX1_writeLetter 94 = .ok (.if_icmp .ne 13, 3) := dk_160 0 13 (dk_at dksX1_writeLetter_4 0 rfl rfl)
theorem dX1_writeLetter_97 : decode cX1_writeLetter 97 = .ok (.aload_n 3, 1) := dk_45 (dk_at dksX1_writeLetter_4 3 rfl rfl)
theorem dX1_writeLetter_98 : decode cX1_writeLetter 98 = .ok (.bipush 45, 2) := dk_16 45 (dk_at dksX1_writeLetter_4 4 rfl rfl)
theorem dX1_writeLetter_100 : decode cX1_writeLetter 100 = .ok (.invokevirtual 389, 3) := dk_182 1 133 (dk_at dksX1_writeLetter_4 6 rfl rfl)
theorem dX1_writeLetter_103 : decode cX1_writeLetter 103 = .ok (.pop, 1) := dk_87 (dk_at dksX1_writeLetter_4 9 rfl rfl)
theorem dX1_writeLetter_104 : decode cX1_writeLetter 104 = .ok (.goto 13, 3) := dk_167 0 13 (dk_at dksX1_writeLetter_4 10 rfl rfl)
theorem dX1_writeLetter_107 : decode cX1_writeLetter 107 = .ok (.aload_n 3, 1) := dk_45 (dk_at dksX1_writeLetter_4 13 rfl rfl)
theorem dX1_writeLetter_108 : decode cX1_writeLetter 108 = .ok (.aload_n 2, 1) := dk_44 (dk_at dksX1_writeLetter_4 14 rfl rfl)
theorem dX1_writeLetter_109 : decode cX1_writeLetter 109 = .ok (.iload 4, 2) := dk_21 4 (dk_at dksX1_writeLetter_4 15 rfl rfl)
theorem dX1_writeLetter_111 : decode cX1_writeLetter 111 = .ok (.invokevirtual 195, 3) := dk_182 0 195 (dk_at dksX1_writeLetter_4 17 rfl rfl)
theorem dX1_writeLetter_114 : decode cX1_writeLetter 114 = .ok (.invokestatic 392, 3) := dk_184 1 136 (dk_at dksX1_writeLetter_4 20 rfl rfl)
theorem dX1_writeLetter_117 : decode cX1_writeLetter 117 = .ok (.aload_n 0, 1) := dk_42 (dk_at dksX1_writeLetter_4 23 rfl rfl)
theorem dX1_writeLetter_118 : decode cX1_writeLetter 118 = .ok (.aload_n 3, 1) := dk_45 (dk_at dksX1_writeLetter_5 0 rfl rfl)
theorem dX1_writeLetter_119 : decode cX1_writeLetter 119 = .ok (.invokevirtual 396, 3) := dk_182 1 140 (dk_at dksX1_writeLetter_5 1 rfl rfl)
theorem dX1_writeLetter_122 : decode cX1_writeLetter 122 = .ok (.ireturn, 1) := dk_172 (dk_at dksX1_writeLetter_5 4 rfl rfl)
abbrev cX1_writesCode : ByteArray := prog_1_method_76_code
def yX1_writesCode : MethodName := ⟨RX1, "writesCode", "(Ljava/lang/StringBuilder;LBadCodes$Town;)V"⟩
def dkwX1_writesCode_0 : List UInt8 := [3, 61, 28, 8, 162, 0, 19, 42, 43, 28, 182, 0, 218, 182, 1, 128, 87, 132, 2, 1, 167, 255, 238, 177]
abbrev dktX1_writesCode_0 : List UInt8 := dkwX1_writesCode_0 ++ []
theorem dksX1_writesCode_0 : cX1_writesCode.data.toList.drop 0 = dktX1_writesCode_0 := by decide +kernel
theorem dX1_writesCode_0 : decode cX1_writesCode 0 = .ok (.iconst 0, 1) := dk_3 (dk_at dksX1_writesCode_0 0 rfl rfl)
theorem dX1_writesCode_1 : decode cX1_writesCode 1 = .ok (.istore_n 2, 1) := dk_61 (dk_at dksX1_writesCode_0 1 rfl rfl)
theorem dX1_writesCode_2 : decode cX1_writesCode 2 = .ok (.iload_n 2, 1) := dk_28 (dk_at dksX1_writesCode_0 2 rfl rfl)
theorem dX1_writesCode_3 : decode cX1_writesCode 3 = .ok (.iconst 5, 1) := dk_8 (dk_at dksX1_writesCode_0 3 rfl rfl)
theorem dX1_writesCode_4 : decode cX1_writesCode 4 = .ok (.if_icmp .ge 19, 3) := dk_162 0 19 (dk_at dksX1_writesCode_0 4 rfl rfl)
theorem dX1_writesCode_7 : decode cX1_writesCode 7 = .ok (.aload_n 0, 1) := dk_42 (dk_at dksX1_writesCode_0 7 rfl rfl)
theorem dX1_writesCode_8 : decode cX1_writesCode 8 = .ok (.aload_n 1, 1) := dk_43 (dk_at dksX1_writesCode_0 8 rfl rfl)
theorem dX1_writesCode_9 : decode cX1_writesCode 9 = .ok (.iload_n 2, 1) := dk_28 (dk_at dksX1_writesCode_0 9 rfl rfl)
theorem dX1_writesCode_10 : decode cX1_writesCode 10 = .ok (.invokevirtual 218, 3) := dk_182 0 218 (dk_at dksX1_writesCode_0 10 rfl rfl)
theorem dX1_writesCode_13 : decode cX1_writesCode 13 = .ok (.invokevirtual 384, 3) := dk_182 1 128 (dk_at dksX1_writesCode_0 13 rfl rfl)
theorem dX1_writesCode_16 : decode cX1_writesCode 16 = .ok (.pop, 1) := dk_87 (dk_at dksX1_writesCode_0 16 rfl rfl)
theorem dX1_writesCode_17 : decode cX1_writesCode 17 = .ok (.iinc 2 1, 3) := dk_132 2 1 (dk_at dksX1_writesCode_0 17 rfl rfl)
theorem dX1_writesCode_20 : decode cX1_writesCode 20 = .ok (.goto (-18), 3) := dk_167 255 238 (dk_at dksX1_writesCode_0 20 rfl rfl)
theorem dX1_writesCode_23 : decode cX1_writesCode 23 = .ok (.return_, 1) := dk_177 (dk_at dksX1_writesCode_0 23 rfl rfl)
abbrev cX1_write : ByteArray := prog_1_method_75_code
def yX1_write : MethodName := ⟨RX1, "write", "(Ljava/lang/StringBuilder;)I"⟩
def dkwX1_write_0 : List UInt8 := [42, 43, 182, 1, 117, 181, 0, 54, 42, 180, 0, 54, 182, 1, 123, 172]
abbrev dktX1_write_0 : List UInt8 := dkwX1_write_0 ++ []
theorem dksX1_write_0 : cX1_write.data.toList.drop 0 = dktX1_write_0 := by decide +kernel
theorem dX1_write_0 : decode cX1_write 0 = .ok (.aload_n 0, 1) := dk_42 (dk_at dksX1_write_0 0 rfl rfl)
theorem dX1_write_1 : decode cX1_write 1 = .ok (.aload_n 1, 1) := dk_43 (dk_at dksX1_write_0 1 rfl rfl)
theorem dX1_write_2 : decode cX1_write 2 = .ok (.invokevirtual 373, 3) := dk_182 1 117 (dk_at dksX1_write_0 2 rfl rfl)
theorem dX1_write_5 : decode cX1_write 5 = .ok (.putfield 54, 3) := dk_181 0 54 (dk_at dksX1_write_0 5 rfl rfl)
theorem dX1_write_8 : decode cX1_write 8 = .ok (.aload_n 0, 1) := dk_42 (dk_at dksX1_write_0 8 rfl rfl)
theorem dX1_write_9 : decode cX1_write 9 = .ok (.getfield 54, 3) := dk_180 0 54 (dk_at dksX1_write_0 9 rfl rfl)
theorem dX1_write_12 : decode cX1_write 12 = .ok (.invokevirtual 379, 3) := dk_182 1 123 (dk_at dksX1_write_0 12 rfl rfl)
theorem dX1_write_15 : decode cX1_write 15 = .ok (.ireturn, 1) := dk_172 (dk_at dksX1_write_0 15 rfl rfl)
abbrev cX1_writeNear : ByteArray := prog_1_method_78_code
def yX1_writeNear : MethodName := ⟨RX1, "writeNear", "(I)I"⟩
def dkwX1_writeNear_4 : List UInt8 := [182, 1, 133, 87, 42, 45, 182, 1, 140, 172]
abbrev dktX1_writeNear_4 : List UInt8 := dkwX1_writeNear_4 ++ []
def dkwX1_writeNear_3 : List UInt8 := [182, 0, 233, 182, 1, 128, 87, 132, 4, 1, 167, 255, 194, 45, 182, 1, 144, 154, 0, 10, 45, 16, 45]
abbrev dktX1_writeNear_3 : List UInt8 := dkwX1_writeNear_3 ++ dktX1_writeNear_4
def dkwX1_writeNear_2 : List UInt8 := [182, 1, 133, 87, 45, 44, 21, 5, 182, 0, 195, 184, 1, 136, 45, 16, 58, 182, 1, 133, 44, 27, 21, 5]
abbrev dktX1_writeNear_2 : List UInt8 := dkwX1_writeNear_2 ++ dktX1_writeNear_3
def dkwX1_writeNear_1 : List UInt8 := [182, 1, 19, 2, 159, 0, 57, 42, 27, 21, 4, 182, 1, 19, 54, 5, 21, 4, 158, 0, 10, 45, 16, 32]
abbrev dktX1_writeNear_1 : List UInt8 := dkwX1_writeNear_1 ++ dktX1_writeNear_2
def dkwX1_writeNear_0 : List UInt8 := [42, 27, 182, 0, 139, 77, 187, 1, 118, 89, 16, 60, 183, 1, 132, 78, 3, 54, 4, 42, 27, 21, 4]
abbrev dktX1_writeNear_0 : List UInt8 := dkwX1_writeNear_0 ++ dktX1_writeNear_1
theorem dksX1_writeNear_0 : cX1_writeNear.data.toList.drop 0 = dktX1_writeNear_0 := by decide +kernel
theorem dksX1_writeNear_1 : cX1_writeNear.data.toList.drop 23 = dktX1_writeNear_1 := dk_seg dksX1_writeNear_0 23 rfl rfl
theorem dksX1_writeNear_2 : cX1_writeNear.data.toList.drop 47 = dktX1_writeNear_2 := dk_seg dksX1_writeNear_1 24 rfl rfl
theorem dksX1_writeNear_3 : cX1_writeNear.data.toList.drop 71 = dktX1_writeNear_3 := dk_seg dksX1_writeNear_2 24 rfl rfl
theorem dksX1_writeNear_4 : cX1_writeNear.data.toList.drop 94 = dktX1_writeNear_4 := dk_seg dksX1_writeNear_3 23 rfl rfl
theorem dX1_writeNear_0 : decode cX1_writeNear 0 = .ok (.aload_n 0, 1) := dk_42 (dk_at dksX1_writeNear_0 0 rfl rfl)
theorem dX1_writeNear_1 : decode cX1_writeNear 1 = .ok (.iload_n 1, 1) := dk_27 (dk_at dksX1_writeNear_0 1 rfl rfl)
theorem dX1_writeNear_2 : decode cX1_writeNear 2 = .ok (.invokevirtual 139, 3) := dk_182 0 139 (dk_at dksX1_writeNear_0 2 rfl rfl)
theorem dX1_writeNear_5 : decode cX1_writeNear 5 = .ok (.astore_n 2, 1) := dk_77 (dk_at dksX1_writeNear_0 5 rfl rfl)
theorem dX1_writeNear_6 : decode cX1_writeNear 6 = .ok (.new 374, 3) := dk_187 1 118 (dk_at dksX1_writeNear_0 6 rfl rfl)
theorem dX1_writeNear_9 : decode cX1_writeNear 9 = .ok (.dup, 1) := dk_89 (dk_at dksX1_writeNear_0 9 rfl rfl)
theorem dX1_writeNear_10 : decode cX1_writeNear 10 = .ok (.bipush 60, 2) := dk_16 60 (dk_at dksX1_writeNear_0 10 rfl rfl)
theorem dX1_writeNear_12 : decode cX1_writeNear 12 = .ok (.invokespecial 388, 3) := dk_183 1 132 (dk_at dksX1_writeNear_0 12 rfl rfl)
theorem dX1_writeNear_15 : decode cX1_writeNear 15 = .ok (.astore_n 3, 1) := dk_78 (dk_at dksX1_writeNear_0 15 rfl rfl)
theorem dX1_writeNear_16 : decode cX1_writeNear 16 = .ok (.iconst 0, 1) := dk_3 (dk_at dksX1_writeNear_0 16 rfl rfl)
theorem dX1_writeNear_17 : decode cX1_writeNear 17 = .ok (.istore 4, 2) := dk_54 4 (dk_at dksX1_writeNear_0 17 rfl rfl)
theorem dX1_writeNear_19 : decode cX1_writeNear 19 = .ok (.aload_n 0, 1) := dk_42 (dk_at dksX1_writeNear_0 19 rfl rfl)
theorem dX1_writeNear_20 : decode cX1_writeNear 20 = .ok (.iload_n 1, 1) := dk_27 (dk_at dksX1_writeNear_0 20 rfl rfl)
theorem dX1_writeNear_21 : decode cX1_writeNear 21 = .ok (.iload 4, 2) := dk_21 4 (dk_at dksX1_writeNear_0 21 rfl rfl)
theorem dX1_writeNear_23 : decode cX1_writeNear 23 = .ok (.invokevirtual 275, 3) := dk_182 1 19 (dk_at dksX1_writeNear_1 0 rfl rfl)
theorem dX1_writeNear_26 : decode cX1_writeNear 26 = .ok (.iconst (-1), 1) := dk_2 (dk_at dksX1_writeNear_1 3 rfl rfl)
theorem dX1_writeNear_27 : decode cX1_writeNear 27 = .ok (.if_icmp .eq 57, 3) := dk_159 0 57 (dk_at dksX1_writeNear_1 4 rfl rfl)
theorem dX1_writeNear_30 : decode cX1_writeNear 30 = .ok (.aload_n 0, 1) := dk_42 (dk_at dksX1_writeNear_1 7 rfl rfl)
theorem dX1_writeNear_31 : decode cX1_writeNear 31 = .ok (.iload_n 1, 1) := dk_27 (dk_at dksX1_writeNear_1 8 rfl rfl)
theorem dX1_writeNear_32 : decode cX1_writeNear 32 = .ok (.iload 4, 2) := dk_21 4 (dk_at dksX1_writeNear_1 9 rfl rfl)
theorem dX1_writeNear_34 : decode cX1_writeNear 34 = .ok (.invokevirtual 275, 3) := dk_182 1 19 (dk_at dksX1_writeNear_1 11 rfl rfl)
theorem dX1_writeNear_37 : decode cX1_writeNear 37 = .ok (.istore 5, 2) := dk_54 5 (dk_at dksX1_writeNear_1 14 rfl rfl)
theorem dX1_writeNear_39 : decode cX1_writeNear 39 = .ok (.iload 4, 2) := dk_21 4 (dk_at dksX1_writeNear_1 16 rfl rfl)
theorem dX1_writeNear_41 : decode cX1_writeNear 41 = .ok (.ifCond .le 10, 3) := dk_158 0 10 (dk_at dksX1_writeNear_1 18 rfl rfl)
theorem dX1_writeNear_44 : decode cX1_writeNear 44 = .ok (.aload_n 3, 1) := dk_45 (dk_at dksX1_writeNear_1 21 rfl rfl)
theorem dX1_writeNear_45 : decode cX1_writeNear 45 = .ok (.bipush 32, 2) := dk_16 32 (dk_at dksX1_writeNear_1 22 rfl rfl)
theorem dX1_writeNear_47 : decode cX1_writeNear 47 = .ok (.invokevirtual 389, 3) := dk_182 1 133 (dk_at dksX1_writeNear_2 0 rfl rfl)
theorem dX1_writeNear_50 : decode cX1_writeNear 50 = .ok (.pop, 1) := dk_87 (dk_at dksX1_writeNear_2 3 rfl rfl)
theorem dX1_writeNear_51 : decode cX1_writeNear 51 = .ok (.aload_n 3, 1) := dk_45 (dk_at dksX1_writeNear_2 4 rfl rfl)
theorem dX1_writeNear_52 : decode cX1_writeNear 52 = .ok (.aload_n 2, 1) := dk_44 (dk_at dksX1_writeNear_2 5 rfl rfl)
theorem dX1_writeNear_53 : decode cX1_writeNear 53 = .ok (.iload 5, 2) := dk_21 5 (dk_at dksX1_writeNear_2 6 rfl rfl)
theorem dX1_writeNear_55 : decode cX1_writeNear 55 = .ok (.invokevirtual 195, 3) := dk_182 0 195 (dk_at dksX1_writeNear_2 8 rfl rfl)
theorem dX1_writeNear_58 : decode cX1_writeNear 58 = .ok (.invokestatic 392, 3) := dk_184 1 136 (dk_at dksX1_writeNear_2 11 rfl rfl)
theorem dX1_writeNear_61 : decode cX1_writeNear 61 = .ok (.aload_n 3, 1) := dk_45 (dk_at dksX1_writeNear_2 14 rfl rfl)
theorem dX1_writeNear_62 : decode cX1_writeNear 62 = .ok (.bipush 58, 2) := dk_16 58 (dk_at dksX1_writeNear_2 15 rfl rfl)
theorem dX1_writeNear_64 : decode cX1_writeNear 64 = .ok (.invokevirtual 389, 3) := dk_182 1 133 (dk_at dksX1_writeNear_2 17 rfl rfl)
theorem dX1_writeNear_67 : decode cX1_writeNear 67 = .ok (.aload_n 2, 1) := dk_44 (dk_at dksX1_writeNear_2 20 rfl rfl)
theorem dX1_writeNear_68 : decode cX1_writeNear 68 = .ok (.iload_n 1, 1) := dk_27 (dk_at dksX1_writeNear_2 21 rfl rfl)
theorem dX1_writeNear_69 : decode cX1_writeNear 69 = .ok (.iload 5, 2) := dk_21 5 (dk_at dksX1_writeNear_2 22 rfl rfl)
theorem dX1_writeNear_71 : decode cX1_writeNear 71 = .ok (.invokevirtual 233, 3) := dk_182 0 233 (dk_at dksX1_writeNear_3 0 rfl rfl)
theorem dX1_writeNear_74 : decode cX1_writeNear 74 = .ok (.invokevirtual 384, 3) := dk_182 1 128 (dk_at dksX1_writeNear_3 3 rfl rfl)
theorem dX1_writeNear_77 : decode cX1_writeNear 77 = .ok (.pop, 1) := dk_87 (dk_at dksX1_writeNear_3 6 rfl rfl)
theorem dX1_writeNear_78 : decode cX1_writeNear 78 = .ok (.iinc 4 1, 3) := dk_132 4 1 (dk_at dksX1_writeNear_3 7 rfl rfl)
theorem dX1_writeNear_81 : decode cX1_writeNear 81 = .ok (.goto (-62), 3) := dk_167 255 194 (dk_at dksX1_writeNear_3 10 rfl rfl)
theorem dX1_writeNear_84 : decode cX1_writeNear 84 = .ok (.aload_n 3, 1) := dk_45 (dk_at dksX1_writeNear_3 13 rfl rfl)
theorem dX1_writeNear_85 : decode cX1_writeNear 85 = .ok (.invokevirtual 400, 3) := dk_182 1 144 (dk_at dksX1_writeNear_3 14 rfl rfl)
theorem dX1_writeNear_88 : decode cX1_writeNear 88 = .ok (.ifCond .ne 10, 3) := dk_154 0 10 (dk_at dksX1_writeNear_3 17 rfl rfl)
theorem dX1_writeNear_91 : decode cX1_writeNear 91 = .ok (.aload_n 3, 1) := dk_45 (dk_at dksX1_writeNear_3 20 rfl rfl)
theorem dX1_writeNear_92 : decode cX1_writeNear 92 = .ok (.bipush 45, 2) := dk_16 45 (dk_at dksX1_writeNear_3 21 rfl rfl)
theorem dX1_writeNear_94 : decode cX1_writeNear 94 = .ok (.invokevirtual 389, 3) := dk_182 1 133 (dk_at dksX1_writeNear_4 0 rfl rfl)
theorem dX1_writeNear_97 : decode cX1_writeNear 97 = .ok (.pop, 1) := dk_87 (dk_at dksX1_writeNear_4 3 rfl rfl)
theorem dX1_writeNear_98 : decode cX1_writeNear 98 = .ok (.aload_n 0, 1) := dk_42 (dk_at dksX1_writeNear_4 4 rfl rfl)
theorem dX1_writeNear_99 : decode cX1_writeNear 99 = .ok (.aload_n 3, 1) := dk_45 (dk_at dksX1_writeNear_4 5 rfl rfl)
theorem dX1_writeNear_100 : decode cX1_writeNear 100 = .ok (.invokevirtual 396, 3) := dk_182 1 140 (dk_at dksX1_writeNear_4 6 rfl rfl)
theorem dX1_writeNear_103 : decode cX1_writeNear 103 = .ok (.ireturn, 1) := dk_172 (dk_at dksX1_writeNear_4 9 rfl rfl)
abbrev cX1_writeBags : ByteArray := prog_1_method_79_code
def yX1_writeBags : MethodName := ⟨RX1, "writeBags", "()I"⟩
def dkwX1_writeBags_3 : List UInt8 := [19, 1, 150, 167, 0, 5, 18, 52, 182, 1, 147, 87, 132, 3, 1, 167, 255, 187, 42, 44, 182, 1, 140, 172]
abbrev dktX1_writeBags_3 : List UInt8 := dkwX1_writeBags_3 ++ []
def dkwX1_writeBags_2 : List UInt8 := [16, 43, 182, 1, 133, 43, 180, 0, 156, 29, 46, 182, 1, 128, 43, 180, 0, 160, 29, 51, 153, 0, 9]
abbrev dktX1_writeBags_2 : List UInt8 := dkwX1_writeBags_2 ++ dktX1_writeBags_3
def dkwX1_writeBags_1 : List UInt8 := [29, 158, 0, 9, 19, 1, 145, 167, 0, 5, 18, 52, 182, 1, 147, 43, 180, 1, 73, 29, 46, 182, 1, 128]
abbrev dktX1_writeBags_1 : List UInt8 := dkwX1_writeBags_1 ++ dktX1_writeBags_2
def dkwX1_writeBags_0 : List UInt8 := [42, 182, 0, 135, 76, 187, 1, 118, 89, 16, 30, 183, 1, 132, 77, 3, 62, 29, 16, 6, 162, 0, 69, 44]
abbrev dktX1_writeBags_0 : List UInt8 := dkwX1_writeBags_0 ++ dktX1_writeBags_1
theorem dksX1_writeBags_0 : cX1_writeBags.data.toList.drop 0 = dktX1_writeBags_0 := by decide +kernel
theorem dksX1_writeBags_1 : cX1_writeBags.data.toList.drop 24 = dktX1_writeBags_1 := dk_seg dksX1_writeBags_0 24 rfl rfl
theorem dksX1_writeBags_2 : cX1_writeBags.data.toList.drop 48 = dktX1_writeBags_2 := dk_seg dksX1_writeBags_1 24 rfl rfl
theorem dksX1_writeBags_3 : cX1_writeBags.data.toList.drop 71 = dktX1_writeBags_3 := dk_seg dksX1_writeBags_2 23 rfl rfl
theorem dX1_writeBags_0 : decode cX1_writeBags 0 = .ok (.aload_n 0, 1) := dk_42 (dk_at dksX1_writeBags_0 0 rfl rfl)
theorem dX1_writeBags_1 : decode cX1_writeBags 1 = .ok (.invokevirtual 135, 3) := dk_182 0 135 (dk_at dksX1_writeBags_0 1 rfl rfl)
theorem dX1_writeBags_4 : decode cX1_writeBags 4 = .ok (.astore_n 1, 1) := dk_76 (dk_at dksX1_writeBags_0 4 rfl rfl)
theorem dX1_writeBags_5 : decode cX1_writeBags 5 = .ok (.new 374, 3) := dk_187 1 118 (dk_at dksX1_writeBags_0 5 rfl rfl)
theorem dX1_writeBags_8 : decode cX1_writeBags 8 = .ok (.dup, 1) := dk_89 (dk_at dksX1_writeBags_0 8 rfl rfl)
theorem dX1_writeBags_9 : decode cX1_writeBags 9 = .ok (.bipush 30, 2) := dk_16 30 (dk_at dksX1_writeBags_0 9 rfl rfl)
theorem dX1_writeBags_11 : decode cX1_writeBags 11 = .ok (.invokespecial 388, 3) := dk_183 1 132 (dk_at dksX1_writeBags_0 11 rfl rfl)
theorem dX1_writeBags_14 : decode cX1_writeBags 14 = .ok (.astore_n 2, 1) := dk_77 (dk_at dksX1_writeBags_0 14 rfl rfl)
theorem dX1_writeBags_15 : decode cX1_writeBags 15 = .ok (.iconst 0, 1) := dk_3 (dk_at dksX1_writeBags_0 15 rfl rfl)
theorem dX1_writeBags_16 : decode cX1_writeBags 16 = .ok (.istore_n 3, 1) := dk_62 (dk_at dksX1_writeBags_0 16 rfl rfl)
theorem dX1_writeBags_17 : decode cX1_writeBags 17 = .ok (.iload_n 3, 1) := dk_29 (dk_at dksX1_writeBags_0 17 rfl rfl)
theorem dX1_writeBags_18 : decode cX1_writeBags 18 = .ok (.bipush 6, 2) := dk_16 6 (dk_at dksX1_writeBags_0 18 rfl rfl)
theorem dX1_writeBags_20 : decode cX1_writeBags 20 = .ok (.if_icmp .ge 69, 3) := dk_162 0 69 (dk_at dksX1_writeBags_0 20 rfl rfl)
theorem dX1_writeBags_23 : decode cX1_writeBags 23 = .ok (.aload_n 2, 1) := dk_44 (dk_at dksX1_writeBags_0 23 rfl rfl)
theorem dX1_writeBags_24 : decode cX1_writeBags 24 = .ok (.iload_n 3, 1) := dk_29 (dk_at dksX1_writeBags_1 0 rfl rfl)
theorem dX1_writeBags_25 : decode cX1_writeBags 25 = .ok (.ifCond .le 9, 3) := dk_158 0 9 (dk_at dksX1_writeBags_1 1 rfl rfl)
theorem dX1_writeBags_28 : decode cX1_writeBags 28 = .ok (.ldc_w 401, 3) := dk_19 1 145 (dk_at dksX1_writeBags_1 4 rfl rfl)
theorem dX1_writeBags_31 : decode cX1_writeBags 31 = .ok (.goto 5, 3) := dk_167 0 5 (dk_at dksX1_writeBags_1 7 rfl rfl)
theorem dX1_writeBags_34 : decode cX1_writeBags 34 = .ok (.ldc 52, 2) := dk_18 52 (dk_at dksX1_writeBags_1 10 rfl rfl)
theorem dX1_writeBags_36 : decode cX1_writeBags 36 = .ok (.invokevirtual 403, 3) := dk_182 1 147 (dk_at dksX1_writeBags_1 12 rfl rfl)
theorem dX1_writeBags_39 : decode cX1_writeBags 39 = .ok (.aload_n 1, 1) := dk_43 (dk_at dksX1_writeBags_1 15 rfl rfl)
theorem dX1_writeBags_40 : decode cX1_writeBags 40 = .ok (.getfield 329, 3) := dk_180 1 73 (dk_at dksX1_writeBags_1 16 rfl rfl)
theorem dX1_writeBags_43 : decode cX1_writeBags 43 = .ok (.iload_n 3, 1) := dk_29 (dk_at dksX1_writeBags_1 19 rfl rfl)
theorem dX1_writeBags_44 : decode cX1_writeBags 44 = .ok (.iaload, 1) := dk_46 (dk_at dksX1_writeBags_1 20 rfl rfl)
theorem dX1_writeBags_45 : decode cX1_writeBags 45 = .ok (.invokevirtual 384, 3) := dk_182 1 128 (dk_at dksX1_writeBags_1 21 rfl rfl)
theorem dX1_writeBags_48 : decode cX1_writeBags 48 = .ok (.bipush 43, 2) := dk_16 43 (dk_at dksX1_writeBags_2 0 rfl rfl)
theorem dX1_writeBags_50 : decode cX1_writeBags 50 = .ok (.invokevirtual 389, 3) := dk_182 1 133 (dk_at dksX1_writeBags_2 2 rfl rfl)
theorem dX1_writeBags_53 : decode cX1_writeBags 53 = .ok (.aload_n 1, 1) := dk_43 (dk_at dksX1_writeBags_2 5 rfl rfl)
theorem dX1_writeBags_54 : decode cX1_writeBags 54 = .ok (.getfield 156, 3) := dk_180 0 156 (dk_at dksX1_writeBags_2 6 rfl rfl)
theorem dX1_writeBags_57 : decode cX1_writeBags 57 = .ok (.iload_n 3, 1) := dk_29 (dk_at dksX1_writeBags_2 9 rfl rfl)
theorem dX1_writeBags_58 : decode cX1_writeBags 58 = .ok (.iaload, 1) := dk_46 (dk_at dksX1_writeBags_2 10 rfl rfl)
theorem dX1_writeBags_59 : decode cX1_writeBags 59 = .ok (.invokevirtual 384, 3) := dk_182 1 128 (dk_at dksX1_writeBags_2 11 rfl rfl)
theorem dX1_writeBags_62 : decode cX1_writeBags 62 = .ok (.aload_n 1, 1) := dk_43 (dk_at dksX1_writeBags_2 14 rfl rfl)
theorem dX1_writeBags_63 : decode cX1_writeBags 63 = .ok (.getfield 160, 3) := dk_180 0 160 (dk_at dksX1_writeBags_2 15 rfl rfl)
theorem dX1_writeBags_66 : decode cX1_writeBags 66 = .ok (.iload_n 3, 1) := dk_29 (dk_at dksX1_writeBags_2 18 rfl rfl)
theorem dX1_writeBags_67 : decode cX1_writeBags 67 = .ok (.baload, 1) := dk_51 (dk_at dksX1_writeBags_2 19 rfl rfl)
theorem dX1_writeBags_68 : decode cX1_writeBags 68 = .ok (.ifCond .eq 9, 3) := dk_153 0 9 (dk_at dksX1_writeBags_2 20 rfl rfl)
theorem dX1_writeBags_71 : decode cX1_writeBags 71 = .ok (.ldc_w 406, 3) := dk_19 1 150 (dk_at dksX1_writeBags_3 0 rfl rfl)
theorem dX1_writeBags_74 : decode cX1_writeBags 74 = .ok (.goto 5, 3) := dk_167 0 5 (dk_at dksX1_writeBags_3 3 rfl rfl)
theorem dX1_writeBags_77 : decode cX1_writeBags 77 = .ok (.ldc 52, 2) := dk_18 52 (dk_at dksX1_writeBags_3 6 rfl rfl)
theorem dX1_writeBags_79 : decode cX1_writeBags 79 = .ok (.invokevirtual 403, 3) := dk_182 1 147 (dk_at dksX1_writeBags_3 8 rfl rfl)
theorem dX1_writeBags_82 : decode cX1_writeBags 82 = .ok (.pop, 1) := dk_87 (dk_at dksX1_writeBags_3 11 rfl rfl)
theorem dX1_writeBags_83 : decode cX1_writeBags 83 = .ok (.iinc 3 1, 3) := dk_132 3 1 (dk_at dksX1_writeBags_3 12 rfl rfl)
theorem dX1_writeBags_86 : decode cX1_writeBags 86 = .ok (.goto (-69), 3) := dk_167 255 187 (dk_at dksX1_writeBags_3 15 rfl rfl)
theorem dX1_writeBags_89 : decode cX1_writeBags 89 = .ok (.aload_n 0, 1) := dk_42 (dk_at dksX1_writeBags_3 18 rfl rfl)
theorem dX1_writeBags_90 : decode cX1_writeBags 90 = .ok (.aload_n 2, 1) := dk_44 (dk_at dksX1_writeBags_3 19 rfl rfl)
theorem dX1_writeBags_91 : decode cX1_writeBags 91 = .ok (.invokevirtual 396, 3) := dk_182 1 140 (dk_at dksX1_writeBags_3 20 rfl rfl)
theorem dX1_writeBags_94 : decode cX1_writeBags 94 = .ok (.ireturn, 1) := dk_172 (dk_at dksX1_writeBags_3 23 rfl rfl)
abbrev cX1_textByte : ByteArray := prog_1_method_80_code
def yX1_textByte : MethodName := ⟨RX1, "textByte", "(I)I"⟩
def dkwX1_textByte_1 : List UInt8 := [182, 1, 152, 172]
abbrev dktX1_textByte_1 : List UInt8 := dkwX1_textByte_1 ++ []
def dkwX1_textByte_0 : List UInt8 := [27, 3, 42, 180, 0, 54, 182, 1, 123, 4, 100, 184, 0, 73, 184, 0, 77, 42, 180, 0, 54, 27]
abbrev dktX1_textByte_0 : List UInt8 := dkwX1_textByte_0 ++ dktX1_textByte_1
theorem dksX1_textByte_0 : cX1_textByte.data.toList.drop 0 = dktX1_textByte_0 := by decide +kernel
theorem dksX1_textByte_1 : cX1_textByte.data.toList.drop 22 = dktX1_textByte_1 := dk_seg dksX1_textByte_0 22 rfl rfl
theorem dX1_textByte_0 : decode cX1_textByte 0 = .ok (.iload_n 1, 1) := dk_27 (dk_at dksX1_textByte_0 0 rfl rfl)
theorem dX1_textByte_1 : decode cX1_textByte 1 = .ok (.iconst 0, 1) := dk_3 (dk_at dksX1_textByte_0 1 rfl rfl)
theorem dX1_textByte_2 : decode cX1_textByte 2 = .ok (.aload_n 0, 1) := dk_42 (dk_at dksX1_textByte_0 2 rfl rfl)
theorem dX1_textByte_3 : decode cX1_textByte 3 = .ok (.getfield 54, 3) := dk_180 0 54 (dk_at dksX1_textByte_0 3 rfl rfl)
theorem dX1_textByte_6 : decode cX1_textByte 6 = .ok (.invokevirtual 379, 3) := dk_182 1 123 (dk_at dksX1_textByte_0 6 rfl rfl)
theorem dX1_textByte_9 : decode cX1_textByte 9 = .ok (.iconst 1, 1) := dk_4 (dk_at dksX1_textByte_0 9 rfl rfl)
theorem dX1_textByte_10 : decode cX1_textByte 10 = .ok (.isub, 1) := dk_100 (dk_at dksX1_textByte_0 10 rfl rfl)
theorem dX1_textByte_11 : decode cX1_textByte 11 = .ok (.invokestatic 73, 3) := dk_184 0 73 (dk_at dksX1_textByte_0 11 rfl rfl)
theorem dX1_textByte_14 : decode cX1_textByte 14 = .ok (.invokestatic 77, 3) := dk_184 0 77 (dk_at dksX1_textByte_0 14 rfl rfl)
theorem dX1_textByte_17 : decode cX1_textByte 17 = .ok (.aload_n 0, 1) := dk_42 (dk_at dksX1_textByte_0 17 rfl rfl)
theorem dX1_textByte_18 : decode cX1_textByte 18 = .ok (.getfield 54, 3) := dk_180 0 54 (dk_at dksX1_textByte_0 18 rfl rfl)
theorem dX1_textByte_21 : decode cX1_textByte 21 = .ok (.iload_n 1, 1) := dk_27 (dk_at dksX1_textByte_0 21 rfl rfl)
theorem dX1_textByte_22 : decode cX1_textByte 22 = .ok (.invokevirtual 408, 3) := dk_182 1 152 (dk_at dksX1_textByte_1 0 rfl rfl)
theorem dX1_textByte_25 : decode cX1_textByte 25 = .ok (.ireturn, 1) := dk_172 (dk_at dksX1_textByte_1 3 rfl rfl)
abbrev cX1_sort : ByteArray := prog_1_method_82_code
def yX1_sort : MethodName := ⟨RX1, "sort", "(I)I"⟩
def dkwX1_sort_1 : List UInt8 := [182, 1, 165, 27, 182, 1, 168, 172]
abbrev dktX1_sort_1 : List UInt8 := dkwX1_sort_1 ++ []
def dkwX1_sort_0 : List UInt8 := [42, 27, 182, 0, 139, 27, 182, 0, 236, 180, 0, 245, 154, 0, 7, 4, 167, 0, 4, 3, 184, 0, 221, 42]
abbrev dktX1_sort_0 : List UInt8 := dkwX1_sort_0 ++ dktX1_sort_1
theorem dksX1_sort_0 : cX1_sort.data.toList.drop 0 = dktX1_sort_0 := by decide +kernel
theorem dksX1_sort_1 : cX1_sort.data.toList.drop 24 = dktX1_sort_1 := dk_seg dksX1_sort_0 24 rfl rfl
theorem dX1_sort_0 : decode cX1_sort 0 = .ok (.aload_n 0, 1) := dk_42 (dk_at dksX1_sort_0 0 rfl rfl)
theorem dX1_sort_1 : decode cX1_sort 1 = .ok (.iload_n 1, 1) := dk_27 (dk_at dksX1_sort_0 1 rfl rfl)
theorem dX1_sort_2 : decode cX1_sort 2 = .ok (.invokevirtual 139, 3) := dk_182 0 139 (dk_at dksX1_sort_0 2 rfl rfl)
theorem dX1_sort_5 : decode cX1_sort 5 = .ok (.iload_n 1, 1) := dk_27 (dk_at dksX1_sort_0 5 rfl rfl)
theorem dX1_sort_6 : decode cX1_sort 6 = .ok (.invokevirtual 236, 3) := dk_182 0 236 (dk_at dksX1_sort_0 6 rfl rfl)
theorem dX1_sort_9 : decode cX1_sort 9 = .ok (.getfield 245, 3) := dk_180 0 245 (dk_at dksX1_sort_0 9 rfl rfl)
theorem dX1_sort_12 : decode cX1_sort 12 = .ok (.ifCond .ne 7, 3) := dk_154 0 7 (dk_at dksX1_sort_0 12 rfl rfl)
theorem dX1_sort_15 : decode cX1_sort 15 = .ok (.iconst 1, 1) := dk_4 (dk_at dksX1_sort_0 15 rfl rfl)
theorem dX1_sort_16 : decode cX1_sort 16 = .ok (.goto 4, 3) := dk_167 0 4 (dk_at dksX1_sort_0 16 rfl rfl)
theorem dX1_sort_19 : decode cX1_sort 19 = .ok (.iconst 0, 1) := dk_3 (dk_at dksX1_sort_0 19 rfl rfl)
theorem dX1_sort_20 : decode cX1_sort 20 = .ok (.invokestatic 221, 3) := dk_184 0 221 (dk_at dksX1_sort_0 20 rfl rfl)
theorem dX1_sort_23 : decode cX1_sort 23 = .ok (.aload_n 0, 1) := dk_42 (dk_at dksX1_sort_0 23 rfl rfl)
theorem dX1_sort_24 : decode cX1_sort 24 = .ok (.invokevirtual 421, 3) := dk_182 1 165 (dk_at dksX1_sort_1 0 rfl rfl)
theorem dX1_sort_27 : decode cX1_sort 27 = .ok (.iload_n 1, 1) := dk_27 (dk_at dksX1_sort_1 3 rfl rfl)
theorem dX1_sort_28 : decode cX1_sort 28 = .ok (.invokevirtual 424, 3) := dk_182 1 168 (dk_at dksX1_sort_1 4 rfl rfl)
theorem dX1_sort_31 : decode cX1_sort 31 = .ok (.ireturn, 1) := dk_172 (dk_at dksX1_sort_1 7 rfl rfl)
abbrev cX1_remember : ByteArray := prog_1_method_81_code
def yX1_remember : MethodName := ⟨RX1, "remember", "()LBadCodes$Office;"⟩
def dkwX1_remember_2 : List UInt8 := [180, 0, 90, 183, 1, 97, 181, 0, 90, 42, 180, 0, 90, 176]
abbrev dktX1_remember_2 : List UInt8 := dkwX1_remember_2 ++ []
def dkwX1_remember_1 : List UInt8 := [192, 0, 46, 76, 42, 180, 0, 42, 42, 180, 0, 90, 185, 1, 161, 2, 0, 42, 187, 0, 46, 89, 42]
abbrev dktX1_remember_1 : List UInt8 := dkwX1_remember_1 ++ dktX1_remember_2
def dkwX1_remember_0 : List UInt8 := [42, 180, 0, 42, 185, 1, 156, 1, 0, 16, 8, 160, 0, 16, 42, 180, 0, 42, 185, 1, 157, 1, 0]
abbrev dktX1_remember_0 : List UInt8 := dkwX1_remember_0 ++ dktX1_remember_1
theorem dksX1_remember_0 : cX1_remember.data.toList.drop 0 = dktX1_remember_0 := by decide +kernel
theorem dksX1_remember_1 : cX1_remember.data.toList.drop 23 = dktX1_remember_1 := dk_seg dksX1_remember_0 23 rfl rfl
theorem dksX1_remember_2 : cX1_remember.data.toList.drop 46 = dktX1_remember_2 := dk_seg dksX1_remember_1 23 rfl rfl
theorem dX1_remember_0 : decode cX1_remember 0 = .ok (.aload_n 0, 1) := dk_42 (dk_at dksX1_remember_0 0 rfl rfl)
theorem dX1_remember_1 : decode cX1_remember 1 = .ok (.getfield 42, 3) := dk_180 0 42 (dk_at dksX1_remember_0 1 rfl rfl)
theorem dX1_remember_4 : decode cX1_remember 4 = .ok (.invokeinterface 412 1, 5) := by decide +kernel
theorem dX1_remember_9 : decode cX1_remember 9 = .ok (.bipush 8, 2) := dk_16 8 (dk_at dksX1_remember_0 9 rfl rfl)
theorem dX1_remember_11 : decode cX1_remember 11 = .ok (.if_icmp .ne 16, 3) := dk_160 0 16 (dk_at dksX1_remember_0 11 rfl rfl)
theorem dX1_remember_14 : decode cX1_remember 14 = .ok (.aload_n 0, 1) := dk_42 (dk_at dksX1_remember_0 14 rfl rfl)
theorem dX1_remember_15 : decode cX1_remember 15 = .ok (.getfield 42, 3) := dk_180 0 42 (dk_at dksX1_remember_0 15 rfl rfl)
theorem dX1_remember_18 : decode cX1_remember 18 = .ok (.invokeinterface 413 1, 5) := by decide +kernel
theorem dX1_remember_23 : decode cX1_remember 23 = .ok (.checkcast 46, 3) := dk_192 0 46 (dk_at dksX1_remember_1 0 rfl rfl)
theorem dX1_remember_26 : decode cX1_remember 26 = .ok (.astore_n 1, 1) := dk_76 (dk_at dksX1_remember_1 3 rfl rfl)
theorem dX1_remember_27 : decode cX1_remember 27 = .ok (.aload_n 0, 1) := dk_42 (dk_at dksX1_remember_1 4 rfl rfl)
theorem dX1_remember_28 : decode cX1_remember 28 = .ok (.getfield 42, 3) := dk_180 0 42 (dk_at dksX1_remember_1 5 rfl rfl)
theorem dX1_remember_31 : decode cX1_remember 31 = .ok (.aload_n 0, 1) := dk_42 (dk_at dksX1_remember_1 8 rfl rfl)
theorem dX1_remember_32 : decode cX1_remember 32 = .ok (.getfield 90, 3) := dk_180 0 90 (dk_at dksX1_remember_1 9 rfl rfl)
theorem dX1_remember_35 : decode cX1_remember 35 = .ok (.invokeinterface 417 2, 5) := by decide +kernel
theorem dX1_remember_40 : decode cX1_remember 40 = .ok (.aload_n 0, 1) := dk_42 (dk_at dksX1_remember_1 17 rfl rfl)
theorem dX1_remember_41 : decode cX1_remember 41 = .ok (.new 46, 3) := dk_187 0 46 (dk_at dksX1_remember_1 18 rfl rfl)
theorem dX1_remember_44 : decode cX1_remember 44 = .ok (.dup, 1) := dk_89 (dk_at dksX1_remember_1 21 rfl rfl)
theorem dX1_remember_45 : decode cX1_remember 45 = .ok (.aload_n 0, 1) := dk_42 (dk_at dksX1_remember_1 22 rfl rfl)
theorem dX1_remember_46 : decode cX1_remember 46 = .ok (.getfield 90, 3) := dk_180 0 90 (dk_at dksX1_remember_2 0 rfl rfl)
theorem dX1_remember_49 : decode cX1_remember 49 = .ok (.invokespecial 353, 3) := dk_183 1 97 (dk_at dksX1_remember_2 3 rfl rfl)
theorem dX1_remember_52 : decode cX1_remember 52 = .ok (.putfield 90, 3) := dk_181 0 90 (dk_at dksX1_remember_2 6 rfl rfl)
theorem dX1_remember_55 : decode cX1_remember 55 = .ok (.aload_n 0, 1) := dk_42 (dk_at dksX1_remember_2 9 rfl rfl)
theorem dX1_remember_56 : decode cX1_remember 56 = .ok (.getfield 90, 3) := dk_180 0 90 (dk_at dksX1_remember_2 10 rfl rfl)
theorem dX1_remember_59 : decode cX1_remember 59 = .ok (.areturn, 1) := dk_176 (dk_at dksX1_remember_2 13 rfl rfl)
abbrev cX1_sortAll : ByteArray := prog_1_method_83_code
def yX1_sortAll : MethodName := ⟨RX1, "sortAll", "()I"⟩
def dkwX1_sortAll_0 : List UInt8 := [42, 182, 0, 135, 76, 42, 182, 1, 165, 182, 1, 100, 172]
abbrev dktX1_sortAll_0 : List UInt8 := dkwX1_sortAll_0 ++ []
theorem dksX1_sortAll_0 : cX1_sortAll.data.toList.drop 0 = dktX1_sortAll_0 := by decide +kernel
theorem dX1_sortAll_0 : decode cX1_sortAll 0 = .ok (.aload_n 0, 1) := dk_42 (dk_at dksX1_sortAll_0 0 rfl rfl)
theorem dX1_sortAll_1 : decode cX1_sortAll 1 = .ok (.invokevirtual 135, 3) := dk_182 0 135 (dk_at dksX1_sortAll_0 1 rfl rfl)
theorem dX1_sortAll_4 : decode cX1_sortAll 4 = .ok (.astore_n 1, 1) := dk_76 (dk_at dksX1_sortAll_0 4 rfl rfl)
theorem dX1_sortAll_5 : decode cX1_sortAll 5 = .ok (.aload_n 0, 1) := dk_42 (dk_at dksX1_sortAll_0 5 rfl rfl)
theorem dX1_sortAll_6 : decode cX1_sortAll 6 = .ok (.invokevirtual 421, 3) := dk_182 1 165 (dk_at dksX1_sortAll_0 6 rfl rfl)
theorem dX1_sortAll_9 : decode cX1_sortAll 9 = .ok (.invokevirtual 356, 3) := dk_182 1 100 (dk_at dksX1_sortAll_0 9 rfl rfl)
theorem dX1_sortAll_12 : decode cX1_sortAll 12 = .ok (.ireturn, 1) := dk_172 (dk_at dksX1_sortAll_0 12 rfl rfl)
abbrev cX1_again : ByteArray := prog_1_method_84_code
def yX1_again : MethodName := ⟨RX1, "again", "(III)I"⟩
def dkwX1_again_2 : List UInt8 := [27, 182, 0, 236, 180, 0, 248, 172]
abbrev dktX1_again_2 : List UInt8 := dkwX1_again_2 ++ []
def dkwX1_again_1 : List UInt8 := [4, 167, 0, 4, 3, 184, 0, 221, 42, 182, 1, 165, 58, 5, 25, 5, 27, 28, 29, 182, 1, 171, 25, 5]
abbrev dktX1_again_1 : List UInt8 := dkwX1_again_1 ++ dktX1_again_2
def dkwX1_again_0 : List UInt8 := [42, 27, 28, 182, 1, 9, 58, 4, 29, 184, 1, 90, 153, 0, 16, 25, 4, 27, 182, 1, 34, 154, 0, 7]
abbrev dktX1_again_0 : List UInt8 := dkwX1_again_0 ++ dktX1_again_1
theorem dksX1_again_0 : cX1_again.data.toList.drop 0 = dktX1_again_0 := by decide +kernel
theorem dksX1_again_1 : cX1_again.data.toList.drop 24 = dktX1_again_1 := dk_seg dksX1_again_0 24 rfl rfl
theorem dksX1_again_2 : cX1_again.data.toList.drop 48 = dktX1_again_2 := dk_seg dksX1_again_1 24 rfl rfl
theorem dX1_again_0 : decode cX1_again 0 = .ok (.aload_n 0, 1) := dk_42 (dk_at dksX1_again_0 0 rfl rfl)
theorem dX1_again_1 : decode cX1_again 1 = .ok (.iload_n 1, 1) := dk_27 (dk_at dksX1_again_0 1 rfl rfl)
theorem dX1_again_2 : decode cX1_again 2 = .ok (.iload_n 2, 1) := dk_28 (dk_at dksX1_again_0 2 rfl rfl)
theorem dX1_again_3 : decode cX1_again 3 = .ok (.invokevirtual 265, 3) := dk_182 1 9 (dk_at dksX1_again_0 3 rfl rfl)
theorem dX1_again_6 : decode cX1_again 6 = .ok (.astore 4, 2) := dk_58 4 (dk_at dksX1_again_0 6 rfl rfl)
theorem dX1_again_8 : decode cX1_again 8 = .ok (.iload_n 3, 1) := dk_29 (dk_at dksX1_again_0 8 rfl rfl)
theorem dX1_again_9 : decode cX1_again 9 = .ok (.invokestatic 346, 3) := dk_184 1 90 (dk_at dksX1_again_0 9 rfl rfl)
theorem dX1_again_12 : decode cX1_again 12 = .ok (.ifCond .eq 16, 3) := dk_153 0 16 (dk_at dksX1_again_0 12 rfl rfl)
theorem dX1_again_15 : decode cX1_again 15 = .ok (.aload 4, 2) := dk_25 4 (dk_at dksX1_again_0 15 rfl rfl)
theorem dX1_again_17 : decode cX1_again 17 = .ok (.iload_n 1, 1) := dk_27 (dk_at dksX1_again_0 17 rfl rfl)
theorem dX1_again_18 : decode cX1_again 18 = .ok (.invokevirtual 290, 3) := dk_182 1 34 (dk_at dksX1_again_0 18 rfl rfl)
theorem dX1_again_21 : decode cX1_again 21 = .ok (.ifCond .ne 7, 3) := dk_154 0 7 (dk_at dksX1_again_0 21 rfl rfl)
theorem dX1_again_24 : decode cX1_again 24 = .ok (.iconst 1, 1) := dk_4 (dk_at dksX1_again_1 0 rfl rfl)
theorem dX1_again_25 : decode cX1_again 25 = .ok (.goto 4, 3) := dk_167 0 4 (dk_at dksX1_again_1 1 rfl rfl)
theorem dX1_again_28 : decode cX1_again 28 = .ok (.iconst 0, 1) := dk_3 (dk_at dksX1_again_1 4 rfl rfl)
theorem dX1_again_29 : decode cX1_again 29 = .ok (.invokestatic 221, 3) := dk_184 0 221 (dk_at dksX1_again_1 5 rfl rfl)
theorem dX1_again_32 : decode cX1_again 32 = .ok (.aload_n 0, 1) := dk_42 (dk_at dksX1_again_1 8 rfl rfl)
theorem dX1_again_33 : decode cX1_again 33 = .ok (.invokevirtual 421, 3) := dk_182 1 165 (dk_at dksX1_again_1 9 rfl rfl)
theorem dX1_again_36 : decode cX1_again 36 = .ok (.astore 5, 2) := dk_58 5 (dk_at dksX1_again_1 12 rfl rfl)
theorem dX1_again_38 : decode cX1_again 38 = .ok (.aload 5, 2) := dk_25 5 (dk_at dksX1_again_1 14 rfl rfl)
theorem dX1_again_40 : decode cX1_again 40 = .ok (.iload_n 1, 1) := dk_27 (dk_at dksX1_again_1 16 rfl rfl)
theorem dX1_again_41 : decode cX1_again 41 = .ok (.iload_n 2, 1) := dk_28 (dk_at dksX1_again_1 17 rfl rfl)
theorem dX1_again_42 : decode cX1_again 42 = .ok (.iload_n 3, 1) := dk_29 (dk_at dksX1_again_1 18 rfl rfl)
theorem dX1_again_43 : decode cX1_again 43 = .ok (.invokevirtual 427, 3) := dk_182 1 171 (dk_at dksX1_again_1 19 rfl rfl)
theorem dX1_again_46 : decode cX1_again 46 = .ok (.aload 5, 2) := dk_25 5 (dk_at dksX1_again_1 22 rfl rfl)
theorem dX1_again_48 : decode cX1_again 48 = .ok (.iload_n 1, 1) := dk_27 (dk_at dksX1_again_2 0 rfl rfl)
theorem dX1_again_49 : decode cX1_again 49 = .ok (.invokevirtual 236, 3) := dk_182 0 236 (dk_at dksX1_again_2 1 rfl rfl)
theorem dX1_again_52 : decode cX1_again 52 = .ok (.getfield 248, 3) := dk_180 0 248 (dk_at dksX1_again_2 4 rfl rfl)
theorem dX1_again_55 : decode cX1_again 55 = .ok (.ireturn, 1) := dk_172 (dk_at dksX1_again_2 7 rfl rfl)
abbrev cX1_addLetter : ByteArray := prog_1_method_85_code
def yX1_addLetter : MethodName := ⟨RX1, "addLetter", "(III)I"⟩
def dkwX1_addLetter_6 : List UInt8 := [180, 0, 119, 185, 0, 123, 1, 0, 4, 100, 172]
abbrev dktX1_addLetter_6 : List UInt8 := dkwX1_addLetter_6 ++ []
def dkwX1_addLetter_5 : List UInt8 := [181, 0, 240, 42, 182, 1, 165, 58, 7, 25, 7, 180, 0, 119, 25, 5, 185, 1, 177, 2, 0, 87, 25, 7]
abbrev dktX1_addLetter_5 : List UInt8 := dkwX1_addLetter_5 ++ dktX1_addLetter_6
def dkwX1_addLetter_4 : List UInt8 := [21, 6, 16, 10, 112, 79, 21, 6, 16, 10, 108, 54, 6, 132, 7, 255, 167, 255, 214, 25, 5, 29]
abbrev dktX1_addLetter_4 : List UInt8 := dkwX1_addLetter_4 ++ dktX1_addLetter_5
def dkwX1_addLetter_3 : List UInt8 := [155, 0, 43, 25, 5, 180, 1, 13, 21, 7, 28, 21, 7, 122, 4, 126, 4, 160, 0, 7, 2, 167, 0, 8]
abbrev dktX1_addLetter_3 : List UInt8 := dkwX1_addLetter_3 ++ dktX1_addLetter_4
def dkwX1_addLetter_2 : List UInt8 := [167, 0, 4, 3, 184, 0, 221, 187, 0, 241, 89, 183, 1, 176, 58, 5, 27, 54, 6, 7, 54, 7, 21, 7]
abbrev dktX1_addLetter_2 : List UInt8 := dkwX1_addLetter_2 ++ dktX1_addLetter_3
def dkwX1_addLetter_1 : List UInt8 := [184, 0, 73, 153, 0, 22, 25, 4, 180, 0, 119, 185, 0, 123, 1, 0, 16, 24, 162, 0, 7, 4]
abbrev dktX1_addLetter_1 : List UInt8 := dkwX1_addLetter_1 ++ dktX1_addLetter_2
def dkwX1_addLetter_0 : List UInt8 := [42, 29, 182, 1, 59, 58, 4, 27, 3, 19, 1, 175, 184, 0, 73, 153, 0, 32, 28, 3, 16, 31]
abbrev dktX1_addLetter_0 : List UInt8 := dkwX1_addLetter_0 ++ dktX1_addLetter_1
theorem dksX1_addLetter_0 : cX1_addLetter.data.toList.drop 0 = dktX1_addLetter_0 := by decide +kernel
theorem dksX1_addLetter_1 : cX1_addLetter.data.toList.drop 22 = dktX1_addLetter_1 := dk_seg dksX1_addLetter_0 22 rfl rfl
theorem dksX1_addLetter_2 : cX1_addLetter.data.toList.drop 44 = dktX1_addLetter_2 := dk_seg dksX1_addLetter_1 22 rfl rfl
theorem dksX1_addLetter_3 : cX1_addLetter.data.toList.drop 68 = dktX1_addLetter_3 := dk_seg dksX1_addLetter_2 24 rfl rfl
theorem dksX1_addLetter_4 : cX1_addLetter.data.toList.drop 92 = dktX1_addLetter_4 := dk_seg dksX1_addLetter_3 24 rfl rfl
theorem dksX1_addLetter_5 : cX1_addLetter.data.toList.drop 114 = dktX1_addLetter_5 := dk_seg dksX1_addLetter_4 22 rfl rfl
theorem dksX1_addLetter_6 : cX1_addLetter.data.toList.drop 138 = dktX1_addLetter_6 := dk_seg dksX1_addLetter_5 24 rfl rfl
theorem dX1_addLetter_0 : decode cX1_addLetter 0 = .ok (.aload_n 0, 1) := dk_42 (dk_at dksX1_addLetter_0 0 rfl rfl)
theorem dX1_addLetter_1 : decode cX1_addLetter 1 = .ok (.iload_n 3, 1) := dk_29 (dk_at dksX1_addLetter_0 1 rfl rfl)
theorem dX1_addLetter_2 : decode cX1_addLetter 2 = .ok (.invokevirtual 315, 3) := dk_182 1 59 (dk_at dksX1_addLetter_0 2 rfl rfl)
theorem dX1_addLetter_5 : decode cX1_addLetter 5 = .ok (.astore 4, 2) := dk_58 4 (dk_at dksX1_addLetter_0 5 rfl rfl)
theorem dX1_addLetter_7 : decode cX1_addLetter 7 = .ok (.iload_n 1, 1) := dk_27 (dk_at dksX1_addLetter_0 7 rfl rfl)
theorem dX1_addLetter_8 : decode cX1_addLetter 8 = .ok (.iconst 0, 1) := dk_3 (dk_at dksX1_addLetter_0 8 rfl rfl)
theorem dX1_addLetter_9 : decode cX1_addLetter 9 = .ok (.ldc_w 431, 3) := dk_19 1 175 (dk_at dksX1_addLetter_0 9 rfl rfl)
theorem dX1_addLetter_12 : decode cX1_addLetter 12 = .ok (.invokestatic 73, 3) := dk_184 0 73 (dk_at dksX1_addLetter_0 12 rfl rfl)
theorem dX1_addLetter_15 : decode cX1_addLetter 15 = .ok (.ifCond .eq 32, 3) := dk_153 0 32 (dk_at dksX1_addLetter_0 15 rfl rfl)
theorem dX1_addLetter_18 : decode cX1_addLetter 18 = .ok (.iload_n 2, 1) := dk_28 (dk_at dksX1_addLetter_0 18 rfl rfl)
theorem dX1_addLetter_19 : decode cX1_addLetter 19 = .ok (.iconst 0, 1) := dk_3 (dk_at dksX1_addLetter_0 19 rfl rfl)
theorem dX1_addLetter_20 : decode cX1_addLetter 20 = .ok (.bipush 31, 2) := dk_16 31 (dk_at dksX1_addLetter_0 20 rfl rfl)
theorem dX1_addLetter_22 : decode cX1_addLetter 22 = .ok (.invokestatic 73, 3) := dk_184 0 73 (dk_at dksX1_addLetter_1 0 rfl rfl)
theorem dX1_addLetter_25 : decode cX1_addLetter 25 = .ok (.ifCond .eq 22, 3) := dk_153 0 22 (dk_at dksX1_addLetter_1 3 rfl rfl)
theorem dX1_addLetter_28 : decode cX1_addLetter 28 = .ok (.aload 4, 2) := dk_25 4 (dk_at dksX1_addLetter_1 6 rfl rfl)
theorem dX1_addLetter_30 : decode cX1_addLetter 30 = .ok (.getfield 119, 3) := dk_180 0 119 (dk_at dksX1_addLetter_1 8 rfl rfl)
theorem dX1_addLetter_33 : decode cX1_addLetter 33 = .ok (.invokeinterface 123 1, 5) := by decide +kernel
theorem dX1_addLetter_38 : decode cX1_addLetter 38 = .ok (.bipush 24, 2) := dk_16 24 (dk_at dksX1_addLetter_1 16 rfl rfl)
theorem dX1_addLetter_40 : decode cX1_addLetter 40 = .ok (.if_icmp .ge 7, 3) := dk_162 0 7 (dk_at dksX1_addLetter_1 18 rfl rfl)
theorem dX1_addLetter_43 : decode cX1_addLetter 43 = .ok (.iconst 1, 1) := dk_4 (dk_at dksX1_addLetter_1 21 rfl rfl)
theorem dX1_addLetter_44 : decode cX1_addLetter 44 = .ok (.goto 4, 3) := dk_167 0 4 (dk_at dksX1_addLetter_2 0 rfl rfl)
theorem dX1_addLetter_47 : decode cX1_addLetter 47 = .ok (.iconst 0, 1) := dk_3 (dk_at dksX1_addLetter_2 3 rfl rfl)
theorem dX1_addLetter_48 : decode cX1_addLetter 48 = .ok (.invokestatic 221, 3) := dk_184 0 221 (dk_at dksX1_addLetter_2 4 rfl rfl)
theorem dX1_addLetter_51 : decode cX1_addLetter 51 = .ok (.new 241, 3) := dk_187 0 241 (dk_at dksX1_addLetter_2 7 rfl rfl)
theorem dX1_addLetter_54 : decode cX1_addLetter 54 = .ok (.dup, 1) := dk_89 (dk_at dksX1_addLetter_2 10 rfl rfl)
theorem dX1_addLetter_55 : decode cX1_addLetter 55 = .ok (.invokespecial 432, 3) := dk_183 1 176 (dk_at dksX1_addLetter_2 11 rfl rfl)
theorem dX1_addLetter_58 : decode cX1_addLetter 58 = .ok (.astore 5, 2) := dk_58 5 (dk_at dksX1_addLetter_2 14 rfl rfl)
theorem dX1_addLetter_60 : decode cX1_addLetter 60 = .ok (.iload_n 1, 1) := dk_27 (dk_at dksX1_addLetter_2 16 rfl rfl)
theorem dX1_addLetter_61 : decode cX1_addLetter 61 = .ok (.istore 6, 2) := dk_54 6 (dk_at dksX1_addLetter_2 17 rfl rfl)
theorem dX1_addLetter_63 : decode cX1_addLetter 63 = .ok (.iconst 4, 1) := dk_7 (dk_at dksX1_addLetter_2 19 rfl rfl)
theorem dX1_addLetter_64 : decode cX1_addLetter 64 = .ok (.istore 7, 2) := dk_54 7 (dk_at dksX1_addLetter_2 20 rfl rfl)
theorem dX1_addLetter_66 : decode cX1_addLetter 66 = .ok (.iload 7, 2) := dk_21 7 (dk_at dksX1_addLetter_2 22 rfl rfl)
theorem dX1_addLetter_68 : decode cX1_addLetter 68 = .ok (.ifCond .lt 43, 3) := dk_155 0 43 (dk_at dksX1_addLetter_3 0 rfl rfl)
theorem dX1_addLetter_71 : decode cX1_addLetter 71 = .ok (.aload 5, 2) := dk_25 5 (dk_at dksX1_addLetter_3 3 rfl rfl)
theorem dX1_addLetter_73 : decode cX1_addLetter 73 = .ok (.getfield 269, 3) := dk_180 1 13 (dk_at dksX1_addLetter_3 5 rfl rfl)
theorem dX1_addLetter_76 : decode cX1_addLetter 76 = .ok (.iload 7, 2) := dk_21 7 (dk_at dksX1_addLetter_3 8 rfl rfl)
theorem dX1_addLetter_78 : decode cX1_addLetter 78 = .ok (.iload_n 2, 1) := dk_28 (dk_at dksX1_addLetter_3 10 rfl rfl)
theorem dX1_addLetter_79 : decode cX1_addLetter 79 = .ok (.iload 7, 2) := dk_21 7 (dk_at dksX1_addLetter_3 11 rfl rfl)
theorem dX1_addLetter_81 : decode cX1_addLetter 81 = .ok (.ishr, 1) := dk_122 (dk_at dksX1_addLetter_3 13 rfl rfl)
theorem dX1_addLetter_82 : decode cX1_addLetter 82 = .ok (.iconst 1, 1) := dk_4 (dk_at dksX1_addLetter_3 14 rfl rfl)
theorem dX1_addLetter_83 : decode cX1_addLetter 83 = .ok (.iand, 1) := dk_126 (dk_at dksX1_addLetter_3 15 rfl rfl)
theorem dX1_addLetter_84 : decode cX1_addLetter 84 = .ok (.iconst 1, 1) := dk_4 (dk_at dksX1_addLetter_3 16 rfl rfl)
theorem dX1_addLetter_85 : decode cX1_addLetter 85 = .ok (.if_icmp .ne 7, 3) := dk_160 0 7 (dk_at dksX1_addLetter_3 17 rfl rfl)
theorem dX1_addLetter_88 : decode cX1_addLetter 88 = .ok (.iconst (-1), 1) := dk_2 (dk_at dksX1_addLetter_3 20 rfl rfl)
theorem dX1_addLetter_89 : decode cX1_addLetter 89 = .ok (.goto 8, 3) := dk_167 0 8 (dk_at dksX1_addLetter_3 21 rfl rfl)
theorem dX1_addLetter_92 : decode cX1_addLetter 92 = .ok (.iload 6, 2) := dk_21 6 (dk_at dksX1_addLetter_4 0 rfl rfl)
theorem dX1_addLetter_94 : decode cX1_addLetter 94 = .ok (.bipush 10, 2) := dk_16 10 (dk_at dksX1_addLetter_4 2 rfl rfl)
theorem dX1_addLetter_96 : decode cX1_addLetter 96 = .ok (.irem, 1) := dk_112 (dk_at dksX1_addLetter_4 4 rfl rfl)
theorem dX1_addLetter_97 : decode cX1_addLetter 97 = .ok (.iastore, 1) := dk_79 (dk_at dksX1_addLetter_4 5 rfl rfl)
theorem dX1_addLetter_98 : decode cX1_addLetter 98 = .ok (.iload 6, 2) := dk_21 6 (dk_at dksX1_addLetter_4 6 rfl rfl)
theorem dX1_addLetter_100 : decode cX1_addLetter 100 = .ok (.bipush 10, 2) := dk_16 10 (dk_at dksX1_addLetter_4 8 rfl rfl)
theorem dX1_addLetter_102 : decode cX1_addLetter 102 = .ok (.idiv, 1) := dk_108 (dk_at dksX1_addLetter_4 10 rfl rfl)
theorem dX1_addLetter_103 : decode cX1_addLetter 103 = .ok (.istore 6, 2) := dk_54 6 (dk_at dksX1_addLetter_4 11 rfl rfl)
theorem dX1_addLetter_105 : decode cX1_addLetter 105 = .ok (.iinc 7 (-1), 3) := dk_132 7 255 (dk_at dksX1_addLetter_4 13 rfl rfl)
theorem dX1_addLetter_108 : decode cX1_addLetter 108 = .ok (.goto (-42), 3) := dk_167 255 214 (dk_at dksX1_addLetter_4 16 rfl rfl)
theorem dX1_addLetter_111 : decode cX1_addLetter 111 = .ok (.aload 5, 2) := dk_25 5 (dk_at dksX1_addLetter_4 19 rfl rfl)
theorem dX1_addLetter_113 : decode cX1_addLetter 113 = .ok (.iload_n 3, 1) := dk_29 (dk_at dksX1_addLetter_4 21 rfl rfl)
theorem dX1_addLetter_114 : decode cX1_addLetter 114 = .ok (.putfield 240, 3) := dk_181 0 240 (dk_at dksX1_addLetter_5 0 rfl rfl)
theorem dX1_addLetter_117 : decode cX1_addLetter 117 = .ok (.aload_n 0, 1) := dk_42 (dk_at dksX1_addLetter_5 3 rfl rfl)
theorem dX1_addLetter_118 : decode cX1_addLetter 118 = .ok (.invokevirtual 421, 3) := dk_182 1 165 (dk_at dksX1_addLetter_5 4 rfl rfl)
theorem dX1_addLetter_121 : decode cX1_addLetter 121 = .ok (.astore 7, 2) := dk_58 7 (dk_at dksX1_addLetter_5 7 rfl rfl)
theorem dX1_addLetter_123 : decode cX1_addLetter 123 = .ok (.aload 7, 2) := dk_25 7 (dk_at dksX1_addLetter_5 9 rfl rfl)
theorem dX1_addLetter_125 : decode cX1_addLetter 125 = .ok (.getfield 119, 3) := dk_180 0 119 (dk_at dksX1_addLetter_5 11 rfl rfl)
theorem dX1_addLetter_128 : decode cX1_addLetter 128 = .ok (.aload 5, 2) := dk_25 5 (dk_at dksX1_addLetter_5 14 rfl rfl)
theorem dX1_addLetter_130 : decode cX1_addLetter 130 = .ok (.invokeinterface 433 2, 5) := by decide +kernel
theorem dX1_addLetter_135 : decode cX1_addLetter 135 = .ok (.pop, 1) := dk_87 (dk_at dksX1_addLetter_5 21 rfl rfl)
theorem dX1_addLetter_136 : decode cX1_addLetter 136 = .ok (.aload 7, 2) := dk_25 7 (dk_at dksX1_addLetter_5 22 rfl rfl)
theorem dX1_addLetter_138 : decode cX1_addLetter 138 = .ok (.getfield 119, 3) := dk_180 0 119 (dk_at dksX1_addLetter_6 0 rfl rfl)
theorem dX1_addLetter_141 : decode cX1_addLetter 141 = .ok (.invokeinterface 123 1, 5) := by decide +kernel
theorem dX1_addLetter_146 : decode cX1_addLetter 146 = .ok (.iconst 1, 1) := dk_4 (dk_at dksX1_addLetter_6 8 rfl rfl)
theorem dX1_addLetter_147 : decode cX1_addLetter 147 = .ok (.isub, 1) := dk_100 (dk_at dksX1_addLetter_6 9 rfl rfl)
theorem dX1_addLetter_148 : decode cX1_addLetter 148 = .ok (.ireturn, 1) := dk_172 (dk_at dksX1_addLetter_6 10 rfl rfl)
abbrev cX1_setSum : ByteArray := prog_1_method_86_code
def yX1_setSum : MethodName := ⟨RX1, "setSum", "(II)I"⟩
def dkwX1_setSum_1 : List UInt8 := [180, 1, 63, 27, 46, 172]
abbrev dktX1_setSum_1 : List UInt8 := dkwX1_setSum_1 ++ []
def dkwX1_setSum_0 : List UInt8 := [42, 27, 182, 1, 59, 78, 28, 184, 1, 90, 184, 0, 221, 42, 182, 1, 165, 180, 1, 63, 27, 28, 79, 45]
abbrev dktX1_setSum_0 : List UInt8 := dkwX1_setSum_0 ++ dktX1_setSum_1
theorem dksX1_setSum_0 : cX1_setSum.data.toList.drop 0 = dktX1_setSum_0 := by decide +kernel
theorem dksX1_setSum_1 : cX1_setSum.data.toList.drop 24 = dktX1_setSum_1 := dk_seg dksX1_setSum_0 24 rfl rfl
theorem dX1_setSum_0 : decode cX1_setSum 0 = .ok (.aload_n 0, 1) := dk_42 (dk_at dksX1_setSum_0 0 rfl rfl)
theorem dX1_setSum_1 : decode cX1_setSum 1 = .ok (.iload_n 1, 1) := dk_27 (dk_at dksX1_setSum_0 1 rfl rfl)
theorem dX1_setSum_2 : decode cX1_setSum 2 = .ok (.invokevirtual 315, 3) := dk_182 1 59 (dk_at dksX1_setSum_0 2 rfl rfl)
theorem dX1_setSum_5 : decode cX1_setSum 5 = .ok (.astore_n 3, 1) := dk_78 (dk_at dksX1_setSum_0 5 rfl rfl)
theorem dX1_setSum_6 : decode cX1_setSum 6 = .ok (.iload_n 2, 1) := dk_28 (dk_at dksX1_setSum_0 6 rfl rfl)
theorem dX1_setSum_7 : decode cX1_setSum 7 = .ok (.invokestatic 346, 3) := dk_184 1 90 (dk_at dksX1_setSum_0 7 rfl rfl)
theorem dX1_setSum_10 : decode cX1_setSum 10 = .ok (.invokestatic 221, 3) := dk_184 0 221 (dk_at dksX1_setSum_0 10 rfl rfl)
theorem dX1_setSum_13 : decode cX1_setSum 13 = .ok (.aload_n 0, 1) := dk_42 (dk_at dksX1_setSum_0 13 rfl rfl)
theorem dX1_setSum_14 : decode cX1_setSum 14 = .ok (.invokevirtual 421, 3) := dk_182 1 165 (dk_at dksX1_setSum_0 14 rfl rfl)
theorem dX1_setSum_17 : decode cX1_setSum 17 = .ok (.getfield 319, 3) := dk_180 1 63 (dk_at dksX1_setSum_0 17 rfl rfl)
theorem dX1_setSum_20 : decode cX1_setSum 20 = .ok (.iload_n 1, 1) := dk_27 (dk_at dksX1_setSum_0 20 rfl rfl)
theorem dX1_setSum_21 : decode cX1_setSum 21 = .ok (.iload_n 2, 1) := dk_28 (dk_at dksX1_setSum_0 21 rfl rfl)
theorem dX1_setSum_22 : decode cX1_setSum 22 = .ok (.iastore, 1) := dk_79 (dk_at dksX1_setSum_0 22 rfl rfl)
theorem dX1_setSum_23 : decode cX1_setSum 23 = .ok (.aload_n 3, 1) := dk_45 (dk_at dksX1_setSum_0 23 rfl rfl)
theorem dX1_setSum_24 : decode cX1_setSum 24 = .ok (.getfield 319, 3) := dk_180 1 63 (dk_at dksX1_setSum_1 0 rfl rfl)
theorem dX1_setSum_27 : decode cX1_setSum 27 = .ok (.iload_n 1, 1) := dk_27 (dk_at dksX1_setSum_1 3 rfl rfl)
theorem dX1_setSum_28 : decode cX1_setSum 28 = .ok (.iaload, 1) := dk_46 (dk_at dksX1_setSum_1 4 rfl rfl)
theorem dX1_setSum_29 : decode cX1_setSum 29 = .ok (.ireturn, 1) := dk_172 (dk_at dksX1_setSum_1 5 rfl rfl)
abbrev cX1_move : ByteArray := prog_1_method_87_code
def yX1_move : MethodName := ⟨RX1, "move", "(II)I"⟩
def dkwX1_move_2 : List UInt8 := [27, 182, 0, 236, 180, 0, 240, 172]
abbrev dktX1_move_2 : List UInt8 := dkwX1_move_2 ++ []
def dkwX1_move_1 : List UInt8 := [154, 0, 7, 4, 167, 0, 4, 3, 184, 0, 221, 42, 182, 1, 165, 27, 182, 0, 236, 28, 181, 0, 240, 45]
abbrev dktX1_move_1 : List UInt8 := dkwX1_move_1 ++ dktX1_move_2
def dkwX1_move_0 : List UInt8 := [42, 27, 182, 0, 139, 78, 28, 3, 8, 184, 0, 73, 184, 0, 77, 45, 27, 182, 0, 236, 180, 0, 245]
abbrev dktX1_move_0 : List UInt8 := dkwX1_move_0 ++ dktX1_move_1
theorem dksX1_move_0 : cX1_move.data.toList.drop 0 = dktX1_move_0 := by decide +kernel
theorem dksX1_move_1 : cX1_move.data.toList.drop 23 = dktX1_move_1 := dk_seg dksX1_move_0 23 rfl rfl
theorem dksX1_move_2 : cX1_move.data.toList.drop 47 = dktX1_move_2 := dk_seg dksX1_move_1 24 rfl rfl
theorem dX1_move_0 : decode cX1_move 0 = .ok (.aload_n 0, 1) := dk_42 (dk_at dksX1_move_0 0 rfl rfl)
theorem dX1_move_1 : decode cX1_move 1 = .ok (.iload_n 1, 1) := dk_27 (dk_at dksX1_move_0 1 rfl rfl)
theorem dX1_move_2 : decode cX1_move 2 = .ok (.invokevirtual 139, 3) := dk_182 0 139 (dk_at dksX1_move_0 2 rfl rfl)
theorem dX1_move_5 : decode cX1_move 5 = .ok (.astore_n 3, 1) := dk_78 (dk_at dksX1_move_0 5 rfl rfl)
theorem dX1_move_6 : decode cX1_move 6 = .ok (.iload_n 2, 1) := dk_28 (dk_at dksX1_move_0 6 rfl rfl)
theorem dX1_move_7 : decode cX1_move 7 = .ok (.iconst 0, 1) := dk_3 (dk_at dksX1_move_0 7 rfl rfl)
theorem dX1_move_8 : decode cX1_move 8 = .ok (.iconst 5, 1) := dk_8 (dk_at dksX1_move_0 8 rfl rfl)
theorem dX1_move_9 : decode cX1_move 9 = .ok (.invokestatic 73, 3) := dk_184 0 73 (dk_at dksX1_move_0 9 rfl rfl)
theorem dX1_move_12 : decode cX1_move 12 = .ok (.invokestatic 77, 3) := dk_184 0 77 (dk_at dksX1_move_0 12 rfl rfl)
theorem dX1_move_15 : decode cX1_move 15 = .ok (.aload_n 3, 1) := dk_45 (dk_at dksX1_move_0 15 rfl rfl)
theorem dX1_move_16 : decode cX1_move 16 = .ok (.iload_n 1, 1) := dk_27 (dk_at dksX1_move_0 16 rfl rfl)
theorem dX1_move_17 : decode cX1_move 17 = .ok (.invokevirtual 236, 3) := dk_182 0 236 (dk_at dksX1_move_0 17 rfl rfl)
theorem dX1_move_20 : decode cX1_move 20 = .ok (.getfield 245, 3) := dk_180 0 245 (dk_at dksX1_move_0 20 rfl rfl)
theorem dX1_move_23 : decode cX1_move 23 = .ok (.ifCond .ne 7, 3) := dk_154 0 7 (dk_at dksX1_move_1 0 rfl rfl)
theorem dX1_move_26 : decode cX1_move 26 = .ok (.iconst 1, 1) := dk_4 (dk_at dksX1_move_1 3 rfl rfl)
theorem dX1_move_27 : decode cX1_move 27 = .ok (.goto 4, 3) := dk_167 0 4 (dk_at dksX1_move_1 4 rfl rfl)
theorem dX1_move_30 : decode cX1_move 30 = .ok (.iconst 0, 1) := dk_3 (dk_at dksX1_move_1 7 rfl rfl)
theorem dX1_move_31 : decode cX1_move 31 = .ok (.invokestatic 221, 3) := dk_184 0 221 (dk_at dksX1_move_1 8 rfl rfl)
theorem dX1_move_34 : decode cX1_move 34 = .ok (.aload_n 0, 1) := dk_42 (dk_at dksX1_move_1 11 rfl rfl)
theorem dX1_move_35 : decode cX1_move 35 = .ok (.invokevirtual 421, 3) := dk_182 1 165 (dk_at dksX1_move_1 12 rfl rfl)
theorem dX1_move_38 : decode cX1_move 38 = .ok (.iload_n 1, 1) := dk_27 (dk_at dksX1_move_1 15 rfl rfl)
theorem dX1_move_39 : decode cX1_move 39 = .ok (.invokevirtual 236, 3) := dk_182 0 236 (dk_at dksX1_move_1 16 rfl rfl)
theorem dX1_move_42 : decode cX1_move 42 = .ok (.iload_n 2, 1) := dk_28 (dk_at dksX1_move_1 19 rfl rfl)
theorem dX1_move_43 : decode cX1_move 43 = .ok (.putfield 240, 3) := dk_181 0 240 (dk_at dksX1_move_1 20 rfl rfl)
theorem dX1_move_46 : decode cX1_move 46 = .ok (.aload_n 3, 1) := dk_45 (dk_at dksX1_move_1 23 rfl rfl)
theorem dX1_move_47 : decode cX1_move 47 = .ok (.iload_n 1, 1) := dk_27 (dk_at dksX1_move_2 0 rfl rfl)
theorem dX1_move_48 : decode cX1_move 48 = .ok (.invokevirtual 236, 3) := dk_182 0 236 (dk_at dksX1_move_2 1 rfl rfl)
theorem dX1_move_51 : decode cX1_move 51 = .ok (.getfield 240, 3) := dk_180 0 240 (dk_at dksX1_move_2 4 rfl rfl)
theorem dX1_move_54 : decode cX1_move 54 = .ok (.ireturn, 1) := dk_172 (dk_at dksX1_move_2 7 rfl rfl)
abbrev cX1_setLimit : ByteArray := prog_1_method_88_code
def yX1_setLimit : MethodName := ⟨RX1, "setLimit", "(I)I"⟩
def dkwX1_setLimit_1 : List UInt8 := [180, 0, 164, 172]
abbrev dktX1_setLimit_1 : List UInt8 := dkwX1_setLimit_1 ++ []
def dkwX1_setLimit_0 : List UInt8 := [42, 182, 0, 135, 77, 27, 3, 16, 8, 184, 0, 73, 184, 0, 221, 42, 182, 1, 165, 27, 181, 0, 164, 44]
abbrev dktX1_setLimit_0 : List UInt8 := dkwX1_setLimit_0 ++ dktX1_setLimit_1
theorem dksX1_setLimit_0 : cX1_setLimit.data.toList.drop 0 = dktX1_setLimit_0 := by decide +kernel
theorem dksX1_setLimit_1 : cX1_setLimit.data.toList.drop 24 = dktX1_setLimit_1 := dk_seg dksX1_setLimit_0 24 rfl rfl
theorem dX1_setLimit_0 : decode cX1_setLimit 0 = .ok (.aload_n 0, 1) := dk_42 (dk_at dksX1_setLimit_0 0 rfl rfl)
theorem dX1_setLimit_1 : decode cX1_setLimit 1 = .ok (.invokevirtual 135, 3) := dk_182 0 135 (dk_at dksX1_setLimit_0 1 rfl rfl)
theorem dX1_setLimit_4 : decode cX1_setLimit 4 = .ok (.astore_n 2, 1) := dk_77 (dk_at dksX1_setLimit_0 4 rfl rfl)
theorem dX1_setLimit_5 : decode cX1_setLimit 5 = .ok (.iload_n 1, 1) := dk_27 (dk_at dksX1_setLimit_0 5 rfl rfl)
theorem dX1_setLimit_6 : decode cX1_setLimit 6 = .ok (.iconst 0, 1) := dk_3 (dk_at dksX1_setLimit_0 6 rfl rfl)
theorem dX1_setLimit_7 : decode cX1_setLimit 7 = .ok (.bipush 8, 2) := dk_16 8 (dk_at dksX1_setLimit_0 7 rfl rfl)
theorem dX1_setLimit_9 : decode cX1_setLimit 9 = .ok (.invokestatic 73, 3) := dk_184 0 73 (dk_at dksX1_setLimit_0 9 rfl rfl)
theorem dX1_setLimit_12 : decode cX1_setLimit 12 = .ok (.invokestatic 221, 3) := dk_184 0 221 (dk_at dksX1_setLimit_0 12 rfl rfl)
theorem dX1_setLimit_15 : decode cX1_setLimit 15 = .ok (.aload_n 0, 1) := dk_42 (dk_at dksX1_setLimit_0 15 rfl rfl)
theorem dX1_setLimit_16 : decode cX1_setLimit 16 = .ok (.invokevirtual 421, 3) := dk_182 1 165 (dk_at dksX1_setLimit_0 16 rfl rfl)
theorem dX1_setLimit_19 : decode cX1_setLimit 19 = .ok (.iload_n 1, 1) := dk_27 (dk_at dksX1_setLimit_0 19 rfl rfl)
theorem dX1_setLimit_20 : decode cX1_setLimit 20 = .ok (.putfield 164, 3) := dk_181 0 164 (dk_at dksX1_setLimit_0 20 rfl rfl)
theorem dX1_setLimit_23 : decode cX1_setLimit 23 = .ok (.aload_n 2, 1) := dk_44 (dk_at dksX1_setLimit_0 23 rfl rfl)
theorem dX1_setLimit_24 : decode cX1_setLimit 24 = .ok (.getfield 164, 3) := dk_180 0 164 (dk_at dksX1_setLimit_1 0 rfl rfl)
theorem dX1_setLimit_27 : decode cX1_setLimit 27 = .ok (.ireturn, 1) := dk_172 (dk_at dksX1_setLimit_1 3 rfl rfl)
abbrev cX1_turnRoute : ByteArray := prog_1_method_89_code
def yX1_turnRoute : MethodName := ⟨RX1, "turnRoute", "(I)I"⟩
def dkwX1_turnRoute_2 : List UInt8 := [184, 0, 147, 172]
abbrev dktX1_turnRoute_2 : List UInt8 := dkwX1_turnRoute_2 ++ []
def dkwX1_turnRoute_1 : List UInt8 := [154, 0, 7, 4, 167, 0, 4, 3, 84, 45, 180, 0, 160, 27, 51, 154, 0, 7, 4, 167, 0, 4, 3]
abbrev dktX1_turnRoute_1 : List UInt8 := dkwX1_turnRoute_1 ++ dktX1_turnRoute_2
def dkwX1_turnRoute_0 : List UInt8 := [42, 27, 182, 1, 70, 77, 42, 182, 1, 165, 78, 45, 180, 0, 160, 27, 44, 180, 0, 160, 27, 51]
abbrev dktX1_turnRoute_0 : List UInt8 := dkwX1_turnRoute_0 ++ dktX1_turnRoute_1
theorem dksX1_turnRoute_0 : cX1_turnRoute.data.toList.drop 0 = dktX1_turnRoute_0 := by decide +kernel
theorem dksX1_turnRoute_1 : cX1_turnRoute.data.toList.drop 22 = dktX1_turnRoute_1 := dk_seg dksX1_turnRoute_0 22 rfl rfl
theorem dksX1_turnRoute_2 : cX1_turnRoute.data.toList.drop 45 = dktX1_turnRoute_2 := dk_seg dksX1_turnRoute_1 23 rfl rfl
theorem dX1_turnRoute_0 : decode cX1_turnRoute 0 = .ok (.aload_n 0, 1) := dk_42 (dk_at dksX1_turnRoute_0 0 rfl rfl)
theorem dX1_turnRoute_1 : decode cX1_turnRoute 1 = .ok (.iload_n 1, 1) := dk_27 (dk_at dksX1_turnRoute_0 1 rfl rfl)
theorem dX1_turnRoute_2 : decode cX1_turnRoute 2 = .ok (.invokevirtual 326, 3) := dk_182 1 70 (dk_at dksX1_turnRoute_0 2 rfl rfl)
theorem dX1_turnRoute_5 : decode cX1_turnRoute 5 = .ok (.astore_n 2, 1) := dk_77 (dk_at dksX1_turnRoute_0 5 rfl rfl)
theorem dX1_turnRoute_6 : decode cX1_turnRoute 6 = .ok (.aload_n 0, 1) := dk_42 (dk_at dksX1_turnRoute_0 6 rfl rfl)
theorem dX1_turnRoute_7 : decode cX1_turnRoute 7 = .ok (.invokevirtual 421, 3) := dk_182 1 165 (dk_at dksX1_turnRoute_0 7 rfl rfl)
theorem dX1_turnRoute_10 : decode cX1_turnRoute 10 = .ok (.astore_n 3, 1) := dk_78 (dk_at dksX1_turnRoute_0 10 rfl rfl)
theorem dX1_turnRoute_11 : decode cX1_turnRoute 11 = .ok (.aload_n 3, 1) := dk_45 (dk_at dksX1_turnRoute_0 11 rfl rfl)
theorem dX1_turnRoute_12 : decode cX1_turnRoute 12 = .ok (.getfield 160, 3) := dk_180 0 160 (dk_at dksX1_turnRoute_0 12 rfl rfl)
theorem dX1_turnRoute_15 : decode cX1_turnRoute 15 = .ok (.iload_n 1, 1) := dk_27 (dk_at dksX1_turnRoute_0 15 rfl rfl)
theorem dX1_turnRoute_16 : decode cX1_turnRoute 16 = .ok (.aload_n 2, 1) := dk_44 (dk_at dksX1_turnRoute_0 16 rfl rfl)
theorem dX1_turnRoute_17 : decode cX1_turnRoute 17 = .ok (.getfield 160, 3) := dk_180 0 160 (dk_at dksX1_turnRoute_0 17 rfl rfl)
theorem dX1_turnRoute_20 : decode cX1_turnRoute 20 = .ok (.iload_n 1, 1) := dk_27 (dk_at dksX1_turnRoute_0 20 rfl rfl)
theorem dX1_turnRoute_21 : decode cX1_turnRoute 21 = .ok (.baload, 1) := dk_51 (dk_at dksX1_turnRoute_0 21 rfl rfl)
theorem dX1_turnRoute_22 : decode cX1_turnRoute 22 = .ok (.ifCond .ne 7, 3) := dk_154 0 7 (dk_at dksX1_turnRoute_1 0 rfl rfl)
theorem dX1_turnRoute_25 : decode cX1_turnRoute 25 = .ok (.iconst 1, 1) := dk_4 (dk_at dksX1_turnRoute_1 3 rfl rfl)
theorem dX1_turnRoute_26 : decode cX1_turnRoute 26 = .ok (.goto 4, 3) := dk_167 0 4 (dk_at dksX1_turnRoute_1 4 rfl rfl)
theorem dX1_turnRoute_29 : decode cX1_turnRoute 29 = .ok (.iconst 0, 1) := dk_3 (dk_at dksX1_turnRoute_1 7 rfl rfl)
theorem dX1_turnRoute_30 : decode cX1_turnRoute 30 = .ok (.bastore, 1) := dk_84 (dk_at dksX1_turnRoute_1 8 rfl rfl)
theorem dX1_turnRoute_31 : decode cX1_turnRoute 31 = .ok (.aload_n 3, 1) := dk_45 (dk_at dksX1_turnRoute_1 9 rfl rfl)
theorem dX1_turnRoute_32 : decode cX1_turnRoute 32 = .ok (.getfield 160, 3) := dk_180 0 160 (dk_at dksX1_turnRoute_1 10 rfl rfl)
theorem dX1_turnRoute_35 : decode cX1_turnRoute 35 = .ok (.iload_n 1, 1) := dk_27 (dk_at dksX1_turnRoute_1 13 rfl rfl)
theorem dX1_turnRoute_36 : decode cX1_turnRoute 36 = .ok (.baload, 1) := dk_51 (dk_at dksX1_turnRoute_1 14 rfl rfl)
theorem dX1_turnRoute_37 : decode cX1_turnRoute 37 = .ok (.ifCond .ne 7, 3) := dk_154 0 7 (dk_at dksX1_turnRoute_1 15 rfl rfl)
theorem dX1_turnRoute_40 : decode cX1_turnRoute 40 = .ok (.iconst 1, 1) := dk_4 (dk_at dksX1_turnRoute_1 18 rfl rfl)
theorem dX1_turnRoute_41 : decode cX1_turnRoute 41 = .ok (.goto 4, 3) := dk_167 0 4 (dk_at dksX1_turnRoute_1 19 rfl rfl)
theorem dX1_turnRoute_44 : decode cX1_turnRoute 44 = .ok (.iconst 0, 1) := dk_3 (dk_at dksX1_turnRoute_1 22 rfl rfl)
theorem dX1_turnRoute_45 : decode cX1_turnRoute 45 = .ok (.invokestatic 147, 3) := dk_184 0 147 (dk_at dksX1_turnRoute_2 0 rfl rfl)
theorem dX1_turnRoute_48 : decode cX1_turnRoute 48 = .ok (.ireturn, 1) := dk_172 (dk_at dksX1_turnRoute_2 3 rfl rfl)
abbrev cX1_undo : ByteArray := prog_1_method_90_code
def yX1_undo : MethodName := ⟨RX1, "undo", "()I"⟩
def dkwX1_undo_1 : List UInt8 := [180, 0, 42, 185, 1, 185, 1, 0, 192, 0, 46, 181, 0, 90, 42, 180, 0, 42, 185, 1, 156, 1, 0, 172]
abbrev dktX1_undo_1 : List UInt8 := dkwX1_undo_1 ++ []
def dkwX1_undo_0 : List UInt8 := [42, 180, 0, 42, 185, 1, 181, 1, 0, 153, 0, 11, 187, 0, 132, 89, 183, 0, 134, 191, 42, 42]
abbrev dktX1_undo_0 : List UInt8 := dkwX1_undo_0 ++ dktX1_undo_1
theorem dksX1_undo_0 : cX1_undo.data.toList.drop 0 = dktX1_undo_0 := by decide +kernel
theorem dksX1_undo_1 : cX1_undo.data.toList.drop 22 = dktX1_undo_1 := dk_seg dksX1_undo_0 22 rfl rfl
theorem dX1_undo_0 : decode cX1_undo 0 = .ok (.aload_n 0, 1) := dk_42 (dk_at dksX1_undo_0 0 rfl rfl)
theorem dX1_undo_1 : decode cX1_undo 1 = .ok (.getfield 42, 3) := dk_180 0 42 (dk_at dksX1_undo_0 1 rfl rfl)
theorem dX1_undo_4 : decode cX1_undo 4 = .ok (.invokeinterface 437 1, 5) := by decide +kernel
theorem dX1_undo_9 : decode cX1_undo 9 = .ok (.ifCond .eq 11, 3) := dk_153 0 11 (dk_at dksX1_undo_0 9 rfl rfl)
theorem dX1_undo_12 : decode cX1_undo 12 = .ok (.new 132, 3) := dk_187 0 132 (dk_at dksX1_undo_0 12 rfl rfl)
theorem dX1_undo_15 : decode cX1_undo 15 = .ok (.dup, 1) := dk_89 (dk_at dksX1_undo_0 15 rfl rfl)
theorem dX1_undo_16 : decode cX1_undo 16 = .ok (.invokespecial 134, 3) := dk_183 0 134 (dk_at dksX1_undo_0 16 rfl rfl)
theorem dX1_undo_19 : decode cX1_undo 19 = .ok (.athrow, 1) := dk_191 (dk_at dksX1_undo_0 19 rfl rfl)
theorem dX1_undo_20 : decode cX1_undo 20 = .ok (.aload_n 0, 1) := dk_42 (dk_at dksX1_undo_0 20 rfl rfl)
theorem dX1_undo_21 : decode cX1_undo 21 = .ok (.aload_n 0, 1) := dk_42 (dk_at dksX1_undo_0 21 rfl rfl)
theorem dX1_undo_22 : decode cX1_undo 22 = .ok (.getfield 42, 3) := dk_180 0 42 (dk_at dksX1_undo_1 0 rfl rfl)
theorem dX1_undo_25 : decode cX1_undo 25 = .ok (.invokeinterface 441 1, 5) := by decide +kernel
theorem dX1_undo_30 : decode cX1_undo 30 = .ok (.checkcast 46, 3) := dk_192 0 46 (dk_at dksX1_undo_1 8 rfl rfl)
theorem dX1_undo_33 : decode cX1_undo 33 = .ok (.putfield 90, 3) := dk_181 0 90 (dk_at dksX1_undo_1 11 rfl rfl)
theorem dX1_undo_36 : decode cX1_undo 36 = .ok (.aload_n 0, 1) := dk_42 (dk_at dksX1_undo_1 14 rfl rfl)
theorem dX1_undo_37 : decode cX1_undo 37 = .ok (.getfield 42, 3) := dk_180 0 42 (dk_at dksX1_undo_1 15 rfl rfl)
theorem dX1_undo_40 : decode cX1_undo 40 = .ok (.invokeinterface 412 1, 5) := by decide +kernel
theorem dX1_undo_45 : decode cX1_undo 45 = .ok (.ireturn, 1) := dk_172 (dk_at dksX1_undo_1 23 rfl rfl)
abbrev cX1_save : ByteArray := prog_1_method_92_code
def yX1_save : MethodName := ⟨RX1, "save", "(I)I"⟩
def dkwX1_save_1 : List UInt8 := [183, 1, 97, 83, 44, 3, 182, 0, 170, 172]
abbrev dktX1_save_1 : List UInt8 := dkwX1_save_1 ++ []
def dkwX1_save_0 : List UInt8 := [42, 182, 0, 135, 77, 27, 3, 4, 184, 0, 73, 184, 0, 77, 42, 180, 0, 48, 27, 187, 0, 46, 89, 44]
abbrev dktX1_save_0 : List UInt8 := dkwX1_save_0 ++ dktX1_save_1
theorem dksX1_save_0 : cX1_save.data.toList.drop 0 = dktX1_save_0 := by decide +kernel
theorem dksX1_save_1 : cX1_save.data.toList.drop 24 = dktX1_save_1 := dk_seg dksX1_save_0 24 rfl rfl
theorem dX1_save_0 : decode cX1_save 0 = .ok (.aload_n 0, 1) := dk_42 (dk_at dksX1_save_0 0 rfl rfl)
theorem dX1_save_1 : decode cX1_save 1 = .ok (.invokevirtual 135, 3) := dk_182 0 135 (dk_at dksX1_save_0 1 rfl rfl)
theorem dX1_save_4 : decode cX1_save 4 = .ok (.astore_n 2, 1) := dk_77 (dk_at dksX1_save_0 4 rfl rfl)
theorem dX1_save_5 : decode cX1_save 5 = .ok (.iload_n 1, 1) := dk_27 (dk_at dksX1_save_0 5 rfl rfl)
theorem dX1_save_6 : decode cX1_save 6 = .ok (.iconst 0, 1) := dk_3 (dk_at dksX1_save_0 6 rfl rfl)
theorem dX1_save_7 : decode cX1_save 7 = .ok (.iconst 1, 1) := dk_4 (dk_at dksX1_save_0 7 rfl rfl)
theorem dX1_save_8 : decode cX1_save 8 = .ok (.invokestatic 73, 3) := dk_184 0 73 (dk_at dksX1_save_0 8 rfl rfl)
theorem dX1_save_11 : decode cX1_save 11 = .ok (.invokestatic 77, 3) := dk_184 0 77 (dk_at dksX1_save_0 11 rfl rfl)
theorem dX1_save_14 : decode cX1_save 14 = .ok (.aload_n 0, 1) := dk_42 (dk_at dksX1_save_0 14 rfl rfl)
theorem dX1_save_15 : decode cX1_save 15 = .ok (.getfield 48, 3) := dk_180 0 48 (dk_at dksX1_save_0 15 rfl rfl)
theorem dX1_save_18 : decode cX1_save 18 = .ok (.iload_n 1, 1) := dk_27 (dk_at dksX1_save_0 18 rfl rfl)
theorem dX1_save_19 : decode cX1_save 19 = .ok (.new 46, 3) := dk_187 0 46 (dk_at dksX1_save_0 19 rfl rfl)
theorem dX1_save_22 : decode cX1_save 22 = .ok (.dup, 1) := dk_89 (dk_at dksX1_save_0 22 rfl rfl)
theorem dX1_save_23 : decode cX1_save 23 = .ok (.aload_n 2, 1) := dk_44 (dk_at dksX1_save_0 23 rfl rfl)
theorem dX1_save_24 : decode cX1_save 24 = .ok (.invokespecial 353, 3) := dk_183 1 97 (dk_at dksX1_save_1 0 rfl rfl)
theorem dX1_save_27 : decode cX1_save 27 = .ok (.aastore, 1) := dk_83 (dk_at dksX1_save_1 3 rfl rfl)
theorem dX1_save_28 : decode cX1_save 28 = .ok (.aload_n 2, 1) := dk_44 (dk_at dksX1_save_1 4 rfl rfl)
theorem dX1_save_29 : decode cX1_save 29 = .ok (.iconst 0, 1) := dk_3 (dk_at dksX1_save_1 5 rfl rfl)
theorem dX1_save_30 : decode cX1_save 30 = .ok (.invokevirtual 170, 3) := dk_182 0 170 (dk_at dksX1_save_1 6 rfl rfl)
theorem dX1_save_33 : decode cX1_save 33 = .ok (.ireturn, 1) := dk_172 (dk_at dksX1_save_1 9 rfl rfl)
abbrev cX1_restore : ByteArray := prog_1_method_93_code
def yX1_restore : MethodName := ⟨RX1, "restore", "(I)I"⟩
def dkwX1_restore_2 : List UInt8 := [180, 0, 42, 185, 0, 108, 1, 0, 42, 180, 0, 90, 3, 182, 0, 170, 172]
abbrev dktX1_restore_2 : List UInt8 := dkwX1_restore_2 ++ []
def dkwX1_restore_1 : List UInt8 := [183, 0, 134, 191, 42, 187, 0, 46, 89, 42, 180, 0, 48, 27, 50, 183, 1, 97, 181, 0, 90, 42]
abbrev dktX1_restore_1 : List UInt8 := dkwX1_restore_1 ++ dktX1_restore_2
def dkwX1_restore_0 : List UInt8 := [27, 3, 4, 184, 0, 73, 184, 0, 77, 42, 180, 0, 48, 27, 50, 199, 0, 11, 187, 0, 132, 89]
abbrev dktX1_restore_0 : List UInt8 := dkwX1_restore_0 ++ dktX1_restore_1
theorem dksX1_restore_0 : cX1_restore.data.toList.drop 0 = dktX1_restore_0 := by decide +kernel
theorem dksX1_restore_1 : cX1_restore.data.toList.drop 22 = dktX1_restore_1 := dk_seg dksX1_restore_0 22 rfl rfl
theorem dksX1_restore_2 : cX1_restore.data.toList.drop 44 = dktX1_restore_2 := dk_seg dksX1_restore_1 22 rfl rfl
theorem dX1_restore_0 : decode cX1_restore 0 = .ok (.iload_n 1, 1) := dk_27 (dk_at dksX1_restore_0 0 rfl rfl)
theorem dX1_restore_1 : decode cX1_restore 1 = .ok (.iconst 0, 1) := dk_3 (dk_at dksX1_restore_0 1 rfl rfl)
theorem dX1_restore_2 : decode cX1_restore 2 = .ok (.iconst 1, 1) := dk_4 (dk_at dksX1_restore_0 2 rfl rfl)
theorem dX1_restore_3 : decode cX1_restore 3 = .ok (.invokestatic 73, 3) := dk_184 0 73 (dk_at dksX1_restore_0 3 rfl rfl)
theorem dX1_restore_6 : decode cX1_restore 6 = .ok (.invokestatic 77, 3) := dk_184 0 77 (dk_at dksX1_restore_0 6 rfl rfl)
theorem dX1_restore_9 : decode cX1_restore 9 = .ok (.aload_n 0, 1) := dk_42 (dk_at dksX1_restore_0 9 rfl rfl)
theorem dX1_restore_10 : decode cX1_restore 10 = .ok (.getfield 48, 3) := dk_180 0 48 (dk_at dksX1_restore_0 10 rfl rfl)
theorem dX1_restore_13 : decode cX1_restore 13 = .ok (.iload_n 1, 1) := dk_27 (dk_at dksX1_restore_0 13 rfl rfl)
theorem dX1_restore_14 : decode cX1_restore 14 = .ok (.aaload, 1) := dk_50 (dk_at dksX1_restore_0 14 rfl rfl)
theorem dX1_restore_15 : decode cX1_restore 15 = .ok (.ifnonnull 11, 3) := dk_199 0 11 (dk_at dksX1_restore_0 15 rfl rfl)
theorem dX1_restore_18 : decode cX1_restore 18 = .ok (.new 132, 3) := dk_187 0 132 (dk_at dksX1_restore_0 18 rfl rfl)
theorem dX1_restore_21 : decode cX1_restore 21 = .ok (.dup, 1) := dk_89 (dk_at dksX1_restore_0 21 rfl rfl)
theorem dX1_restore_22 : decode cX1_restore 22 = .ok (.invokespecial 134, 3) := dk_183 0 134 (dk_at dksX1_restore_1 0 rfl rfl)
theorem dX1_restore_25 : decode cX1_restore 25 = .ok (.athrow, 1) := dk_191 (dk_at dksX1_restore_1 3 rfl rfl)
theorem dX1_restore_26 : decode cX1_restore 26 = .ok (.aload_n 0, 1) := dk_42 (dk_at dksX1_restore_1 4 rfl rfl)
theorem dX1_restore_27 : decode cX1_restore 27 = .ok (.new 46, 3) := dk_187 0 46 (dk_at dksX1_restore_1 5 rfl rfl)
theorem dX1_restore_30 : decode cX1_restore 30 = .ok (.dup, 1) := dk_89 (dk_at dksX1_restore_1 8 rfl rfl)
theorem dX1_restore_31 : decode cX1_restore 31 = .ok (.aload_n 0, 1) := dk_42 (dk_at dksX1_restore_1 9 rfl rfl)
theorem dX1_restore_32 : decode cX1_restore 32 = .ok (.getfield 48, 3) := dk_180 0 48 (dk_at dksX1_restore_1 10 rfl rfl)
theorem dX1_restore_35 : decode cX1_restore 35 = .ok (.iload_n 1, 1) := dk_27 (dk_at dksX1_restore_1 13 rfl rfl)
theorem dX1_restore_36 : decode cX1_restore 36 = .ok (.aaload, 1) := dk_50 (dk_at dksX1_restore_1 14 rfl rfl)
theorem dX1_restore_37 : decode cX1_restore 37 = .ok (.invokespecial 353, 3) := dk_183 1 97 (dk_at dksX1_restore_1 15 rfl rfl)
theorem dX1_restore_40 : decode cX1_restore 40 = .ok (.putfield 90, 3) := dk_181 0 90 (dk_at dksX1_restore_1 18 rfl rfl)
theorem dX1_restore_43 : decode cX1_restore 43 = .ok (.aload_n 0, 1) := dk_42 (dk_at dksX1_restore_1 21 rfl rfl)
theorem dX1_restore_44 : decode cX1_restore 44 = .ok (.getfield 42, 3) := dk_180 0 42 (dk_at dksX1_restore_2 0 rfl rfl)
theorem dX1_restore_47 : decode cX1_restore 47 = .ok (.invokeinterface 108 1, 5) := by decide +kernel
theorem dX1_restore_52 : decode cX1_restore 52 = .ok (.aload_n 0, 1) := dk_42 (dk_at dksX1_restore_2 8 rfl rfl)
theorem dX1_restore_53 : decode cX1_restore 53 = .ok (.getfield 90, 3) := dk_180 0 90 (dk_at dksX1_restore_2 9 rfl rfl)
theorem dX1_restore_56 : decode cX1_restore 56 = .ok (.iconst 0, 1) := dk_3 (dk_at dksX1_restore_2 12 rfl rfl)
theorem dX1_restore_57 : decode cX1_restore 57 = .ok (.invokevirtual 170, 3) := dk_182 0 170 (dk_at dksX1_restore_2 13 rfl rfl)
theorem dX1_restore_60 : decode cX1_restore 60 = .ok (.ireturn, 1) := dk_172 (dk_at dksX1_restore_2 16 rfl rfl)
theorem q112 : (Jvm.Cond.initialized "BadCodes") ∈ lw_all := lw_g (lw_at lw_m1 1 rfl) rfl
theorem q151 : (Jvm.Cond.instantiable "BadCodes" (9 : Nat)) ∈ lw_all := lw_g (lw_at lw_m1 40 rfl) rfl
theorem q153 : (Jvm.Cond.instanceMethod ({ cls := "BadCodes", name := "<init>", desc := "()V" } : Jvm.MethodName)) ∈ lw_all := lw_g (lw_at lw_m1 42 rfl) rfl
theorem q154 : (Jvm.Cond.code ({ cls := "BadCodes", name := "<init>", desc := "()V" } : Jvm.MethodName) prog_1_method_8_code (1 : Nat) (Option.none : Option Jvm.ClassFile.FieldType)) ∈ lw_all := lw_g (lw_at lw_m1 43 rfl) rfl
theorem q155 : (Jvm.Cond.methodLink "BadCodes" (23 : Nat) ({ cls := "java/lang/Object", name := "<init>", desc := "()V" } : Jvm.MethodName)) ∈ lw_all := lw_g (lw_at lw_m1 44 rfl) rfl
theorem q158 : (Jvm.Cond.classLink "BadCodes" (37 : Nat) "java/util/ArrayDeque") ∈ lw_all := lw_g (lw_at lw_m1 47 rfl) rfl
theorem q160 : (Jvm.Cond.methodLink "BadCodes" (39 : Nat) ({ cls := "java/util/ArrayDeque", name := "<init>", desc := "(I)V" } : Jvm.MethodName)) ∈ lw_all := lw_g (lw_at lw_m1 49 rfl) rfl
theorem q181 : (Jvm.Cond.classLink "BadCodes" (46 : Nat) "BadCodes$Office") ∈ lw_all := lw_g (lw_at lw_m1 70 rfl) rfl
theorem q183 : (Jvm.Cond.stringRef "BadCodes" (52 : Nat) "") ∈ lw_tbl := lw_at lw_m1 72 rfl
theorem q184 : (Jvm.Cond.privateMethod ({ cls := "BadCodes", name := "lambda$new$0", desc := "(I)Z" } : Jvm.MethodName)) ∈ lw_tbl := lw_at lw_m1 73 rfl
theorem q185 : (Jvm.Cond.instanceMethod ({ cls := "BadCodes", name := "lambda$new$0", desc := "(I)Z" } : Jvm.MethodName)) ∈ lw_all := lw_g (lw_at lw_m1 74 rfl) rfl
theorem q186 : (Jvm.Cond.code ({ cls := "BadCodes", name := "lambda$new$0", desc := "(I)Z" } : Jvm.MethodName) prog_1_method_105_code (2 : Nat) (Option.some Jvm.ClassFile.FieldType.boolean)) ∈ lw_all := lw_g (lw_at lw_m1 75 rfl) rfl
theorem q187 : (Jvm.Cond.methodLink "BadCodes" (236 : Nat) ({ cls := "BadCodes$Office", name := "letter", desc := "(I)LBadCodes$Letter;" } : Jvm.MethodName)) ∈ lw_all := lw_g (lw_at lw_m1 76 rfl) rfl
theorem q213 : (Jvm.Cond.fieldLink "BadCodes" (29 : Nat) "BadCodes" "buffer" "[B") ∈ lw_all := lw_g (lw_at lw_m1 102 rfl) rfl
theorem q215 : (Jvm.Cond.fieldLink "BadCodes" (66 : Nat) "BadCodes" "buffered" "I") ∈ lw_all := lw_g (lw_at lw_m1 104 rfl) rfl
theorem q217 : (Jvm.Cond.fieldLink "BadCodes" (99 : Nat) "BadCodes" "parseError" "I") ∈ lw_all := lw_g (lw_at lw_m1 106 rfl) rfl
theorem q219 : (Jvm.Cond.fieldLink "BadCodes" (33 : Nat) "BadCodes" "errorPosition" "I") ∈ lw_all := lw_g (lw_at lw_m1 108 rfl) rfl
theorem q220 : (Jvm.Cond.fieldLink "BadCodes" (90 : Nat) "BadCodes" "now" "LBadCodes$Office;") ∈ lw_all := lw_g (lw_at lw_m1 109 rfl) rfl
theorem q221 : (Jvm.Cond.fieldLink "BadCodes" (42 : Nat) "BadCodes" "undos" "Ljava/util/Deque;") ∈ lw_all := lw_g (lw_at lw_m1 110 rfl) rfl
theorem q222 : (Jvm.Cond.fieldLink "BadCodes" (48 : Nat) "BadCodes" "saved" "[LBadCodes$Office;") ∈ lw_all := lw_g (lw_at lw_m1 111 rfl) rfl
theorem q223 : (Jvm.Cond.fieldLink "BadCodes" (54 : Nat) "BadCodes" "written" "Ljava/lang/String;") ∈ lw_all := lw_g (lw_at lw_m1 112 rfl) rfl
theorem q224 : (Jvm.Cond.fieldLink "BadCodes" (62 : Nat) "BadCodes" "waits" "LBadCodes$Test;") ∈ lw_all := lw_g (lw_at lw_m1 113 rfl) rfl
theorem q225 : (Jvm.Cond.laysFinal "BadCodes" "BadCodes" "buffer" "[B") ∈ lw_all := lw_g (lw_at lw_m1 114 rfl) rfl
theorem q226 : (Jvm.Cond.soleField "BadCodes" "buffer") ∈ lw_all := lw_g (lw_at lw_m1 115 rfl) rfl
theorem q227 : (Jvm.Cond.lays "BadCodes" "BadCodes" "buffered" "I") ∈ lw_all := lw_g (lw_at lw_m1 116 rfl) rfl
theorem q228 : (Jvm.Cond.soleField "BadCodes" "buffered") ∈ lw_all := lw_g (lw_at lw_m1 117 rfl) rfl
theorem q229 : (Jvm.Cond.lays "BadCodes" "BadCodes" "parseError" "I") ∈ lw_all := lw_g (lw_at lw_m1 118 rfl) rfl
theorem q230 : (Jvm.Cond.soleField "BadCodes" "parseError") ∈ lw_all := lw_g (lw_at lw_m1 119 rfl) rfl
theorem q231 : (Jvm.Cond.lays "BadCodes" "BadCodes" "errorPosition" "I") ∈ lw_all := lw_g (lw_at lw_m1 120 rfl) rfl
theorem q232 : (Jvm.Cond.soleField "BadCodes" "errorPosition") ∈ lw_all := lw_g (lw_at lw_m1 121 rfl) rfl
theorem q233 : (Jvm.Cond.lays "BadCodes" "BadCodes" "now" "LBadCodes$Office;") ∈ lw_all := lw_g (lw_at lw_m1 122 rfl) rfl
theorem q234 : (Jvm.Cond.soleField "BadCodes" "now") ∈ lw_all := lw_g (lw_at lw_m1 123 rfl) rfl
theorem q235 : (Jvm.Cond.laysFinal "BadCodes" "BadCodes" "undos" "Ljava/util/Deque;") ∈ lw_all := lw_g (lw_at lw_m1 124 rfl) rfl
theorem q236 : (Jvm.Cond.soleField "BadCodes" "undos") ∈ lw_all := lw_g (lw_at lw_m1 125 rfl) rfl
theorem q237 : (Jvm.Cond.laysFinal "BadCodes" "BadCodes" "saved" "[LBadCodes$Office;") ∈ lw_all := lw_g (lw_at lw_m1 126 rfl) rfl
theorem q238 : (Jvm.Cond.soleField "BadCodes" "saved") ∈ lw_all := lw_g (lw_at lw_m1 127 rfl) rfl
theorem q239 : (Jvm.Cond.lays "BadCodes" "BadCodes" "written" "Ljava/lang/String;") ∈ lw_all := lw_g (lw_at lw_m1 128 rfl) rfl
theorem q240 : (Jvm.Cond.soleField "BadCodes" "written") ∈ lw_all := lw_g (lw_at lw_m1 129 rfl) rfl
theorem q241 : (Jvm.Cond.laysFinal "BadCodes" "BadCodes" "waits" "LBadCodes$Test;") ∈ lw_all := lw_g (lw_at lw_m1 130 rfl) rfl
theorem q242 : (Jvm.Cond.soleField "BadCodes" "waits") ∈ lw_all := lw_g (lw_at lw_m1 131 rfl) rfl
theorem q243 : (Jvm.Cond.superclass "BadCodes" "java/lang/Object") ∈ lw_all := lw_g (lw_at lw_m1 132 rfl) rfl
theorem q245 : (Jvm.Cond.instanceMethod ({ cls := "BadCodes", name := "append", desc := "(IIIII)I" } : Jvm.MethodName)) ∈ lw_all := lw_g (lw_at lw_m1 134 rfl) rfl
theorem q246 : (Jvm.Cond.selects "BadCodes" ({ cls := "BadCodes", name := "append", desc := "(IIIII)I" } : Jvm.MethodName) ({ cls := "BadCodes", name := "append", desc := "(IIIII)I" } : Jvm.MethodName)) ∈ lw_all := lw_g (lw_at lw_m1 135 rfl) rfl
theorem q247 : (Jvm.Cond.code ({ cls := "BadCodes", name := "append", desc := "(IIIII)I" } : Jvm.MethodName) prog_1_method_9_code (6 : Nat) (Option.some Jvm.ClassFile.FieldType.int)) ∈ lw_all := lw_g (lw_at lw_m1 136 rfl) rfl
theorem q248 : (Jvm.Cond.methodLink "BadCodes" (69 : Nat) ({ cls := "BadCodes", name := "puts", desc := "([I)V" } : Jvm.MethodName)) ∈ lw_all := lw_g (lw_at lw_m1 137 rfl) rfl
theorem q249 : (Jvm.Cond.privateMethod ({ cls := "BadCodes", name := "puts", desc := "([I)V" } : Jvm.MethodName)) ∈ lw_tbl := lw_at lw_m1 138 rfl
theorem q250 : (Jvm.Cond.instanceMethod ({ cls := "BadCodes", name := "puts", desc := "([I)V" } : Jvm.MethodName)) ∈ lw_all := lw_g (lw_at lw_m1 139 rfl) rfl
theorem q251 : (Jvm.Cond.code ({ cls := "BadCodes", name := "puts", desc := "([I)V" } : Jvm.MethodName) prog_1_method_10_code (7 : Nat) (Option.none : Option Jvm.ClassFile.FieldType)) ∈ lw_all := lw_g (lw_at lw_m1 140 rfl) rfl
theorem q254 : (Jvm.Cond.instanceMethod ({ cls := "BadCodes", name := "parseError", desc := "()I" } : Jvm.MethodName)) ∈ lw_all := lw_g (lw_at lw_m1 143 rfl) rfl
theorem q255 : (Jvm.Cond.selects "BadCodes" ({ cls := "BadCodes", name := "parseError", desc := "()I" } : Jvm.MethodName) ({ cls := "BadCodes", name := "parseError", desc := "()I" } : Jvm.MethodName)) ∈ lw_all := lw_g (lw_at lw_m1 144 rfl) rfl
theorem q256 : (Jvm.Cond.code ({ cls := "BadCodes", name := "parseError", desc := "()I" } : Jvm.MethodName) prog_1_method_12_code (1 : Nat) (Option.some Jvm.ClassFile.FieldType.int)) ∈ lw_all := lw_g (lw_at lw_m1 145 rfl) rfl
theorem q258 : (Jvm.Cond.instanceMethod ({ cls := "BadCodes", name := "errorPosition", desc := "()I" } : Jvm.MethodName)) ∈ lw_all := lw_g (lw_at lw_m1 147 rfl) rfl
theorem q259 : (Jvm.Cond.selects "BadCodes" ({ cls := "BadCodes", name := "errorPosition", desc := "()I" } : Jvm.MethodName) ({ cls := "BadCodes", name := "errorPosition", desc := "()I" } : Jvm.MethodName)) ∈ lw_all := lw_g (lw_at lw_m1 148 rfl) rfl
theorem q260 : (Jvm.Cond.code ({ cls := "BadCodes", name := "errorPosition", desc := "()I" } : Jvm.MethodName) prog_1_method_13_code (1 : Nat) (Option.some Jvm.ClassFile.FieldType.int)) ∈ lw_all := lw_g (lw_at lw_m1 149 rfl) rfl
theorem q262 : (Jvm.Cond.instanceMethod ({ cls := "BadCodes", name := "buffered", desc := "()I" } : Jvm.MethodName)) ∈ lw_all := lw_g (lw_at lw_m1 151 rfl) rfl
theorem q263 : (Jvm.Cond.selects "BadCodes" ({ cls := "BadCodes", name := "buffered", desc := "()I" } : Jvm.MethodName) ({ cls := "BadCodes", name := "buffered", desc := "()I" } : Jvm.MethodName)) ∈ lw_all := lw_g (lw_at lw_m1 152 rfl) rfl
theorem q264 : (Jvm.Cond.code ({ cls := "BadCodes", name := "buffered", desc := "()I" } : Jvm.MethodName) prog_1_method_14_code (1 : Nat) (Option.some Jvm.ClassFile.FieldType.int)) ∈ lw_all := lw_g (lw_at lw_m1 153 rfl) rfl
theorem q266 : (Jvm.Cond.instanceMethod ({ cls := "BadCodes", name := "undoable", desc := "()I" } : Jvm.MethodName)) ∈ lw_all := lw_g (lw_at lw_m1 155 rfl) rfl
theorem q267 : (Jvm.Cond.selects "BadCodes" ({ cls := "BadCodes", name := "undoable", desc := "()I" } : Jvm.MethodName) ({ cls := "BadCodes", name := "undoable", desc := "()I" } : Jvm.MethodName)) ∈ lw_all := lw_g (lw_at lw_m1 156 rfl) rfl
theorem q268 : (Jvm.Cond.code ({ cls := "BadCodes", name := "undoable", desc := "()I" } : Jvm.MethodName) prog_1_method_91_code (1 : Nat) (Option.some Jvm.ClassFile.FieldType.int)) ∈ lw_all := lw_g (lw_at lw_m1 157 rfl) rfl
theorem q269 : (Jvm.Cond.interfaceEntry "BadCodes" (412 : Nat)) ∈ lw_tbl := lw_at lw_m1 158 rfl
theorem q270 : (Jvm.Cond.methodLink "BadCodes" (412 : Nat) ({ cls := "java/util/Deque", name := "size", desc := "()I" } : Jvm.MethodName)) ∈ lw_all := lw_g (lw_at lw_m1 159 rfl) rfl
theorem q367 : (Jvm.Cond.instanceMethod ({ cls := "BadCodes", name := "load", desc := "(I)I" } : Jvm.MethodName)) ∈ lw_all := lw_g (lw_at lw_m2 16 rfl) rfl
theorem q368 : (Jvm.Cond.selects "BadCodes" ({ cls := "BadCodes", name := "load", desc := "(I)I" } : Jvm.MethodName) ({ cls := "BadCodes", name := "load", desc := "(I)I" } : Jvm.MethodName)) ∈ lw_all := lw_g (lw_at lw_m2 17 rfl) rfl
theorem q369 : (Jvm.Cond.codeWith ({ cls := "BadCodes", name := "load", desc := "(I)I" } : Jvm.MethodName) prog_1_method_11_code (3 : Nat) (Option.some Jvm.ClassFile.FieldType.int) [((12 : Nat), (28 : Nat), (31 : Nat), (94 : Nat))]) ∈ lw_all := lw_g (lw_at lw_m2 18 rfl) rfl
theorem q370 : (Jvm.Cond.classLink "BadCodes" (94 : Nat) "BadCodes$FormatException") ∈ lw_all := lw_g (lw_at lw_m2 19 rfl) rfl
theorem q371 : (Jvm.Cond.methodLink "BadCodes" (73 : Nat) ({ cls := "BadCodes", name := "in", desc := "(III)Z" } : Jvm.MethodName)) ∈ lw_all := lw_g (lw_at lw_m2 20 rfl) rfl
theorem q372 : (Jvm.Cond.static ({ cls := "BadCodes", name := "in", desc := "(III)Z" } : Jvm.MethodName)) ∈ lw_all := lw_g (lw_at lw_m2 21 rfl) rfl
theorem q373 : (Jvm.Cond.code ({ cls := "BadCodes", name := "in", desc := "(III)Z" } : Jvm.MethodName) prog_1_method_1_code (3 : Nat) (Option.some Jvm.ClassFile.FieldType.boolean)) ∈ lw_all := lw_g (lw_at lw_m2 22 rfl) rfl
theorem q374 : (Jvm.Cond.methodLink "BadCodes" (77 : Nat) ({ cls := "BadCodes", name := "checkIndex", desc := "(Z)V" } : Jvm.MethodName)) ∈ lw_all := lw_g (lw_at lw_m2 23 rfl) rfl
theorem q375 : (Jvm.Cond.static ({ cls := "BadCodes", name := "checkIndex", desc := "(Z)V" } : Jvm.MethodName)) ∈ lw_all := lw_g (lw_at lw_m2 24 rfl) rfl
theorem q376 : (Jvm.Cond.code ({ cls := "BadCodes", name := "checkIndex", desc := "(Z)V" } : Jvm.MethodName) prog_1_method_15_code (1 : Nat) (Option.none : Option Jvm.ClassFile.FieldType)) ∈ lw_all := lw_g (lw_at lw_m2 25 rfl) rfl
theorem q377 : (Jvm.Cond.classLink "BadCodes" (129 : Nat) "java/lang/IndexOutOfBoundsException") ∈ lw_all := lw_g (lw_at lw_m2 26 rfl) rfl
theorem q386 : (Jvm.Cond.methodLink "BadCodes" (131 : Nat) ({ cls := "java/lang/IndexOutOfBoundsException", name := "<init>", desc := "()V" } : Jvm.MethodName)) ∈ lw_all := lw_g (lw_at lw_m2 35 rfl) rfl
theorem q398 : (Jvm.Cond.classLink "BadCodes" (81 : Nat) "BadCodes$Parser") ∈ lw_all := lw_g (lw_at lw_m2 47 rfl) rfl
theorem q400 : (Jvm.Cond.methodLink "BadCodes" (83 : Nat) ({ cls := "BadCodes$Parser", name := "<init>", desc := "(LBadCodes;I)V" } : Jvm.MethodName)) ∈ lw_all := lw_g (lw_at lw_m2 49 rfl) rfl
theorem q435 : (Jvm.Cond.methodLink "BadCodes" (86 : Nat) ({ cls := "BadCodes$Parser", name := "office", desc := "()LBadCodes$Office;" } : Jvm.MethodName)) ∈ lw_all := lw_g (lw_at lw_m2 84 rfl) rfl
theorem q776 : (Jvm.Cond.fieldLinkNest "BadCodes" (96 : Nat) "BadCodes$FormatException" "kind" "I" "BadCodes") ∈ lw_tbl := lw_at lw_m3 185 rfl
theorem q778 : (Jvm.Cond.fieldLinkNest "BadCodes" (102 : Nat) "BadCodes$FormatException" "position" "I" "BadCodes") ∈ lw_tbl := lw_at lw_m3 187 rfl
theorem q832 : (Jvm.Cond.fieldLinkNest "BadCodes" (136 : Nat) "BadCodes$Office" "towns" "Ljava/util/List;" "BadCodes") ∈ lw_tbl := lw_at lw_m4 1 rfl
theorem q835 : (Jvm.Cond.fieldLinkNest "BadCodes" (119 : Nat) "BadCodes$Office" "letters" "Ljava/util/List;" "BadCodes") ∈ lw_tbl := lw_at lw_m4 4 rfl
theorem q838 : (Jvm.Cond.fieldLinkNest "BadCodes" (319 : Nat) "BadCodes$Office" "sums" "[I" "BadCodes") ∈ lw_tbl := lw_at lw_m4 7 rfl
theorem q840 : (Jvm.Cond.fieldLinkNest "BadCodes" (156 : Nat) "BadCodes$Office" "inBag" "[I" "BadCodes") ∈ lw_tbl := lw_at lw_m4 9 rfl
theorem q842 : (Jvm.Cond.fieldLinkNest "BadCodes" (329 : Nat) "BadCodes$Office" "sent" "[I" "BadCodes") ∈ lw_tbl := lw_at lw_m4 11 rfl
theorem q844 : (Jvm.Cond.fieldLinkNest "BadCodes" (332 : Nat) "BadCodes$Office" "sorted" "[I" "BadCodes") ∈ lw_tbl := lw_at lw_m4 13 rfl
theorem q847 : (Jvm.Cond.fieldLinkNest "BadCodes" (160 : Nat) "BadCodes$Office" "isClosed" "[Z" "BadCodes") ∈ lw_tbl := lw_at lw_m4 16 rfl
theorem q849 : (Jvm.Cond.fieldLinkNest "BadCodes" (164 : Nat) "BadCodes$Office" "limit" "I" "BadCodes") ∈ lw_tbl := lw_at lw_m4 18 rfl
theorem q851 : (Jvm.Cond.fieldLinkNest "BadCodes" (167 : Nat) "BadCodes$Office" "bag" "I" "BadCodes") ∈ lw_tbl := lw_at lw_m4 20 rfl
theorem q853 : (Jvm.Cond.fieldLinkNest "BadCodes" (189 : Nat) "BadCodes$Office" "readAgain" "I" "BadCodes") ∈ lw_tbl := lw_at lw_m4 22 rfl
theorem q977 : (Jvm.Cond.static ({ cls := "BadCodes", name := "check", desc := "(I)I" } : Jvm.MethodName)) ∈ lw_all := lw_g (lw_at lw_m4 146 rfl) rfl
theorem q978 : (Jvm.Cond.code ({ cls := "BadCodes", name := "check", desc := "(I)I" } : Jvm.MethodName) prog_1_method_5_code (3 : Nat) (Option.some Jvm.ClassFile.FieldType.int)) ∈ lw_all := lw_g (lw_at lw_m4 147 rfl) rfl
theorem q979 : (Jvm.Cond.methodLink "BadCodes" (3 : Nat) ({ cls := "BadCodes", name := "weight", desc := "(I)I" } : Jvm.MethodName)) ∈ lw_all := lw_g (lw_at lw_m4 148 rfl) rfl
theorem q980 : (Jvm.Cond.static ({ cls := "BadCodes", name := "weight", desc := "(I)I" } : Jvm.MethodName)) ∈ lw_all := lw_g (lw_at lw_m4 149 rfl) rfl
theorem q981 : (Jvm.Cond.code ({ cls := "BadCodes", name := "weight", desc := "(I)I" } : Jvm.MethodName) prog_1_method_3_code (1 : Nat) (Option.some Jvm.ClassFile.FieldType.int)) ∈ lw_all := lw_g (lw_at lw_m4 150 rfl) rfl
theorem q982 : (Jvm.Cond.methodLink "BadCodes" (7 : Nat) ({ cls := "BadCodes", name := "digitOf", desc := "(II)I" } : Jvm.MethodName)) ∈ lw_all := lw_g (lw_at lw_m4 151 rfl) rfl
theorem q983 : (Jvm.Cond.static ({ cls := "BadCodes", name := "digitOf", desc := "(II)I" } : Jvm.MethodName)) ∈ lw_all := lw_g (lw_at lw_m4 152 rfl) rfl
theorem q984 : (Jvm.Cond.code ({ cls := "BadCodes", name := "digitOf", desc := "(II)I" } : Jvm.MethodName) prog_1_method_4_code (4 : Nat) (Option.some Jvm.ClassFile.FieldType.int)) ∈ lw_all := lw_g (lw_at lw_m4 153 rfl) rfl
theorem q1032 : (Jvm.Cond.selects "BadCodes" ({ cls := "java/lang/Object", name := "getClass", desc := "()Ljava/lang/Class;" } : Jvm.MethodName) ({ cls := "java/lang/Object", name := "getClass", desc := "()Ljava/lang/Class;" } : Jvm.MethodName)) ∈ lw_all := lw_g (lw_at lw_m4 201 rfl) rfl
theorem q1072 : (Jvm.Cond.fieldLinkNest "BadCodes" (269 : Nat) "BadCodes$Letter" "read" "[I" "BadCodes") ∈ lw_tbl := lw_at lw_m5 1 rfl
theorem q1076 : (Jvm.Cond.fieldLinkNest "BadCodes" (240 : Nat) "BadCodes$Letter" "bundle" "I" "BadCodes") ∈ lw_tbl := lw_at lw_m5 5 rfl
theorem q1079 : (Jvm.Cond.fieldLinkNest "BadCodes" (245 : Nat) "BadCodes$Letter" "state" "I" "BadCodes") ∈ lw_tbl := lw_at lw_m5 8 rfl
theorem q1082 : (Jvm.Cond.fieldLinkNest "BadCodes" (248 : Nat) "BadCodes$Letter" "tries" "I" "BadCodes") ∈ lw_tbl := lw_at lw_m5 11 rfl
theorem q1085 : (Jvm.Cond.fieldLinkNest "BadCodes" (254 : Nat) "BadCodes$Letter" "cause" "I" "BadCodes") ∈ lw_tbl := lw_at lw_m5 14 rfl
theorem q1088 : (Jvm.Cond.fieldLinkNest "BadCodes" (257 : Nat) "BadCodes$Letter" "town" "I" "BadCodes") ∈ lw_tbl := lw_at lw_m5 17 rfl
theorem q1147 : (Jvm.Cond.static ({ cls := "BadCodes", name := "one", desc := "(Z)I" } : Jvm.MethodName)) ∈ lw_all := lw_g (lw_at lw_m5 76 rfl) rfl
theorem q1148 : (Jvm.Cond.code ({ cls := "BadCodes", name := "one", desc := "(Z)I" } : Jvm.MethodName) prog_1_method_2_code (1 : Nat) (Option.some Jvm.ClassFile.FieldType.int)) ∈ lw_all := lw_g (lw_at lw_m5 77 rfl) rfl
theorem q1171 : (Jvm.Cond.static ({ cls := "BadCodes", name := "cost", desc := "(II)I" } : Jvm.MethodName)) ∈ lw_all := lw_g (lw_at lw_m5 100 rfl) rfl
theorem q1172 : (Jvm.Cond.code ({ cls := "BadCodes", name := "cost", desc := "(II)I" } : Jvm.MethodName) prog_1_method_7_code (2 : Nat) (Option.some Jvm.ClassFile.FieldType.int)) ∈ lw_all := lw_g (lw_at lw_m5 101 rfl) rfl
theorem q1173 : (Jvm.Cond.methodLink "BadCodes" (19 : Nat) ({ cls := "BadCodes", name := "areAlike", desc := "(II)Z" } : Jvm.MethodName)) ∈ lw_all := lw_g (lw_at lw_m5 102 rfl) rfl
theorem q1174 : (Jvm.Cond.static ({ cls := "BadCodes", name := "areAlike", desc := "(II)Z" } : Jvm.MethodName)) ∈ lw_all := lw_g (lw_at lw_m5 103 rfl) rfl
theorem q1175 : (Jvm.Cond.code ({ cls := "BadCodes", name := "areAlike", desc := "(II)Z" } : Jvm.MethodName) prog_1_method_6_code (2 : Nat) (Option.some Jvm.ClassFile.FieldType.boolean)) ∈ lw_all := lw_g (lw_at lw_m5 104 rfl) rfl
theorem q1176 : (Jvm.Cond.methodLink "BadCodes" (11 : Nat) ({ cls := "java/lang/Math", name := "min", desc := "(II)I" } : Jvm.MethodName)) ∈ lw_all := lw_g (lw_at lw_m5 105 rfl) rfl
theorem q1177 : (Jvm.Cond.methodLink "BadCodes" (16 : Nat) ({ cls := "java/lang/Math", name := "max", desc := "(II)I" } : Jvm.MethodName)) ∈ lw_all := lw_g (lw_at lw_m5 106 rfl) rfl
theorem q1283 : (Jvm.Cond.classLink "BadCodes" (105 : Nat) "java/lang/IllegalArgumentException") ∈ lw_all := lw_g (lw_at lw_m5 212 rfl) rfl
theorem q1284 : (Jvm.Cond.methodLink "BadCodes" (107 : Nat) ({ cls := "java/lang/IllegalArgumentException", name := "<init>", desc := "()V" } : Jvm.MethodName)) ∈ lw_all := lw_g (lw_at lw_m5 213 rfl) rfl
theorem q1288 : (Jvm.Cond.interfaceEntry "BadCodes" (108 : Nat)) ∈ lw_tbl := lw_at lw_m5 217 rfl
theorem q1299 : (Jvm.Cond.methodLink "BadCodes" (113 : Nat) ({ cls := "java/util/Arrays", name := "fill", desc := "([Ljava/lang/Object;Ljava/lang/Object;)V" } : Jvm.MethodName)) ∈ lw_all := lw_g (lw_at lw_m5 228 rfl) rfl
theorem q1302 : (Jvm.Cond.interfaceEntry "BadCodes" (123 : Nat)) ∈ lw_tbl := lw_at lw_m5 231 rfl
theorem q1303 : (Jvm.Cond.methodLink "BadCodes" (123 : Nat) ({ cls := "java/util/List", name := "size", desc := "()I" } : Jvm.MethodName)) ∈ lw_all := lw_g (lw_at lw_m5 232 rfl) rfl
theorem q1309 : (Jvm.Cond.instanceMethod ({ cls := "BadCodes", name := "count", desc := "(I)I" } : Jvm.MethodName)) ∈ lw_all := lw_g (lw_at lw_m5 238 rfl) rfl
theorem q1310 : (Jvm.Cond.selects "BadCodes" ({ cls := "BadCodes", name := "count", desc := "(I)I" } : Jvm.MethodName) ({ cls := "BadCodes", name := "count", desc := "(I)I" } : Jvm.MethodName)) ∈ lw_all := lw_g (lw_at lw_m5 239 rfl) rfl
theorem q1311 : (Jvm.Cond.code ({ cls := "BadCodes", name := "count", desc := "(I)I" } : Jvm.MethodName) prog_1_method_28_code (3 : Nat) (Option.some Jvm.ClassFile.FieldType.int)) ∈ lw_all := lw_g (lw_at lw_m6 0 rfl) rfl
theorem q1312 : (Jvm.Cond.methodLink "BadCodes" (135 : Nat) ({ cls := "BadCodes", name := "office", desc := "()LBadCodes$Office;" } : Jvm.MethodName)) ∈ lw_all := lw_g (lw_at lw_m6 1 rfl) rfl
theorem q1313 : (Jvm.Cond.privateMethod ({ cls := "BadCodes", name := "office", desc := "()LBadCodes$Office;" } : Jvm.MethodName)) ∈ lw_tbl := lw_at lw_m6 2 rfl
theorem q1314 : (Jvm.Cond.instanceMethod ({ cls := "BadCodes", name := "office", desc := "()LBadCodes$Office;" } : Jvm.MethodName)) ∈ lw_all := lw_g (lw_at lw_m6 3 rfl) rfl
theorem q1315 : (Jvm.Cond.code ({ cls := "BadCodes", name := "office", desc := "()LBadCodes$Office;" } : Jvm.MethodName) prog_1_method_17_code (1 : Nat) (Option.some (Jvm.ClassFile.FieldType.object "BadCodes$Office"))) ∈ lw_all := lw_g (lw_at lw_m6 4 rfl) rfl
theorem q1316 : (Jvm.Cond.classLink "BadCodes" (132 : Nat) "java/lang/IllegalStateException") ∈ lw_all := lw_g (lw_at lw_m6 5 rfl) rfl
theorem q1325 : (Jvm.Cond.methodLink "BadCodes" (134 : Nat) ({ cls := "java/lang/IllegalStateException", name := "<init>", desc := "()V" } : Jvm.MethodName)) ∈ lw_all := lw_g (lw_at lw_m6 14 rfl) rfl
theorem q1331 : (Jvm.Cond.methodLink "BadCodes" (170 : Nat) ({ cls := "BadCodes$Office", name := "inState", desc := "(I)I" } : Jvm.MethodName)) ∈ lw_all := lw_g (lw_at lw_m6 20 rfl) rfl
theorem q1335 : (Jvm.Cond.classLink "BadCodes" (152 : Nat) "BadCodes$Test") ∈ lw_all := lw_g (lw_at lw_m6 24 rfl) rfl
theorem q1337 : (Jvm.Cond.static ({ cls := "BadCodes", name := "lambda$count$1", desc := "(LBadCodes$Office;I)Z" } : Jvm.MethodName)) ∈ lw_all := lw_g (lw_at lw_m6 26 rfl) rfl
theorem q1338 : (Jvm.Cond.code ({ cls := "BadCodes", name := "lambda$count$1", desc := "(LBadCodes$Office;I)Z" } : Jvm.MethodName) prog_1_method_104_code (2 : Nat) (Option.some Jvm.ClassFile.FieldType.boolean)) ∈ lw_all := lw_g (lw_at lw_m6 27 rfl) rfl
theorem q1339 : (Jvm.Cond.methodLink "BadCodes" (278 : Nat) ({ cls := "BadCodes$Office", name := "decided", desc := "(I)I" } : Jvm.MethodName)) ∈ lw_all := lw_g (lw_at lw_m6 28 rfl) rfl
theorem q1340 : (Jvm.Cond.methodLink "BadCodes" (176 : Nat) ({ cls := "BadCodes", name := "many", desc := "([LBadCodes$Test;)I" } : Jvm.MethodName)) ∈ lw_all := lw_g (lw_at lw_m6 29 rfl) rfl
theorem q1341 : (Jvm.Cond.privateMethod ({ cls := "BadCodes", name := "many", desc := "([LBadCodes$Test;)I" } : Jvm.MethodName)) ∈ lw_tbl := lw_at lw_m6 30 rfl
theorem q1342 : (Jvm.Cond.instanceMethod ({ cls := "BadCodes", name := "many", desc := "([LBadCodes$Test;)I" } : Jvm.MethodName)) ∈ lw_all := lw_g (lw_at lw_m6 31 rfl) rfl
theorem q1343 : (Jvm.Cond.code ({ cls := "BadCodes", name := "many", desc := "([LBadCodes$Test;)I" } : Jvm.MethodName) prog_1_method_24_code (4 : Nat) (Option.some Jvm.ClassFile.FieldType.int)) ∈ lw_all := lw_g (lw_at lw_m6 32 rfl) rfl
theorem q1344 : (Jvm.Cond.methodLink "BadCodes" (143 : Nat) ({ cls := "BadCodes", name := "areSo", desc := "(I[LBadCodes$Test;)Z" } : Jvm.MethodName)) ∈ lw_all := lw_g (lw_at lw_m6 33 rfl) rfl
theorem q1345 : (Jvm.Cond.static ({ cls := "BadCodes", name := "areSo", desc := "(I[LBadCodes$Test;)Z" } : Jvm.MethodName)) ∈ lw_all := lw_g (lw_at lw_m6 34 rfl) rfl
theorem q1346 : (Jvm.Cond.code ({ cls := "BadCodes", name := "areSo", desc := "(I[LBadCodes$Test;)Z" } : Jvm.MethodName) prog_1_method_25_code (6 : Nat) (Option.some Jvm.ClassFile.FieldType.boolean)) ∈ lw_all := lw_g (lw_at lw_m6 35 rfl) rfl
theorem q1347 : (Jvm.Cond.interfaceEntry "BadCodes" (151 : Nat)) ∈ lw_tbl := lw_at lw_m6 36 rfl
theorem q1348 : (Jvm.Cond.methodLink "BadCodes" (151 : Nat) ({ cls := "BadCodes$Test", name := "isSo", desc := "(I)Z" } : Jvm.MethodName)) ∈ lw_all := lw_g (lw_at lw_m6 37 rfl) rfl
theorem q1351 : (Jvm.Cond.methodLink "BadCodes" (147 : Nat) ({ cls := "BadCodes", name := "one", desc := "(Z)I" } : Jvm.MethodName)) ∈ lw_all := lw_g (lw_at lw_m6 40 rfl) rfl
theorem q1352 : (Jvm.Cond.methodLink "BadCodes" (180 : Nat) ({ cls := "BadCodes$Office", name := "sentAll", desc := "()I" } : Jvm.MethodName)) ∈ lw_all := lw_g (lw_at lw_m6 41 rfl) rfl
theorem q1356 : (Jvm.Cond.methodLink "BadCodes" (183 : Nat) ({ cls := "BadCodes", name := "bagged", desc := "()I" } : Jvm.MethodName)) ∈ lw_all := lw_g (lw_at lw_m6 45 rfl) rfl
theorem q1357 : (Jvm.Cond.privateMethod ({ cls := "BadCodes", name := "bagged", desc := "()I" } : Jvm.MethodName)) ∈ lw_tbl := lw_at lw_m6 46 rfl
theorem q1358 : (Jvm.Cond.instanceMethod ({ cls := "BadCodes", name := "bagged", desc := "()I" } : Jvm.MethodName)) ∈ lw_all := lw_g (lw_at lw_m6 47 rfl) rfl
theorem q1359 : (Jvm.Cond.code ({ cls := "BadCodes", name := "bagged", desc := "()I" } : Jvm.MethodName) prog_1_method_26_code (3 : Nat) (Option.some Jvm.ClassFile.FieldType.int)) ∈ lw_all := lw_g (lw_at lw_m6 48 rfl) rfl
theorem q1360 : (Jvm.Cond.methodLink "BadCodes" (186 : Nat) ({ cls := "BadCodes", name := "openRoutes", desc := "()I" } : Jvm.MethodName)) ∈ lw_all := lw_g (lw_at lw_m6 49 rfl) rfl
theorem q1361 : (Jvm.Cond.privateMethod ({ cls := "BadCodes", name := "openRoutes", desc := "()I" } : Jvm.MethodName)) ∈ lw_tbl := lw_at lw_m6 50 rfl
theorem q1362 : (Jvm.Cond.instanceMethod ({ cls := "BadCodes", name := "openRoutes", desc := "()I" } : Jvm.MethodName)) ∈ lw_all := lw_g (lw_at lw_m6 51 rfl) rfl
theorem q1363 : (Jvm.Cond.code ({ cls := "BadCodes", name := "openRoutes", desc := "()I" } : Jvm.MethodName) prog_1_method_27_code (3 : Nat) (Option.some Jvm.ClassFile.FieldType.int)) ∈ lw_all := lw_g (lw_at lw_m6 52 rfl) rfl
theorem q1368 : (Jvm.Cond.instanceMethod ({ cls := "BadCodes", name := "town", desc := "(II)I" } : Jvm.MethodName)) ∈ lw_all := lw_g (lw_at lw_m6 57 rfl) rfl
theorem q1369 : (Jvm.Cond.selects "BadCodes" ({ cls := "BadCodes", name := "town", desc := "(II)I" } : Jvm.MethodName) ({ cls := "BadCodes", name := "town", desc := "(II)I" } : Jvm.MethodName)) ∈ lw_all := lw_g (lw_at lw_m6 58 rfl) rfl
theorem q1370 : (Jvm.Cond.code ({ cls := "BadCodes", name := "town", desc := "(II)I" } : Jvm.MethodName) prog_1_method_29_code (5 : Nat) (Option.some Jvm.ClassFile.FieldType.int)) ∈ lw_all := lw_g (lw_at lw_m6 59 rfl) rfl
theorem q1371 : (Jvm.Cond.methodLink "BadCodes" (192 : Nat) ({ cls := "BadCodes", name := "withTown", desc := "(I)LBadCodes$Office;" } : Jvm.MethodName)) ∈ lw_all := lw_g (lw_at lw_m6 60 rfl) rfl
theorem q1372 : (Jvm.Cond.privateMethod ({ cls := "BadCodes", name := "withTown", desc := "(I)LBadCodes$Office;" } : Jvm.MethodName)) ∈ lw_tbl := lw_at lw_m6 61 rfl
theorem q1373 : (Jvm.Cond.instanceMethod ({ cls := "BadCodes", name := "withTown", desc := "(I)LBadCodes$Office;" } : Jvm.MethodName)) ∈ lw_all := lw_g (lw_at lw_m6 62 rfl) rfl
theorem q1374 : (Jvm.Cond.code ({ cls := "BadCodes", name := "withTown", desc := "(I)LBadCodes$Office;" } : Jvm.MethodName) prog_1_method_18_code (3 : Nat) (Option.some (Jvm.ClassFile.FieldType.object "BadCodes$Office"))) ∈ lw_all := lw_g (lw_at lw_m6 63 rfl) rfl
theorem q1375 : (Jvm.Cond.methodLink "BadCodes" (195 : Nat) ({ cls := "BadCodes$Office", name := "town", desc := "(I)LBadCodes$Town;" } : Jvm.MethodName)) ∈ lw_all := lw_g (lw_at lw_m6 64 rfl) rfl
theorem q1376 : (Jvm.Cond.methodLink "BadCodes" (199 : Nat) ({ cls := "BadCodes$Town", name := "number", desc := "()I" } : Jvm.MethodName)) ∈ lw_all := lw_g (lw_at lw_m6 65 rfl) rfl
theorem q1377 : (Jvm.Cond.methodLink "BadCodes" (204 : Nat) ({ cls := "BadCodes$Town", name := "route", desc := "()I" } : Jvm.MethodName)) ∈ lw_all := lw_g (lw_at lw_m6 66 rfl) rfl
theorem q1378 : (Jvm.Cond.methodLink "BadCodes" (207 : Nat) ({ cls := "BadCodes$Town", name := "check", desc := "()I" } : Jvm.MethodName)) ∈ lw_all := lw_g (lw_at lw_m6 67 rfl) rfl
theorem q1382 : (Jvm.Cond.static ({ cls := "BadCodes", name := "lambda$town$2", desc := "(LBadCodes$Office;II)Z" } : Jvm.MethodName)) ∈ lw_all := lw_g (lw_at lw_m6 71 rfl) rfl
theorem q1383 : (Jvm.Cond.code ({ cls := "BadCodes", name := "lambda$town$2", desc := "(LBadCodes$Office;II)Z" } : Jvm.MethodName) prog_1_method_103_code (3 : Nat) (Option.some Jvm.ClassFile.FieldType.boolean)) ∈ lw_all := lw_g (lw_at lw_m6 72 rfl) rfl
theorem q1384 : (Jvm.Cond.static ({ cls := "BadCodes", name := "lambda$town$3", desc := "(LBadCodes$Office;II)Z" } : Jvm.MethodName)) ∈ lw_all := lw_g (lw_at lw_m6 73 rfl) rfl
theorem q1385 : (Jvm.Cond.code ({ cls := "BadCodes", name := "lambda$town$3", desc := "(LBadCodes$Office;II)Z" } : Jvm.MethodName) prog_1_method_102_code (3 : Nat) (Option.some Jvm.ClassFile.FieldType.boolean)) ∈ lw_all := lw_g (lw_at lw_m6 74 rfl) rfl
theorem q1386 : (Jvm.Cond.static ({ cls := "BadCodes", name := "lambda$town$4", desc := "(LBadCodes$Office;II)Z" } : Jvm.MethodName)) ∈ lw_all := lw_g (lw_at lw_m6 75 rfl) rfl
theorem q1387 : (Jvm.Cond.code ({ cls := "BadCodes", name := "lambda$town$4", desc := "(LBadCodes$Office;II)Z" } : Jvm.MethodName) prog_1_method_101_code (3 : Nat) (Option.some Jvm.ClassFile.FieldType.boolean)) ∈ lw_all := lw_g (lw_at lw_m6 76 rfl) rfl
theorem q1388 : (Jvm.Cond.methodLink "BadCodes" (233 : Nat) ({ cls := "BadCodes$Office", name := "distance", desc := "(II)I" } : Jvm.MethodName)) ∈ lw_all := lw_g (lw_at lw_m6 77 rfl) rfl
theorem q1389 : (Jvm.Cond.methodLink "BadCodes" (215 : Nat) ({ cls := "BadCodes$Town", name := "sum", desc := "()I" } : Jvm.MethodName)) ∈ lw_all := lw_g (lw_at lw_m6 78 rfl) rfl
theorem q1394 : (Jvm.Cond.instanceMethod ({ cls := "BadCodes", name := "codeDigit", desc := "(II)I" } : Jvm.MethodName)) ∈ lw_all := lw_g (lw_at lw_m6 83 rfl) rfl
theorem q1395 : (Jvm.Cond.selects "BadCodes" ({ cls := "BadCodes", name := "codeDigit", desc := "(II)I" } : Jvm.MethodName) ({ cls := "BadCodes", name := "codeDigit", desc := "(II)I" } : Jvm.MethodName)) ∈ lw_all := lw_g (lw_at lw_m6 84 rfl) rfl
theorem q1396 : (Jvm.Cond.code ({ cls := "BadCodes", name := "codeDigit", desc := "(II)I" } : Jvm.MethodName) prog_1_method_30_code (4 : Nat) (Option.some Jvm.ClassFile.FieldType.int)) ∈ lw_all := lw_g (lw_at lw_m6 85 rfl) rfl
theorem q1397 : (Jvm.Cond.methodLink "BadCodes" (218 : Nat) ({ cls := "BadCodes$Town", name := "digit", desc := "(I)I" } : Jvm.MethodName)) ∈ lw_all := lw_g (lw_at lw_m6 86 rfl) rfl
theorem q1402 : (Jvm.Cond.instanceMethod ({ cls := "BadCodes", name := "checkDigit", desc := "(I)I" } : Jvm.MethodName)) ∈ lw_all := lw_g (lw_at lw_m6 91 rfl) rfl
theorem q1403 : (Jvm.Cond.selects "BadCodes" ({ cls := "BadCodes", name := "checkDigit", desc := "(I)I" } : Jvm.MethodName) ({ cls := "BadCodes", name := "checkDigit", desc := "(I)I" } : Jvm.MethodName)) ∈ lw_all := lw_g (lw_at lw_m6 92 rfl) rfl
theorem q1404 : (Jvm.Cond.code ({ cls := "BadCodes", name := "checkDigit", desc := "(I)I" } : Jvm.MethodName) prog_1_method_31_code (3 : Nat) (Option.some Jvm.ClassFile.FieldType.int)) ∈ lw_all := lw_g (lw_at lw_m6 93 rfl) rfl
theorem q1405 : (Jvm.Cond.methodLink "BadCodes" (221 : Nat) ({ cls := "BadCodes", name := "checkRange", desc := "(Z)V" } : Jvm.MethodName)) ∈ lw_all := lw_g (lw_at lw_m6 94 rfl) rfl
theorem q1406 : (Jvm.Cond.static ({ cls := "BadCodes", name := "checkRange", desc := "(Z)V" } : Jvm.MethodName)) ∈ lw_all := lw_g (lw_at lw_m6 95 rfl) rfl
theorem q1407 : (Jvm.Cond.code ({ cls := "BadCodes", name := "checkRange", desc := "(Z)V" } : Jvm.MethodName) prog_1_method_16_code (1 : Nat) (Option.none : Option Jvm.ClassFile.FieldType)) ∈ lw_all := lw_g (lw_at lw_m6 96 rfl) rfl
theorem q1408 : (Jvm.Cond.methodLink "BadCodes" (224 : Nat) ({ cls := "BadCodes", name := "check", desc := "(I)I" } : Jvm.MethodName)) ∈ lw_all := lw_g (lw_at lw_m6 97 rfl) rfl
theorem q1413 : (Jvm.Cond.instanceMethod ({ cls := "BadCodes", name := "apart", desc := "(II)I" } : Jvm.MethodName)) ∈ lw_all := lw_g (lw_at lw_m6 102 rfl) rfl
theorem q1414 : (Jvm.Cond.selects "BadCodes" ({ cls := "BadCodes", name := "apart", desc := "(II)I" } : Jvm.MethodName) ({ cls := "BadCodes", name := "apart", desc := "(II)I" } : Jvm.MethodName)) ∈ lw_all := lw_g (lw_at lw_m6 103 rfl) rfl
theorem q1415 : (Jvm.Cond.code ({ cls := "BadCodes", name := "apart", desc := "(II)I" } : Jvm.MethodName) prog_1_method_33_code (4 : Nat) (Option.some Jvm.ClassFile.FieldType.int)) ∈ lw_all := lw_g (lw_at lw_m6 104 rfl) rfl
theorem q1416 : (Jvm.Cond.methodLink "BadCodes" (229 : Nat) ({ cls := "BadCodes", name := "apart", desc := "(LBadCodes$Town;LBadCodes$Town;)I" } : Jvm.MethodName)) ∈ lw_all := lw_g (lw_at lw_m6 105 rfl) rfl
theorem q1417 : (Jvm.Cond.static ({ cls := "BadCodes", name := "apart", desc := "(LBadCodes$Town;LBadCodes$Town;)I" } : Jvm.MethodName)) ∈ lw_all := lw_g (lw_at lw_m6 106 rfl) rfl
theorem q1418 : (Jvm.Cond.code ({ cls := "BadCodes", name := "apart", desc := "(LBadCodes$Town;LBadCodes$Town;)I" } : Jvm.MethodName) prog_1_method_32_code (4 : Nat) (Option.some Jvm.ClassFile.FieldType.int)) ∈ lw_all := lw_g (lw_at lw_m6 107 rfl) rfl
theorem q1419 : (Jvm.Cond.methodLink "BadCodes" (226 : Nat) ({ cls := "BadCodes", name := "cost", desc := "(II)I" } : Jvm.MethodName)) ∈ lw_all := lw_g (lw_at lw_m6 108 rfl) rfl
theorem q1424 : (Jvm.Cond.instanceMethod ({ cls := "BadCodes", name := "closest", desc := "(I)I" } : Jvm.MethodName)) ∈ lw_all := lw_g (lw_at lw_m6 113 rfl) rfl
theorem q1425 : (Jvm.Cond.selects "BadCodes" ({ cls := "BadCodes", name := "closest", desc := "(I)I" } : Jvm.MethodName) ({ cls := "BadCodes", name := "closest", desc := "(I)I" } : Jvm.MethodName)) ∈ lw_all := lw_g (lw_at lw_m6 114 rfl) rfl
theorem q1426 : (Jvm.Cond.code ({ cls := "BadCodes", name := "closest", desc := "(I)I" } : Jvm.MethodName) prog_1_method_34_code (7 : Nat) (Option.some Jvm.ClassFile.FieldType.int)) ∈ lw_all := lw_g (lw_at lw_m6 115 rfl) rfl
theorem q1431 : (Jvm.Cond.instanceMethod ({ cls := "BadCodes", name := "letter", desc := "(II)I" } : Jvm.MethodName)) ∈ lw_all := lw_g (lw_at lw_m6 120 rfl) rfl
theorem q1432 : (Jvm.Cond.selects "BadCodes" ({ cls := "BadCodes", name := "letter", desc := "(II)I" } : Jvm.MethodName) ({ cls := "BadCodes", name := "letter", desc := "(II)I" } : Jvm.MethodName)) ∈ lw_all := lw_g (lw_at lw_m6 121 rfl) rfl
theorem q1433 : (Jvm.Cond.code ({ cls := "BadCodes", name := "letter", desc := "(II)I" } : Jvm.MethodName) prog_1_method_36_code (5 : Nat) (Option.some Jvm.ClassFile.FieldType.int)) ∈ lw_all := lw_g (lw_at lw_m6 122 rfl) rfl
theorem q1434 : (Jvm.Cond.methodLink "BadCodes" (139 : Nat) ({ cls := "BadCodes", name := "withLetter", desc := "(I)LBadCodes$Office;" } : Jvm.MethodName)) ∈ lw_all := lw_g (lw_at lw_m6 123 rfl) rfl
theorem q1435 : (Jvm.Cond.privateMethod ({ cls := "BadCodes", name := "withLetter", desc := "(I)LBadCodes$Office;" } : Jvm.MethodName)) ∈ lw_tbl := lw_at lw_m6 124 rfl
theorem q1436 : (Jvm.Cond.instanceMethod ({ cls := "BadCodes", name := "withLetter", desc := "(I)LBadCodes$Office;" } : Jvm.MethodName)) ∈ lw_all := lw_g (lw_at lw_m6 125 rfl) rfl
theorem q1437 : (Jvm.Cond.code ({ cls := "BadCodes", name := "withLetter", desc := "(I)LBadCodes$Office;" } : Jvm.MethodName) prog_1_method_19_code (3 : Nat) (Option.some (Jvm.ClassFile.FieldType.object "BadCodes$Office"))) ∈ lw_all := lw_g (lw_at lw_m6 126 rfl) rfl
theorem q1438 : (Jvm.Cond.methodLink "BadCodes" (251 : Nat) ({ cls := "BadCodes$Letter", name := "unread", desc := "()I" } : Jvm.MethodName)) ∈ lw_all := lw_g (lw_at lw_m6 127 rfl) rfl
theorem q1439 : (Jvm.Cond.methodLink "BadCodes" (259 : Nat) ({ cls := "BadCodes", name := "nearMany", desc := "(I)I" } : Jvm.MethodName)) ∈ lw_all := lw_g (lw_at lw_m6 128 rfl) rfl
theorem q1440 : (Jvm.Cond.privateMethod ({ cls := "BadCodes", name := "nearMany", desc := "(I)I" } : Jvm.MethodName)) ∈ lw_tbl := lw_at lw_m6 129 rfl
theorem q1441 : (Jvm.Cond.instanceMethod ({ cls := "BadCodes", name := "nearMany", desc := "(I)I" } : Jvm.MethodName)) ∈ lw_all := lw_g (lw_at lw_m6 130 rfl) rfl
theorem q1442 : (Jvm.Cond.code ({ cls := "BadCodes", name := "nearMany", desc := "(I)I" } : Jvm.MethodName) prog_1_method_35_code (4 : Nat) (Option.some Jvm.ClassFile.FieldType.int)) ∈ lw_all := lw_g (lw_at lw_m6 131 rfl) rfl
theorem q1443 : (Jvm.Cond.methodLink "BadCodes" (262 : Nat) ({ cls := "BadCodes$Office", name := "bestMany", desc := "(I)I" } : Jvm.MethodName)) ∈ lw_all := lw_g (lw_at lw_m6 132 rfl) rfl
theorem q1448 : (Jvm.Cond.instanceMethod ({ cls := "BadCodes", name := "read", desc := "(II)I" } : Jvm.MethodName)) ∈ lw_all := lw_g (lw_at lw_m6 137 rfl) rfl
theorem q1449 : (Jvm.Cond.selects "BadCodes" ({ cls := "BadCodes", name := "read", desc := "(II)I" } : Jvm.MethodName) ({ cls := "BadCodes", name := "read", desc := "(II)I" } : Jvm.MethodName)) ∈ lw_all := lw_g (lw_at lw_m6 138 rfl) rfl
theorem q1450 : (Jvm.Cond.code ({ cls := "BadCodes", name := "read", desc := "(II)I" } : Jvm.MethodName) prog_1_method_37_code (3 : Nat) (Option.some Jvm.ClassFile.FieldType.int)) ∈ lw_all := lw_g (lw_at lw_m6 139 rfl) rfl
theorem q1451 : (Jvm.Cond.methodLink "BadCodes" (265 : Nat) ({ cls := "BadCodes", name := "withPlace", desc := "(II)LBadCodes$Office;" } : Jvm.MethodName)) ∈ lw_all := lw_g (lw_at lw_m6 140 rfl) rfl
theorem q1452 : (Jvm.Cond.privateMethod ({ cls := "BadCodes", name := "withPlace", desc := "(II)LBadCodes$Office;" } : Jvm.MethodName)) ∈ lw_tbl := lw_at lw_m6 141 rfl
theorem q1453 : (Jvm.Cond.instanceMethod ({ cls := "BadCodes", name := "withPlace", desc := "(II)LBadCodes$Office;" } : Jvm.MethodName)) ∈ lw_all := lw_g (lw_at lw_m6 142 rfl) rfl
theorem q1454 : (Jvm.Cond.code ({ cls := "BadCodes", name := "withPlace", desc := "(II)LBadCodes$Office;" } : Jvm.MethodName) prog_1_method_20_code (4 : Nat) (Option.some (Jvm.ClassFile.FieldType.object "BadCodes$Office"))) ∈ lw_all := lw_g (lw_at lw_m6 143 rfl) rfl
theorem q1459 : (Jvm.Cond.instanceMethod ({ cls := "BadCodes", name := "isRight", desc := "(I)Z" } : Jvm.MethodName)) ∈ lw_all := lw_g (lw_at lw_m6 148 rfl) rfl
theorem q1460 : (Jvm.Cond.selects "BadCodes" ({ cls := "BadCodes", name := "isRight", desc := "(I)Z" } : Jvm.MethodName) ({ cls := "BadCodes", name := "isRight", desc := "(I)Z" } : Jvm.MethodName)) ∈ lw_all := lw_g (lw_at lw_m6 149 rfl) rfl
theorem q1461 : (Jvm.Cond.code ({ cls := "BadCodes", name := "isRight", desc := "(I)Z" } : Jvm.MethodName) prog_1_method_38_code (5 : Nat) (Option.some Jvm.ClassFile.FieldType.boolean)) ∈ lw_all := lw_g (lw_at lw_m6 150 rfl) rfl
theorem q1466 : (Jvm.Cond.instanceMethod ({ cls := "BadCodes", name := "distance", desc := "(II)I" } : Jvm.MethodName)) ∈ lw_all := lw_g (lw_at lw_m6 155 rfl) rfl
theorem q1467 : (Jvm.Cond.selects "BadCodes" ({ cls := "BadCodes", name := "distance", desc := "(II)I" } : Jvm.MethodName) ({ cls := "BadCodes", name := "distance", desc := "(II)I" } : Jvm.MethodName)) ∈ lw_all := lw_g (lw_at lw_m6 156 rfl) rfl
theorem q1468 : (Jvm.Cond.code ({ cls := "BadCodes", name := "distance", desc := "(II)I" } : Jvm.MethodName) prog_1_method_39_code (4 : Nat) (Option.some Jvm.ClassFile.FieldType.int)) ∈ lw_all := lw_g (lw_at lw_m6 157 rfl) rfl
theorem q1473 : (Jvm.Cond.instanceMethod ({ cls := "BadCodes", name := "near", desc := "(II)I" } : Jvm.MethodName)) ∈ lw_all := lw_g (lw_at lw_m6 162 rfl) rfl
theorem q1474 : (Jvm.Cond.selects "BadCodes" ({ cls := "BadCodes", name := "near", desc := "(II)I" } : Jvm.MethodName) ({ cls := "BadCodes", name := "near", desc := "(II)I" } : Jvm.MethodName)) ∈ lw_all := lw_g (lw_at lw_m6 163 rfl) rfl
theorem q1475 : (Jvm.Cond.code ({ cls := "BadCodes", name := "near", desc := "(II)I" } : Jvm.MethodName) prog_1_method_42_code (4 : Nat) (Option.some Jvm.ClassFile.FieldType.int)) ∈ lw_all := lw_g (lw_at lw_m6 164 rfl) rfl
theorem q1476 : (Jvm.Cond.methodLink "BadCodes" (275 : Nat) ({ cls := "BadCodes", name := "nearAt", desc := "(II)I" } : Jvm.MethodName)) ∈ lw_all := lw_g (lw_at lw_m6 165 rfl) rfl
theorem q1477 : (Jvm.Cond.privateMethod ({ cls := "BadCodes", name := "nearAt", desc := "(II)I" } : Jvm.MethodName)) ∈ lw_tbl := lw_at lw_m6 166 rfl
theorem q1478 : (Jvm.Cond.instanceMethod ({ cls := "BadCodes", name := "nearAt", desc := "(II)I" } : Jvm.MethodName)) ∈ lw_all := lw_g (lw_at lw_m6 167 rfl) rfl
theorem q1479 : (Jvm.Cond.code ({ cls := "BadCodes", name := "nearAt", desc := "(II)I" } : Jvm.MethodName) prog_1_method_41_code (4 : Nat) (Option.some Jvm.ClassFile.FieldType.int)) ∈ lw_all := lw_g (lw_at lw_m6 168 rfl) rfl
theorem q1480 : (Jvm.Cond.methodLink "BadCodes" (272 : Nat) ({ cls := "BadCodes", name := "ahead", desc := "(II)I" } : Jvm.MethodName)) ∈ lw_all := lw_g (lw_at lw_m6 169 rfl) rfl
theorem q1481 : (Jvm.Cond.privateMethod ({ cls := "BadCodes", name := "ahead", desc := "(II)I" } : Jvm.MethodName)) ∈ lw_tbl := lw_at lw_m6 170 rfl
theorem q1482 : (Jvm.Cond.instanceMethod ({ cls := "BadCodes", name := "ahead", desc := "(II)I" } : Jvm.MethodName)) ∈ lw_all := lw_g (lw_at lw_m6 171 rfl) rfl
theorem q1483 : (Jvm.Cond.code ({ cls := "BadCodes", name := "ahead", desc := "(II)I" } : Jvm.MethodName) prog_1_method_40_code (6 : Nat) (Option.some Jvm.ClassFile.FieldType.int)) ∈ lw_all := lw_g (lw_at lw_m6 172 rfl) rfl
theorem q1488 : (Jvm.Cond.instanceMethod ({ cls := "BadCodes", name := "decided", desc := "(I)I" } : Jvm.MethodName)) ∈ lw_all := lw_g (lw_at lw_m6 177 rfl) rfl
theorem q1489 : (Jvm.Cond.selects "BadCodes" ({ cls := "BadCodes", name := "decided", desc := "(I)I" } : Jvm.MethodName) ({ cls := "BadCodes", name := "decided", desc := "(I)I" } : Jvm.MethodName)) ∈ lw_all := lw_g (lw_at lw_m6 178 rfl) rfl
theorem q1490 : (Jvm.Cond.code ({ cls := "BadCodes", name := "decided", desc := "(I)I" } : Jvm.MethodName) prog_1_method_43_code (2 : Nat) (Option.some Jvm.ClassFile.FieldType.int)) ∈ lw_all := lw_g (lw_at lw_m6 179 rfl) rfl
theorem q1495 : (Jvm.Cond.instanceMethod ({ cls := "BadCodes", name := "how", desc := "(I)I" } : Jvm.MethodName)) ∈ lw_all := lw_g (lw_at lw_m6 184 rfl) rfl
theorem q1496 : (Jvm.Cond.selects "BadCodes" ({ cls := "BadCodes", name := "how", desc := "(I)I" } : Jvm.MethodName) ({ cls := "BadCodes", name := "how", desc := "(I)I" } : Jvm.MethodName)) ∈ lw_all := lw_g (lw_at lw_m6 185 rfl) rfl
theorem q1497 : (Jvm.Cond.code ({ cls := "BadCodes", name := "how", desc := "(I)I" } : Jvm.MethodName) prog_1_method_44_code (3 : Nat) (Option.some Jvm.ClassFile.FieldType.int)) ∈ lw_all := lw_g (lw_at lw_m6 186 rfl) rfl
theorem q1498 : (Jvm.Cond.methodLink "BadCodes" (281 : Nat) ({ cls := "BadCodes$Office", name := "byItself", desc := "(I)I" } : Jvm.MethodName)) ∈ lw_all := lw_g (lw_at lw_m6 187 rfl) rfl
theorem q1499 : (Jvm.Cond.methodLink "BadCodes" (284 : Nat) ({ cls := "BadCodes$Office", name := "least", desc := "(I)I" } : Jvm.MethodName)) ∈ lw_all := lw_g (lw_at lw_m6 188 rfl) rfl
theorem q1504 : (Jvm.Cond.instanceMethod ({ cls := "BadCodes", name := "whyNot", desc := "(I)I" } : Jvm.MethodName)) ∈ lw_all := lw_g (lw_at lw_m6 193 rfl) rfl
theorem q1505 : (Jvm.Cond.selects "BadCodes" ({ cls := "BadCodes", name := "whyNot", desc := "(I)I" } : Jvm.MethodName) ({ cls := "BadCodes", name := "whyNot", desc := "(I)I" } : Jvm.MethodName)) ∈ lw_all := lw_g (lw_at lw_m6 194 rfl) rfl
theorem q1506 : (Jvm.Cond.code ({ cls := "BadCodes", name := "whyNot", desc := "(I)I" } : Jvm.MethodName) prog_1_method_45_code (2 : Nat) (Option.some Jvm.ClassFile.FieldType.int)) ∈ lw_all := lw_g (lw_at lw_m6 195 rfl) rfl
theorem q1507 : (Jvm.Cond.methodLink "BadCodes" (287 : Nat) ({ cls := "BadCodes$Office", name := "whyNot", desc := "(I)I" } : Jvm.MethodName)) ∈ lw_all := lw_g (lw_at lw_m6 196 rfl) rfl
theorem q1512 : (Jvm.Cond.instanceMethod ({ cls := "BadCodes", name := "margin", desc := "(I)I" } : Jvm.MethodName)) ∈ lw_all := lw_g (lw_at lw_m6 201 rfl) rfl
theorem q1513 : (Jvm.Cond.selects "BadCodes" ({ cls := "BadCodes", name := "margin", desc := "(I)I" } : Jvm.MethodName) ({ cls := "BadCodes", name := "margin", desc := "(I)I" } : Jvm.MethodName)) ∈ lw_all := lw_g (lw_at lw_m6 202 rfl) rfl
theorem q1514 : (Jvm.Cond.code ({ cls := "BadCodes", name := "margin", desc := "(I)I" } : Jvm.MethodName) prog_1_method_46_code (7 : Nat) (Option.some Jvm.ClassFile.FieldType.int)) ∈ lw_all := lw_g (lw_at lw_m6 203 rfl) rfl
theorem q1519 : (Jvm.Cond.instanceMethod ({ cls := "BadCodes", name := "mended", desc := "(I)I" } : Jvm.MethodName)) ∈ lw_all := lw_g (lw_at lw_m6 208 rfl) rfl
theorem q1520 : (Jvm.Cond.selects "BadCodes" ({ cls := "BadCodes", name := "mended", desc := "(I)I" } : Jvm.MethodName) ({ cls := "BadCodes", name := "mended", desc := "(I)I" } : Jvm.MethodName)) ∈ lw_all := lw_g (lw_at lw_m6 209 rfl) rfl
theorem q1521 : (Jvm.Cond.code ({ cls := "BadCodes", name := "mended", desc := "(I)I" } : Jvm.MethodName) prog_1_method_47_code (6 : Nat) (Option.some Jvm.ClassFile.FieldType.int)) ∈ lw_all := lw_g (lw_at lw_m6 210 rfl) rfl
theorem q1526 : (Jvm.Cond.instanceMethod ({ cls := "BadCodes", name := "whyNotAgain", desc := "(I)I" } : Jvm.MethodName)) ∈ lw_all := lw_g (lw_at lw_m6 215 rfl) rfl
theorem q1527 : (Jvm.Cond.selects "BadCodes" ({ cls := "BadCodes", name := "whyNotAgain", desc := "(I)I" } : Jvm.MethodName) ({ cls := "BadCodes", name := "whyNotAgain", desc := "(I)I" } : Jvm.MethodName)) ∈ lw_all := lw_g (lw_at lw_m6 216 rfl) rfl
theorem q1528 : (Jvm.Cond.code ({ cls := "BadCodes", name := "whyNotAgain", desc := "(I)I" } : Jvm.MethodName) prog_1_method_48_code (2 : Nat) (Option.some Jvm.ClassFile.FieldType.int)) ∈ lw_all := lw_g (lw_at lw_m6 217 rfl) rfl
theorem q1529 : (Jvm.Cond.methodLink "BadCodes" (290 : Nat) ({ cls := "BadCodes$Office", name := "whyNotAgain", desc := "(I)I" } : Jvm.MethodName)) ∈ lw_all := lw_g (lw_at lw_m6 218 rfl) rfl
theorem q1537 : (Jvm.Cond.instanceMethod ({ cls := "BadCodes", name := "leastFix", desc := "(I)I" } : Jvm.MethodName)) ∈ lw_all := lw_g (lw_at lw_m6 226 rfl) rfl
theorem q1538 : (Jvm.Cond.selects "BadCodes" ({ cls := "BadCodes", name := "leastFix", desc := "(I)I" } : Jvm.MethodName) ({ cls := "BadCodes", name := "leastFix", desc := "(I)I" } : Jvm.MethodName)) ∈ lw_all := lw_g (lw_at lw_m6 227 rfl) rfl
theorem q1539 : (Jvm.Cond.code ({ cls := "BadCodes", name := "leastFix", desc := "(I)I" } : Jvm.MethodName) prog_1_method_52_code (2 : Nat) (Option.some Jvm.ClassFile.FieldType.int)) ∈ lw_all := lw_g (lw_at lw_m6 228 rfl) rfl
theorem q1540 : (Jvm.Cond.methodLink "BadCodes" (307 : Nat) ({ cls := "BadCodes", name := "leastFix", desc := "(LBadCodes$Letter;)I" } : Jvm.MethodName)) ∈ lw_all := lw_g (lw_at lw_m6 229 rfl) rfl
theorem q1541 : (Jvm.Cond.static ({ cls := "BadCodes", name := "leastFix", desc := "(LBadCodes$Letter;)I" } : Jvm.MethodName)) ∈ lw_all := lw_g (lw_at lw_m6 230 rfl) rfl
theorem q1542 : (Jvm.Cond.code ({ cls := "BadCodes", name := "leastFix", desc := "(LBadCodes$Letter;)I" } : Jvm.MethodName) prog_1_method_51_code (3 : Nat) (Option.some Jvm.ClassFile.FieldType.int)) ∈ lw_all := lw_g (lw_at lw_m6 231 rfl) rfl
theorem q1543 : (Jvm.Cond.methodLink "BadCodes" (303 : Nat) ({ cls := "BadCodes", name := "rightByDistance", desc := "(LBadCodes$Letter;)[I" } : Jvm.MethodName)) ∈ lw_all := lw_g (lw_at lw_m6 232 rfl) rfl
theorem q1544 : (Jvm.Cond.static ({ cls := "BadCodes", name := "rightByDistance", desc := "(LBadCodes$Letter;)[I" } : Jvm.MethodName)) ∈ lw_all := lw_g (lw_at lw_m6 233 rfl) rfl
theorem q1545 : (Jvm.Cond.code ({ cls := "BadCodes", name := "rightByDistance", desc := "(LBadCodes$Letter;)[I" } : Jvm.MethodName) prog_1_method_49_code (3 : Nat) (Option.some (Jvm.ClassFile.FieldType.array Jvm.ClassFile.FieldType.int))) ∈ lw_all := lw_g (lw_at lw_m6 234 rfl) rfl
theorem q1546 : (Jvm.Cond.methodLink "BadCodes" (293 : Nat) ({ cls := "BadCodes", name := "oneMore", desc := "([III)[I" } : Jvm.MethodName)) ∈ lw_all := lw_g (lw_at lw_m6 235 rfl) rfl
theorem q1547 : (Jvm.Cond.static ({ cls := "BadCodes", name := "oneMore", desc := "([III)[I" } : Jvm.MethodName)) ∈ lw_all := lw_g (lw_at lw_m6 236 rfl) rfl
theorem q1548 : (Jvm.Cond.code ({ cls := "BadCodes", name := "oneMore", desc := "([III)[I" } : Jvm.MethodName) prog_1_method_50_code (7 : Nat) (Option.some (Jvm.ClassFile.FieldType.array Jvm.ClassFile.FieldType.int))) ∈ lw_all := lw_g (lw_at lw_m6 237 rfl) rfl
theorem q1549 : (Jvm.Cond.methodLink "BadCodes" (297 : Nat) ({ cls := "java/lang/System", name := "arraycopy", desc := "(Ljava/lang/Object;ILjava/lang/Object;II)V" } : Jvm.MethodName)) ∈ lw_all := lw_g (lw_at lw_m6 238 rfl) rfl
theorem q1554 : (Jvm.Cond.instanceMethod ({ cls := "BadCodes", name := "codesNear", desc := "(II)I" } : Jvm.MethodName)) ∈ lw_all := lw_g (lw_at lw_m7 3 rfl) rfl
theorem q1555 : (Jvm.Cond.selects "BadCodes" ({ cls := "BadCodes", name := "codesNear", desc := "(II)I" } : Jvm.MethodName) ({ cls := "BadCodes", name := "codesNear", desc := "(II)I" } : Jvm.MethodName)) ∈ lw_all := lw_g (lw_at lw_m7 4 rfl) rfl
theorem q1556 : (Jvm.Cond.code ({ cls := "BadCodes", name := "codesNear", desc := "(II)I" } : Jvm.MethodName) prog_1_method_53_code (7 : Nat) (Option.some Jvm.ClassFile.FieldType.int)) ∈ lw_all := lw_g (lw_at lw_m7 5 rfl) rfl
theorem q1561 : (Jvm.Cond.instanceMethod ({ cls := "BadCodes", name := "firstFix", desc := "(I)I" } : Jvm.MethodName)) ∈ lw_all := lw_g (lw_at lw_m7 10 rfl) rfl
theorem q1562 : (Jvm.Cond.selects "BadCodes" ({ cls := "BadCodes", name := "firstFix", desc := "(I)I" } : Jvm.MethodName) ({ cls := "BadCodes", name := "firstFix", desc := "(I)I" } : Jvm.MethodName)) ∈ lw_all := lw_g (lw_at lw_m7 11 rfl) rfl
theorem q1563 : (Jvm.Cond.code ({ cls := "BadCodes", name := "firstFix", desc := "(I)I" } : Jvm.MethodName) prog_1_method_55_code (5 : Nat) (Option.some Jvm.ClassFile.FieldType.int)) ∈ lw_all := lw_g (lw_at lw_m7 12 rfl) rfl
theorem q1564 : (Jvm.Cond.methodLink "BadCodes" (311 : Nat) ({ cls := "BadCodes", name := "distanceTo", desc := "(LBadCodes$Letter;I)I" } : Jvm.MethodName)) ∈ lw_all := lw_g (lw_at lw_m7 13 rfl) rfl
theorem q1565 : (Jvm.Cond.static ({ cls := "BadCodes", name := "distanceTo", desc := "(LBadCodes$Letter;I)I" } : Jvm.MethodName)) ∈ lw_all := lw_g (lw_at lw_m7 14 rfl) rfl
theorem q1566 : (Jvm.Cond.code ({ cls := "BadCodes", name := "distanceTo", desc := "(LBadCodes$Letter;I)I" } : Jvm.MethodName) prog_1_method_54_code (4 : Nat) (Option.some Jvm.ClassFile.FieldType.int)) ∈ lw_all := lw_g (lw_at lw_m7 15 rfl) rfl
theorem q1571 : (Jvm.Cond.instanceMethod ({ cls := "BadCodes", name := "bundle", desc := "(II)I" } : Jvm.MethodName)) ∈ lw_all := lw_g (lw_at lw_m7 20 rfl) rfl
theorem q1572 : (Jvm.Cond.selects "BadCodes" ({ cls := "BadCodes", name := "bundle", desc := "(II)I" } : Jvm.MethodName) ({ cls := "BadCodes", name := "bundle", desc := "(II)I" } : Jvm.MethodName)) ∈ lw_all := lw_g (lw_at lw_m7 21 rfl) rfl
theorem q1573 : (Jvm.Cond.code ({ cls := "BadCodes", name := "bundle", desc := "(II)I" } : Jvm.MethodName) prog_1_method_57_code (5 : Nat) (Option.some Jvm.ClassFile.FieldType.int)) ∈ lw_all := lw_g (lw_at lw_m7 22 rfl) rfl
theorem q1574 : (Jvm.Cond.methodLink "BadCodes" (315 : Nat) ({ cls := "BadCodes", name := "withBundle", desc := "(I)LBadCodes$Office;" } : Jvm.MethodName)) ∈ lw_all := lw_g (lw_at lw_m7 23 rfl) rfl
theorem q1575 : (Jvm.Cond.privateMethod ({ cls := "BadCodes", name := "withBundle", desc := "(I)LBadCodes$Office;" } : Jvm.MethodName)) ∈ lw_tbl := lw_at lw_m7 24 rfl
theorem q1576 : (Jvm.Cond.instanceMethod ({ cls := "BadCodes", name := "withBundle", desc := "(I)LBadCodes$Office;" } : Jvm.MethodName)) ∈ lw_all := lw_g (lw_at lw_m7 25 rfl) rfl
theorem q1577 : (Jvm.Cond.code ({ cls := "BadCodes", name := "withBundle", desc := "(I)LBadCodes$Office;" } : Jvm.MethodName) prog_1_method_21_code (3 : Nat) (Option.some (Jvm.ClassFile.FieldType.object "BadCodes$Office"))) ∈ lw_all := lw_g (lw_at lw_m7 26 rfl) rfl
theorem q1578 : (Jvm.Cond.static ({ cls := "BadCodes", name := "lambda$bundle$5", desc := "(LBadCodes$Office;II)Z" } : Jvm.MethodName)) ∈ lw_all := lw_g (lw_at lw_m7 27 rfl) rfl
theorem q1579 : (Jvm.Cond.code ({ cls := "BadCodes", name := "lambda$bundle$5", desc := "(LBadCodes$Office;II)Z" } : Jvm.MethodName) prog_1_method_100_code (3 : Nat) (Option.some Jvm.ClassFile.FieldType.boolean)) ∈ lw_all := lw_g (lw_at lw_m7 28 rfl) rfl
theorem q1580 : (Jvm.Cond.static ({ cls := "BadCodes", name := "lambda$bundle$6", desc := "(LBadCodes$Office;I)Z" } : Jvm.MethodName)) ∈ lw_all := lw_g (lw_at lw_m7 29 rfl) rfl
theorem q1581 : (Jvm.Cond.code ({ cls := "BadCodes", name := "lambda$bundle$6", desc := "(LBadCodes$Office;I)Z" } : Jvm.MethodName) prog_1_method_99_code (2 : Nat) (Option.some Jvm.ClassFile.FieldType.boolean)) ∈ lw_all := lw_g (lw_at lw_m7 30 rfl) rfl
theorem q1582 : (Jvm.Cond.methodLink "BadCodes" (323 : Nat) ({ cls := "BadCodes", name := "sumOf", desc := "(I)I" } : Jvm.MethodName)) ∈ lw_all := lw_g (lw_at lw_m7 31 rfl) rfl
theorem q1583 : (Jvm.Cond.privateMethod ({ cls := "BadCodes", name := "sumOf", desc := "(I)I" } : Jvm.MethodName)) ∈ lw_tbl := lw_at lw_m7 32 rfl
theorem q1584 : (Jvm.Cond.instanceMethod ({ cls := "BadCodes", name := "sumOf", desc := "(I)I" } : Jvm.MethodName)) ∈ lw_all := lw_g (lw_at lw_m7 33 rfl) rfl
theorem q1585 : (Jvm.Cond.code ({ cls := "BadCodes", name := "sumOf", desc := "(I)I" } : Jvm.MethodName) prog_1_method_56_code (5 : Nat) (Option.some Jvm.ClassFile.FieldType.int)) ∈ lw_all := lw_g (lw_at lw_m7 34 rfl) rfl
theorem q1590 : (Jvm.Cond.instanceMethod ({ cls := "BadCodes", name := "bag", desc := "(II)I" } : Jvm.MethodName)) ∈ lw_all := lw_g (lw_at lw_m7 39 rfl) rfl
theorem q1591 : (Jvm.Cond.selects "BadCodes" ({ cls := "BadCodes", name := "bag", desc := "(II)I" } : Jvm.MethodName) ({ cls := "BadCodes", name := "bag", desc := "(II)I" } : Jvm.MethodName)) ∈ lw_all := lw_g (lw_at lw_m7 40 rfl) rfl
theorem q1592 : (Jvm.Cond.code ({ cls := "BadCodes", name := "bag", desc := "(II)I" } : Jvm.MethodName) prog_1_method_59_code (4 : Nat) (Option.some Jvm.ClassFile.FieldType.int)) ∈ lw_all := lw_g (lw_at lw_m7 41 rfl) rfl
theorem q1593 : (Jvm.Cond.methodLink "BadCodes" (326 : Nat) ({ cls := "BadCodes", name := "withRoute", desc := "(I)LBadCodes$Office;" } : Jvm.MethodName)) ∈ lw_all := lw_g (lw_at lw_m7 42 rfl) rfl
theorem q1594 : (Jvm.Cond.privateMethod ({ cls := "BadCodes", name := "withRoute", desc := "(I)LBadCodes$Office;" } : Jvm.MethodName)) ∈ lw_tbl := lw_at lw_m7 43 rfl
theorem q1595 : (Jvm.Cond.instanceMethod ({ cls := "BadCodes", name := "withRoute", desc := "(I)LBadCodes$Office;" } : Jvm.MethodName)) ∈ lw_all := lw_g (lw_at lw_m7 44 rfl) rfl
theorem q1596 : (Jvm.Cond.code ({ cls := "BadCodes", name := "withRoute", desc := "(I)LBadCodes$Office;" } : Jvm.MethodName) prog_1_method_22_code (3 : Nat) (Option.some (Jvm.ClassFile.FieldType.object "BadCodes$Office"))) ∈ lw_all := lw_g (lw_at lw_m7 45 rfl) rfl
theorem q1597 : (Jvm.Cond.methodLink "BadCodes" (335 : Nat) ({ cls := "BadCodes", name := "townsOn", desc := "(I)I" } : Jvm.MethodName)) ∈ lw_all := lw_g (lw_at lw_m7 46 rfl) rfl
theorem q1598 : (Jvm.Cond.privateMethod ({ cls := "BadCodes", name := "townsOn", desc := "(I)I" } : Jvm.MethodName)) ∈ lw_tbl := lw_at lw_m7 47 rfl
theorem q1599 : (Jvm.Cond.instanceMethod ({ cls := "BadCodes", name := "townsOn", desc := "(I)I" } : Jvm.MethodName)) ∈ lw_all := lw_g (lw_at lw_m7 48 rfl) rfl
theorem q1600 : (Jvm.Cond.code ({ cls := "BadCodes", name := "townsOn", desc := "(I)I" } : Jvm.MethodName) prog_1_method_58_code (4 : Nat) (Option.some Jvm.ClassFile.FieldType.int)) ∈ lw_all := lw_g (lw_at lw_m7 49 rfl) rfl
theorem q1605 : (Jvm.Cond.instanceMethod ({ cls := "BadCodes", name := "causes", desc := "(I)I" } : Jvm.MethodName)) ∈ lw_all := lw_g (lw_at lw_m7 54 rfl) rfl
theorem q1606 : (Jvm.Cond.selects "BadCodes" ({ cls := "BadCodes", name := "causes", desc := "(I)I" } : Jvm.MethodName) ({ cls := "BadCodes", name := "causes", desc := "(I)I" } : Jvm.MethodName)) ∈ lw_all := lw_g (lw_at lw_m7 55 rfl) rfl
theorem q1607 : (Jvm.Cond.code ({ cls := "BadCodes", name := "causes", desc := "(I)I" } : Jvm.MethodName) prog_1_method_60_code (3 : Nat) (Option.some Jvm.ClassFile.FieldType.int)) ∈ lw_all := lw_g (lw_at lw_m7 56 rfl) rfl
theorem q1608 : (Jvm.Cond.static ({ cls := "BadCodes", name := "lambda$causes$7", desc := "(LBadCodes$Office;I)Z" } : Jvm.MethodName)) ∈ lw_all := lw_g (lw_at lw_m7 57 rfl) rfl
theorem q1609 : (Jvm.Cond.code ({ cls := "BadCodes", name := "lambda$causes$7", desc := "(LBadCodes$Office;I)Z" } : Jvm.MethodName) prog_1_method_98_code (2 : Nat) (Option.some Jvm.ClassFile.FieldType.boolean)) ∈ lw_all := lw_g (lw_at lw_m7 58 rfl) rfl
theorem q1610 : (Jvm.Cond.static ({ cls := "BadCodes", name := "lambda$causes$8", desc := "(LBadCodes$Office;II)Z" } : Jvm.MethodName)) ∈ lw_all := lw_g (lw_at lw_m7 59 rfl) rfl
theorem q1611 : (Jvm.Cond.code ({ cls := "BadCodes", name := "lambda$causes$8", desc := "(LBadCodes$Office;II)Z" } : Jvm.MethodName) prog_1_method_97_code (3 : Nat) (Option.some Jvm.ClassFile.FieldType.boolean)) ∈ lw_all := lw_g (lw_at lw_m7 60 rfl) rfl
theorem q1616 : (Jvm.Cond.instanceMethod ({ cls := "BadCodes", name := "gap", desc := "()I" } : Jvm.MethodName)) ∈ lw_all := lw_g (lw_at lw_m7 65 rfl) rfl
theorem q1617 : (Jvm.Cond.selects "BadCodes" ({ cls := "BadCodes", name := "gap", desc := "()I" } : Jvm.MethodName) ({ cls := "BadCodes", name := "gap", desc := "()I" } : Jvm.MethodName)) ∈ lw_all := lw_g (lw_at lw_m7 66 rfl) rfl
theorem q1618 : (Jvm.Cond.code ({ cls := "BadCodes", name := "gap", desc := "()I" } : Jvm.MethodName) prog_1_method_62_code (4 : Nat) (Option.some Jvm.ClassFile.FieldType.int)) ∈ lw_all := lw_g (lw_at lw_m7 67 rfl) rfl
theorem q1619 : (Jvm.Cond.privateMethod ({ cls := "BadCodes", name := "lambda$gap$9", desc := "(LBadCodes$Office;I)Z" } : Jvm.MethodName)) ∈ lw_tbl := lw_at lw_m7 68 rfl
theorem q1620 : (Jvm.Cond.instanceMethod ({ cls := "BadCodes", name := "lambda$gap$9", desc := "(LBadCodes$Office;I)Z" } : Jvm.MethodName)) ∈ lw_all := lw_g (lw_at lw_m7 69 rfl) rfl
theorem q1621 : (Jvm.Cond.code ({ cls := "BadCodes", name := "lambda$gap$9", desc := "(LBadCodes$Office;I)Z" } : Jvm.MethodName) prog_1_method_96_code (3 : Nat) (Option.some Jvm.ClassFile.FieldType.boolean)) ∈ lw_all := lw_g (lw_at lw_m7 70 rfl) rfl
theorem q1622 : (Jvm.Cond.methodLink "BadCodes" (444 : Nat) ({ cls := "BadCodes", name := "isWrong", desc := "(I)Z" } : Jvm.MethodName)) ∈ lw_all := lw_g (lw_at lw_m7 71 rfl) rfl
theorem q1623 : (Jvm.Cond.privateMethod ({ cls := "BadCodes", name := "isWrong", desc := "(I)Z" } : Jvm.MethodName)) ∈ lw_tbl := lw_at lw_m7 72 rfl
theorem q1624 : (Jvm.Cond.instanceMethod ({ cls := "BadCodes", name := "isWrong", desc := "(I)Z" } : Jvm.MethodName)) ∈ lw_all := lw_g (lw_at lw_m7 73 rfl) rfl
theorem q1625 : (Jvm.Cond.code ({ cls := "BadCodes", name := "isWrong", desc := "(I)Z" } : Jvm.MethodName) prog_1_method_61_code (5 : Nat) (Option.some Jvm.ClassFile.FieldType.boolean)) ∈ lw_all := lw_g (lw_at lw_m7 74 rfl) rfl
theorem q1626 : (Jvm.Cond.methodLink "BadCodes" (343 : Nat) ({ cls := "java/lang/Math", name := "abs", desc := "(I)I" } : Jvm.MethodName)) ∈ lw_all := lw_g (lw_at lw_m7 75 rfl) rfl
theorem q1633 : (Jvm.Cond.instanceMethod ({ cls := "BadCodes", name := "decidedIf", desc := "(III)I" } : Jvm.MethodName)) ∈ lw_all := lw_g (lw_at lw_m7 82 rfl) rfl
theorem q1634 : (Jvm.Cond.selects "BadCodes" ({ cls := "BadCodes", name := "decidedIf", desc := "(III)I" } : Jvm.MethodName) ({ cls := "BadCodes", name := "decidedIf", desc := "(III)I" } : Jvm.MethodName)) ∈ lw_all := lw_g (lw_at lw_m7 83 rfl) rfl
theorem q1635 : (Jvm.Cond.code ({ cls := "BadCodes", name := "decidedIf", desc := "(III)I" } : Jvm.MethodName) prog_1_method_64_code (5 : Nat) (Option.some Jvm.ClassFile.FieldType.int)) ∈ lw_all := lw_g (lw_at lw_m7 84 rfl) rfl
theorem q1636 : (Jvm.Cond.methodLink "BadCodes" (346 : Nat) ({ cls := "BadCodes", name := "isDigit", desc := "(I)Z" } : Jvm.MethodName)) ∈ lw_all := lw_g (lw_at lw_m7 85 rfl) rfl
theorem q1637 : (Jvm.Cond.static ({ cls := "BadCodes", name := "isDigit", desc := "(I)Z" } : Jvm.MethodName)) ∈ lw_all := lw_g (lw_at lw_m7 86 rfl) rfl
theorem q1638 : (Jvm.Cond.code ({ cls := "BadCodes", name := "isDigit", desc := "(I)Z" } : Jvm.MethodName) prog_1_method_23_code (1 : Nat) (Option.some Jvm.ClassFile.FieldType.boolean)) ∈ lw_all := lw_g (lw_at lw_m7 87 rfl) rfl
theorem q1639 : (Jvm.Cond.methodLink "BadCodes" (349 : Nat) ({ cls := "BadCodes", name := "decidedWith", desc := "(LBadCodes$Office;III)I" } : Jvm.MethodName)) ∈ lw_all := lw_g (lw_at lw_m7 88 rfl) rfl
theorem q1640 : (Jvm.Cond.static ({ cls := "BadCodes", name := "decidedWith", desc := "(LBadCodes$Office;III)I" } : Jvm.MethodName)) ∈ lw_all := lw_g (lw_at lw_m7 89 rfl) rfl
theorem q1641 : (Jvm.Cond.code ({ cls := "BadCodes", name := "decidedWith", desc := "(LBadCodes$Office;III)I" } : Jvm.MethodName) prog_1_method_63_code (7 : Nat) (Option.some Jvm.ClassFile.FieldType.int)) ∈ lw_all := lw_g (lw_at lw_m7 90 rfl) rfl
theorem q1646 : (Jvm.Cond.instanceMethod ({ cls := "BadCodes", name := "sortedIf", desc := "(I)I" } : Jvm.MethodName)) ∈ lw_all := lw_g (lw_at lw_m7 95 rfl) rfl
theorem q1647 : (Jvm.Cond.selects "BadCodes" ({ cls := "BadCodes", name := "sortedIf", desc := "(I)I" } : Jvm.MethodName) ({ cls := "BadCodes", name := "sortedIf", desc := "(I)I" } : Jvm.MethodName)) ∈ lw_all := lw_g (lw_at lw_m7 96 rfl) rfl
theorem q1648 : (Jvm.Cond.code ({ cls := "BadCodes", name := "sortedIf", desc := "(I)I" } : Jvm.MethodName) prog_1_method_66_code (3 : Nat) (Option.some Jvm.ClassFile.FieldType.int)) ∈ lw_all := lw_g (lw_at lw_m7 97 rfl) rfl
theorem q1649 : (Jvm.Cond.methodLink "BadCodes" (359 : Nat) ({ cls := "BadCodes", name := "sortedWith", desc := "(I)I" } : Jvm.MethodName)) ∈ lw_all := lw_g (lw_at lw_m7 98 rfl) rfl
theorem q1650 : (Jvm.Cond.privateMethod ({ cls := "BadCodes", name := "sortedWith", desc := "(I)I" } : Jvm.MethodName)) ∈ lw_tbl := lw_at lw_m7 99 rfl
theorem q1651 : (Jvm.Cond.instanceMethod ({ cls := "BadCodes", name := "sortedWith", desc := "(I)I" } : Jvm.MethodName)) ∈ lw_all := lw_g (lw_at lw_m7 100 rfl) rfl
theorem q1652 : (Jvm.Cond.code ({ cls := "BadCodes", name := "sortedWith", desc := "(I)I" } : Jvm.MethodName) prog_1_method_65_code (3 : Nat) (Option.some Jvm.ClassFile.FieldType.int)) ∈ lw_all := lw_g (lw_at lw_m7 101 rfl) rfl
theorem q1653 : (Jvm.Cond.methodLink "BadCodes" (353 : Nat) ({ cls := "BadCodes$Office", name := "<init>", desc := "(LBadCodes$Office;)V" } : Jvm.MethodName)) ∈ lw_all := lw_g (lw_at lw_m7 102 rfl) rfl
theorem q1666 : (Jvm.Cond.methodLink "BadCodes" (356 : Nat) ({ cls := "BadCodes$Office", name := "sortsAll", desc := "()I" } : Jvm.MethodName)) ∈ lw_all := lw_g (lw_at lw_m7 115 rfl) rfl
theorem q1671 : (Jvm.Cond.instanceMethod ({ cls := "BadCodes", name := "bestLimit", desc := "()I" } : Jvm.MethodName)) ∈ lw_all := lw_g (lw_at lw_m7 120 rfl) rfl
theorem q1672 : (Jvm.Cond.selects "BadCodes" ({ cls := "BadCodes", name := "bestLimit", desc := "()I" } : Jvm.MethodName) ({ cls := "BadCodes", name := "bestLimit", desc := "()I" } : Jvm.MethodName)) ∈ lw_all := lw_g (lw_at lw_m7 121 rfl) rfl
theorem q1673 : (Jvm.Cond.code ({ cls := "BadCodes", name := "bestLimit", desc := "()I" } : Jvm.MethodName) prog_1_method_67_code (6 : Nat) (Option.some Jvm.ClassFile.FieldType.int)) ∈ lw_all := lw_g (lw_at lw_m7 122 rfl) rfl
theorem q1678 : (Jvm.Cond.instanceMethod ({ cls := "BadCodes", name := "sumFor", desc := "(I)I" } : Jvm.MethodName)) ∈ lw_all := lw_g (lw_at lw_m7 127 rfl) rfl
theorem q1679 : (Jvm.Cond.selects "BadCodes" ({ cls := "BadCodes", name := "sumFor", desc := "(I)I" } : Jvm.MethodName) ({ cls := "BadCodes", name := "sumFor", desc := "(I)I" } : Jvm.MethodName)) ∈ lw_all := lw_g (lw_at lw_m7 128 rfl) rfl
theorem q1680 : (Jvm.Cond.code ({ cls := "BadCodes", name := "sumFor", desc := "(I)I" } : Jvm.MethodName) prog_1_method_69_code (7 : Nat) (Option.some Jvm.ClassFile.FieldType.int)) ∈ lw_all := lw_g (lw_at lw_m7 129 rfl) rfl
theorem q1681 : (Jvm.Cond.methodLink "BadCodes" (364 : Nat) ({ cls := "BadCodes", name := "decidedIn", desc := "(LBadCodes$Office;I)I" } : Jvm.MethodName)) ∈ lw_all := lw_g (lw_at lw_m7 130 rfl) rfl
theorem q1682 : (Jvm.Cond.privateMethod ({ cls := "BadCodes", name := "decidedIn", desc := "(LBadCodes$Office;I)I" } : Jvm.MethodName)) ∈ lw_tbl := lw_at lw_m7 131 rfl
theorem q1683 : (Jvm.Cond.instanceMethod ({ cls := "BadCodes", name := "decidedIn", desc := "(LBadCodes$Office;I)I" } : Jvm.MethodName)) ∈ lw_all := lw_g (lw_at lw_m7 132 rfl) rfl
theorem q1684 : (Jvm.Cond.code ({ cls := "BadCodes", name := "decidedIn", desc := "(LBadCodes$Office;I)I" } : Jvm.MethodName) prog_1_method_68_code (3 : Nat) (Option.some Jvm.ClassFile.FieldType.int)) ∈ lw_all := lw_g (lw_at lw_m7 133 rfl) rfl
theorem q1685 : (Jvm.Cond.static ({ cls := "BadCodes", name := "lambda$decidedIn$10", desc := "(LBadCodes$Office;II)Z" } : Jvm.MethodName)) ∈ lw_all := lw_g (lw_at lw_m7 134 rfl) rfl
theorem q1686 : (Jvm.Cond.code ({ cls := "BadCodes", name := "lambda$decidedIn$10", desc := "(LBadCodes$Office;II)Z" } : Jvm.MethodName) prog_1_method_95_code (3 : Nat) (Option.some Jvm.ClassFile.FieldType.boolean)) ∈ lw_all := lw_g (lw_at lw_m7 135 rfl) rfl
theorem q1687 : (Jvm.Cond.static ({ cls := "BadCodes", name := "lambda$decidedIn$11", desc := "(LBadCodes$Office;I)Z" } : Jvm.MethodName)) ∈ lw_all := lw_g (lw_at lw_m7 136 rfl) rfl
theorem q1688 : (Jvm.Cond.code ({ cls := "BadCodes", name := "lambda$decidedIn$11", desc := "(LBadCodes$Office;I)Z" } : Jvm.MethodName) prog_1_method_94_code (2 : Nat) (Option.some Jvm.ClassFile.FieldType.boolean)) ∈ lw_all := lw_g (lw_at lw_m7 137 rfl) rfl
theorem q1693 : (Jvm.Cond.instanceMethod ({ cls := "BadCodes", name := "bagsIf", desc := "(I)I" } : Jvm.MethodName)) ∈ lw_all := lw_g (lw_at lw_m7 142 rfl) rfl
theorem q1694 : (Jvm.Cond.selects "BadCodes" ({ cls := "BadCodes", name := "bagsIf", desc := "(I)I" } : Jvm.MethodName) ({ cls := "BadCodes", name := "bagsIf", desc := "(I)I" } : Jvm.MethodName)) ∈ lw_all := lw_g (lw_at lw_m7 143 rfl) rfl
theorem q1695 : (Jvm.Cond.code ({ cls := "BadCodes", name := "bagsIf", desc := "(I)I" } : Jvm.MethodName) prog_1_method_70_code (5 : Nat) (Option.some Jvm.ClassFile.FieldType.int)) ∈ lw_all := lw_g (lw_at lw_m7 144 rfl) rfl
theorem q1696 : (Jvm.Cond.methodLink "BadCodes" (368 : Nat) ({ cls := "java/util/Arrays", name := "fill", desc := "([II)V" } : Jvm.MethodName)) ∈ lw_all := lw_g (lw_at lw_m7 145 rfl) rfl
theorem q1701 : (Jvm.Cond.instanceMethod ({ cls := "BadCodes", name := "helpful", desc := "(I)I" } : Jvm.MethodName)) ∈ lw_all := lw_g (lw_at lw_m7 150 rfl) rfl
theorem q1702 : (Jvm.Cond.selects "BadCodes" ({ cls := "BadCodes", name := "helpful", desc := "(I)I" } : Jvm.MethodName) ({ cls := "BadCodes", name := "helpful", desc := "(I)I" } : Jvm.MethodName)) ∈ lw_all := lw_g (lw_at lw_m7 151 rfl) rfl
theorem q1703 : (Jvm.Cond.code ({ cls := "BadCodes", name := "helpful", desc := "(I)I" } : Jvm.MethodName) prog_1_method_71_code (4 : Nat) (Option.some Jvm.ClassFile.FieldType.int)) ∈ lw_all := lw_g (lw_at lw_m7 152 rfl) rfl
theorem q1708 : (Jvm.Cond.instanceMethod ({ cls := "BadCodes", name := "causeIf", desc := "(I)I" } : Jvm.MethodName)) ∈ lw_all := lw_g (lw_at lw_m7 157 rfl) rfl
theorem q1709 : (Jvm.Cond.selects "BadCodes" ({ cls := "BadCodes", name := "causeIf", desc := "(I)I" } : Jvm.MethodName) ({ cls := "BadCodes", name := "causeIf", desc := "(I)I" } : Jvm.MethodName)) ∈ lw_all := lw_g (lw_at lw_m7 158 rfl) rfl
theorem q1710 : (Jvm.Cond.code ({ cls := "BadCodes", name := "causeIf", desc := "(I)I" } : Jvm.MethodName) prog_1_method_72_code (3 : Nat) (Option.some Jvm.ClassFile.FieldType.int)) ∈ lw_all := lw_g (lw_at lw_m7 159 rfl) rfl
theorem q1711 : (Jvm.Cond.methodLink "BadCodes" (371 : Nat) ({ cls := "BadCodes$Office", name := "cause", desc := "(I)I" } : Jvm.MethodName)) ∈ lw_all := lw_g (lw_at lw_m7 160 rfl) rfl
theorem q1719 : (Jvm.Cond.instanceMethod ({ cls := "BadCodes", name := "share", desc := "()F" } : Jvm.MethodName)) ∈ lw_all := lw_g (lw_at lw_m7 168 rfl) rfl
theorem q1720 : (Jvm.Cond.selects "BadCodes" ({ cls := "BadCodes", name := "share", desc := "()F" } : Jvm.MethodName) ({ cls := "BadCodes", name := "share", desc := "()F" } : Jvm.MethodName)) ∈ lw_all := lw_g (lw_at lw_m7 169 rfl) rfl
theorem q1721 : (Jvm.Cond.code ({ cls := "BadCodes", name := "share", desc := "()F" } : Jvm.MethodName) prog_1_method_73_code (3 : Nat) (Option.some Jvm.ClassFile.FieldType.float)) ∈ lw_all := lw_g (lw_at lw_m7 170 rfl) rfl
theorem q1726 : (Jvm.Cond.instanceMethod ({ cls := "BadCodes", name := "meanDistance", desc := "()D" } : Jvm.MethodName)) ∈ lw_all := lw_g (lw_at lw_m7 175 rfl) rfl
theorem q1727 : (Jvm.Cond.selects "BadCodes" ({ cls := "BadCodes", name := "meanDistance", desc := "()D" } : Jvm.MethodName) ({ cls := "BadCodes", name := "meanDistance", desc := "()D" } : Jvm.MethodName)) ∈ lw_all := lw_g (lw_at lw_m7 176 rfl) rfl
theorem q1728 : (Jvm.Cond.code ({ cls := "BadCodes", name := "meanDistance", desc := "()D" } : Jvm.MethodName) prog_1_method_74_code (6 : Nat) (Option.some Jvm.ClassFile.FieldType.double)) ∈ lw_all := lw_g (lw_at lw_m7 177 rfl) rfl
theorem q1733 : (Jvm.Cond.instanceMethod ({ cls := "BadCodes", name := "writeLetter", desc := "(I)I" } : Jvm.MethodName)) ∈ lw_all := lw_g (lw_at lw_m7 182 rfl) rfl
theorem q1734 : (Jvm.Cond.selects "BadCodes" ({ cls := "BadCodes", name := "writeLetter", desc := "(I)I" } : Jvm.MethodName) ({ cls := "BadCodes", name := "writeLetter", desc := "(I)I" } : Jvm.MethodName)) ∈ lw_all := lw_g (lw_at lw_m7 183 rfl) rfl
theorem q1735 : (Jvm.Cond.code ({ cls := "BadCodes", name := "writeLetter", desc := "(I)I" } : Jvm.MethodName) prog_1_method_77_code (8 : Nat) (Option.some Jvm.ClassFile.FieldType.int)) ∈ lw_all := lw_g (lw_at lw_m7 184 rfl) rfl
theorem q1736 : (Jvm.Cond.classLink "BadCodes" (374 : Nat) "java/lang/StringBuilder") ∈ lw_all := lw_g (lw_at lw_m7 185 rfl) rfl
theorem q1737 : (Jvm.Cond.methodLink "BadCodes" (388 : Nat) ({ cls := "java/lang/StringBuilder", name := "<init>", desc := "(I)V" } : Jvm.MethodName)) ∈ lw_all := lw_g (lw_at lw_m7 186 rfl) rfl
theorem q1738 : (Jvm.Cond.methodLink "BadCodes" (389 : Nat) ({ cls := "java/lang/StringBuilder", name := "append", desc := "(C)Ljava/lang/StringBuilder;" } : Jvm.MethodName)) ∈ lw_all := lw_g (lw_at lw_m7 187 rfl) rfl
theorem q1739 : (Jvm.Cond.methodLink "BadCodes" (384 : Nat) ({ cls := "java/lang/StringBuilder", name := "append", desc := "(I)Ljava/lang/StringBuilder;" } : Jvm.MethodName)) ∈ lw_all := lw_g (lw_at lw_m7 188 rfl) rfl
theorem q1740 : (Jvm.Cond.methodLink "BadCodes" (392 : Nat) ({ cls := "BadCodes", name := "writesCode", desc := "(Ljava/lang/StringBuilder;LBadCodes$Town;)V" } : Jvm.MethodName)) ∈ lw_all := lw_g (lw_at lw_m7 189 rfl) rfl
theorem q1741 : (Jvm.Cond.static ({ cls := "BadCodes", name := "writesCode", desc := "(Ljava/lang/StringBuilder;LBadCodes$Town;)V" } : Jvm.MethodName)) ∈ lw_all := lw_g (lw_at lw_m7 190 rfl) rfl
theorem q1742 : (Jvm.Cond.code ({ cls := "BadCodes", name := "writesCode", desc := "(Ljava/lang/StringBuilder;LBadCodes$Town;)V" } : Jvm.MethodName) prog_1_method_76_code (3 : Nat) (Option.none : Option Jvm.ClassFile.FieldType)) ∈ lw_all := lw_g (lw_at lw_m7 191 rfl) rfl
theorem q1743 : (Jvm.Cond.methodLink "BadCodes" (396 : Nat) ({ cls := "BadCodes", name := "write", desc := "(Ljava/lang/StringBuilder;)I" } : Jvm.MethodName)) ∈ lw_all := lw_g (lw_at lw_m7 192 rfl) rfl
theorem q1744 : (Jvm.Cond.privateMethod ({ cls := "BadCodes", name := "write", desc := "(Ljava/lang/StringBuilder;)I" } : Jvm.MethodName)) ∈ lw_tbl := lw_at lw_m7 193 rfl
theorem q1745 : (Jvm.Cond.instanceMethod ({ cls := "BadCodes", name := "write", desc := "(Ljava/lang/StringBuilder;)I" } : Jvm.MethodName)) ∈ lw_all := lw_g (lw_at lw_m7 194 rfl) rfl
theorem q1746 : (Jvm.Cond.code ({ cls := "BadCodes", name := "write", desc := "(Ljava/lang/StringBuilder;)I" } : Jvm.MethodName) prog_1_method_75_code (2 : Nat) (Option.some Jvm.ClassFile.FieldType.int)) ∈ lw_all := lw_g (lw_at lw_m7 195 rfl) rfl
theorem q1747 : (Jvm.Cond.methodLink "BadCodes" (373 : Nat) ({ cls := "java/lang/StringBuilder", name := "toString", desc := "()Ljava/lang/String;" } : Jvm.MethodName)) ∈ lw_all := lw_g (lw_at lw_m7 196 rfl) rfl
theorem q1748 : (Jvm.Cond.methodLink "BadCodes" (379 : Nat) ({ cls := "java/lang/String", name := "length", desc := "()I" } : Jvm.MethodName)) ∈ lw_all := lw_g (lw_at lw_m7 197 rfl) rfl
theorem q1753 : (Jvm.Cond.instanceMethod ({ cls := "BadCodes", name := "writeNear", desc := "(I)I" } : Jvm.MethodName)) ∈ lw_all := lw_g (lw_at lw_m7 202 rfl) rfl
theorem q1754 : (Jvm.Cond.selects "BadCodes" ({ cls := "BadCodes", name := "writeNear", desc := "(I)I" } : Jvm.MethodName) ({ cls := "BadCodes", name := "writeNear", desc := "(I)I" } : Jvm.MethodName)) ∈ lw_all := lw_g (lw_at lw_m7 203 rfl) rfl
theorem q1755 : (Jvm.Cond.code ({ cls := "BadCodes", name := "writeNear", desc := "(I)I" } : Jvm.MethodName) prog_1_method_78_code (6 : Nat) (Option.some Jvm.ClassFile.FieldType.int)) ∈ lw_all := lw_g (lw_at lw_m7 204 rfl) rfl
theorem q1756 : (Jvm.Cond.methodLink "BadCodes" (400 : Nat) ({ cls := "java/lang/StringBuilder", name := "length", desc := "()I" } : Jvm.MethodName)) ∈ lw_all := lw_g (lw_at lw_m7 205 rfl) rfl
theorem q1761 : (Jvm.Cond.instanceMethod ({ cls := "BadCodes", name := "writeBags", desc := "()I" } : Jvm.MethodName)) ∈ lw_all := lw_g (lw_at lw_m7 210 rfl) rfl
theorem q1762 : (Jvm.Cond.selects "BadCodes" ({ cls := "BadCodes", name := "writeBags", desc := "()I" } : Jvm.MethodName) ({ cls := "BadCodes", name := "writeBags", desc := "()I" } : Jvm.MethodName)) ∈ lw_all := lw_g (lw_at lw_m7 211 rfl) rfl
theorem q1763 : (Jvm.Cond.code ({ cls := "BadCodes", name := "writeBags", desc := "()I" } : Jvm.MethodName) prog_1_method_79_code (4 : Nat) (Option.some Jvm.ClassFile.FieldType.int)) ∈ lw_all := lw_g (lw_at lw_m7 212 rfl) rfl
theorem q1764 : (Jvm.Cond.stringRef "BadCodes" (401 : Nat) " ") ∈ lw_tbl := lw_at lw_m7 213 rfl
theorem q1765 : (Jvm.Cond.methodLink "BadCodes" (403 : Nat) ({ cls := "java/lang/StringBuilder", name := "append", desc := "(Ljava/lang/String;)Ljava/lang/StringBuilder;" } : Jvm.MethodName)) ∈ lw_all := lw_g (lw_at lw_m7 214 rfl) rfl
theorem q1766 : (Jvm.Cond.stringRef "BadCodes" (406 : Nat) "x") ∈ lw_tbl := lw_at lw_m7 215 rfl
theorem q1771 : (Jvm.Cond.instanceMethod ({ cls := "BadCodes", name := "textByte", desc := "(I)I" } : Jvm.MethodName)) ∈ lw_all := lw_g (lw_at lw_m7 220 rfl) rfl
theorem q1772 : (Jvm.Cond.selects "BadCodes" ({ cls := "BadCodes", name := "textByte", desc := "(I)I" } : Jvm.MethodName) ({ cls := "BadCodes", name := "textByte", desc := "(I)I" } : Jvm.MethodName)) ∈ lw_all := lw_g (lw_at lw_m7 221 rfl) rfl
theorem q1773 : (Jvm.Cond.code ({ cls := "BadCodes", name := "textByte", desc := "(I)I" } : Jvm.MethodName) prog_1_method_80_code (2 : Nat) (Option.some Jvm.ClassFile.FieldType.int)) ∈ lw_all := lw_g (lw_at lw_m7 222 rfl) rfl
theorem q1774 : (Jvm.Cond.methodLink "BadCodes" (408 : Nat) ({ cls := "java/lang/String", name := "charAt", desc := "(I)C" } : Jvm.MethodName)) ∈ lw_all := lw_g (lw_at lw_m7 223 rfl) rfl
theorem q1789 : (Jvm.Cond.instanceMethod ({ cls := "BadCodes", name := "sort", desc := "(I)I" } : Jvm.MethodName)) ∈ lw_all := lw_g (lw_at lw_m7 238 rfl) rfl
theorem q1790 : (Jvm.Cond.selects "BadCodes" ({ cls := "BadCodes", name := "sort", desc := "(I)I" } : Jvm.MethodName) ({ cls := "BadCodes", name := "sort", desc := "(I)I" } : Jvm.MethodName)) ∈ lw_all := lw_g (lw_at lw_m7 239 rfl) rfl
theorem q1791 : (Jvm.Cond.code ({ cls := "BadCodes", name := "sort", desc := "(I)I" } : Jvm.MethodName) prog_1_method_82_code (2 : Nat) (Option.some Jvm.ClassFile.FieldType.int)) ∈ lw_all := lw_g (lw_at lw_m8 0 rfl) rfl
theorem q1792 : (Jvm.Cond.methodLink "BadCodes" (421 : Nat) ({ cls := "BadCodes", name := "remember", desc := "()LBadCodes$Office;" } : Jvm.MethodName)) ∈ lw_all := lw_g (lw_at lw_m8 1 rfl) rfl
theorem q1793 : (Jvm.Cond.privateMethod ({ cls := "BadCodes", name := "remember", desc := "()LBadCodes$Office;" } : Jvm.MethodName)) ∈ lw_tbl := lw_at lw_m8 2 rfl
theorem q1794 : (Jvm.Cond.instanceMethod ({ cls := "BadCodes", name := "remember", desc := "()LBadCodes$Office;" } : Jvm.MethodName)) ∈ lw_all := lw_g (lw_at lw_m8 3 rfl) rfl
theorem q1795 : (Jvm.Cond.code ({ cls := "BadCodes", name := "remember", desc := "()LBadCodes$Office;" } : Jvm.MethodName) prog_1_method_81_code (2 : Nat) (Option.some (Jvm.ClassFile.FieldType.object "BadCodes$Office"))) ∈ lw_all := lw_g (lw_at lw_m8 4 rfl) rfl
theorem q1796 : (Jvm.Cond.interfaceEntry "BadCodes" (413 : Nat)) ∈ lw_tbl := lw_at lw_m8 5 rfl
theorem q1797 : (Jvm.Cond.methodLink "BadCodes" (413 : Nat) ({ cls := "java/util/Deque", name := "removeFirst", desc := "()Ljava/lang/Object;" } : Jvm.MethodName)) ∈ lw_all := lw_g (lw_at lw_m8 6 rfl) rfl
theorem q1815 : (Jvm.Cond.interfaceEntry "BadCodes" (417 : Nat)) ∈ lw_tbl := lw_at lw_m8 24 rfl
theorem q1816 : (Jvm.Cond.methodLink "BadCodes" (417 : Nat) ({ cls := "java/util/Deque", name := "addLast", desc := "(Ljava/lang/Object;)V" } : Jvm.MethodName)) ∈ lw_all := lw_g (lw_at lw_m8 25 rfl) rfl
theorem q1841 : (Jvm.Cond.methodLink "BadCodes" (424 : Nat) ({ cls := "BadCodes$Office", name := "sorts", desc := "(I)I" } : Jvm.MethodName)) ∈ lw_all := lw_g (lw_at lw_m8 50 rfl) rfl
theorem q1846 : (Jvm.Cond.instanceMethod ({ cls := "BadCodes", name := "sortAll", desc := "()I" } : Jvm.MethodName)) ∈ lw_all := lw_g (lw_at lw_m8 55 rfl) rfl
theorem q1847 : (Jvm.Cond.selects "BadCodes" ({ cls := "BadCodes", name := "sortAll", desc := "()I" } : Jvm.MethodName) ({ cls := "BadCodes", name := "sortAll", desc := "()I" } : Jvm.MethodName)) ∈ lw_all := lw_g (lw_at lw_m8 56 rfl) rfl
theorem q1848 : (Jvm.Cond.code ({ cls := "BadCodes", name := "sortAll", desc := "()I" } : Jvm.MethodName) prog_1_method_83_code (2 : Nat) (Option.some Jvm.ClassFile.FieldType.int)) ∈ lw_all := lw_g (lw_at lw_m8 57 rfl) rfl
theorem q1853 : (Jvm.Cond.instanceMethod ({ cls := "BadCodes", name := "again", desc := "(III)I" } : Jvm.MethodName)) ∈ lw_all := lw_g (lw_at lw_m8 62 rfl) rfl
theorem q1854 : (Jvm.Cond.selects "BadCodes" ({ cls := "BadCodes", name := "again", desc := "(III)I" } : Jvm.MethodName) ({ cls := "BadCodes", name := "again", desc := "(III)I" } : Jvm.MethodName)) ∈ lw_all := lw_g (lw_at lw_m8 63 rfl) rfl
theorem q1855 : (Jvm.Cond.code ({ cls := "BadCodes", name := "again", desc := "(III)I" } : Jvm.MethodName) prog_1_method_84_code (6 : Nat) (Option.some Jvm.ClassFile.FieldType.int)) ∈ lw_all := lw_g (lw_at lw_m8 64 rfl) rfl
theorem q1856 : (Jvm.Cond.methodLink "BadCodes" (427 : Nat) ({ cls := "BadCodes$Office", name := "reads", desc := "(III)V" } : Jvm.MethodName)) ∈ lw_all := lw_g (lw_at lw_m8 65 rfl) rfl
theorem q1864 : (Jvm.Cond.instanceMethod ({ cls := "BadCodes", name := "addLetter", desc := "(III)I" } : Jvm.MethodName)) ∈ lw_all := lw_g (lw_at lw_m8 73 rfl) rfl
theorem q1865 : (Jvm.Cond.selects "BadCodes" ({ cls := "BadCodes", name := "addLetter", desc := "(III)I" } : Jvm.MethodName) ({ cls := "BadCodes", name := "addLetter", desc := "(III)I" } : Jvm.MethodName)) ∈ lw_all := lw_g (lw_at lw_m8 74 rfl) rfl
theorem q1866 : (Jvm.Cond.code ({ cls := "BadCodes", name := "addLetter", desc := "(III)I" } : Jvm.MethodName) prog_1_method_85_code (8 : Nat) (Option.some Jvm.ClassFile.FieldType.int)) ∈ lw_all := lw_g (lw_at lw_m8 75 rfl) rfl
theorem q1867 : (Jvm.Cond.constant "BadCodes" (431 : Nat) (99999 : Int32)) ∈ lw_all := lw_g (lw_at lw_m8 76 rfl) rfl
theorem q1868 : (Jvm.Cond.classLink "BadCodes" (241 : Nat) "BadCodes$Letter") ∈ lw_all := lw_g (lw_at lw_m8 77 rfl) rfl
theorem q1869 : (Jvm.Cond.methodLinkNest "BadCodes" (432 : Nat) ({ cls := "BadCodes$Letter", name := "<init>", desc := "()V" } : Jvm.MethodName) "BadCodes") ∈ lw_tbl := lw_at lw_m8 78 rfl
theorem q1870 : (Jvm.Cond.interfaceEntry "BadCodes" (433 : Nat)) ∈ lw_tbl := lw_at lw_m8 79 rfl
theorem q1871 : (Jvm.Cond.methodLink "BadCodes" (433 : Nat) ({ cls := "java/util/List", name := "add", desc := "(Ljava/lang/Object;)Z" } : Jvm.MethodName)) ∈ lw_all := lw_g (lw_at lw_m8 80 rfl) rfl
theorem q1876 : (Jvm.Cond.instanceMethod ({ cls := "BadCodes", name := "setSum", desc := "(II)I" } : Jvm.MethodName)) ∈ lw_all := lw_g (lw_at lw_m8 85 rfl) rfl
theorem q1877 : (Jvm.Cond.selects "BadCodes" ({ cls := "BadCodes", name := "setSum", desc := "(II)I" } : Jvm.MethodName) ({ cls := "BadCodes", name := "setSum", desc := "(II)I" } : Jvm.MethodName)) ∈ lw_all := lw_g (lw_at lw_m8 86 rfl) rfl
theorem q1878 : (Jvm.Cond.code ({ cls := "BadCodes", name := "setSum", desc := "(II)I" } : Jvm.MethodName) prog_1_method_86_code (4 : Nat) (Option.some Jvm.ClassFile.FieldType.int)) ∈ lw_all := lw_g (lw_at lw_m8 87 rfl) rfl
theorem q1883 : (Jvm.Cond.instanceMethod ({ cls := "BadCodes", name := "move", desc := "(II)I" } : Jvm.MethodName)) ∈ lw_all := lw_g (lw_at lw_m8 92 rfl) rfl
theorem q1884 : (Jvm.Cond.selects "BadCodes" ({ cls := "BadCodes", name := "move", desc := "(II)I" } : Jvm.MethodName) ({ cls := "BadCodes", name := "move", desc := "(II)I" } : Jvm.MethodName)) ∈ lw_all := lw_g (lw_at lw_m8 93 rfl) rfl
theorem q1885 : (Jvm.Cond.code ({ cls := "BadCodes", name := "move", desc := "(II)I" } : Jvm.MethodName) prog_1_method_87_code (4 : Nat) (Option.some Jvm.ClassFile.FieldType.int)) ∈ lw_all := lw_g (lw_at lw_m8 94 rfl) rfl
theorem q1890 : (Jvm.Cond.instanceMethod ({ cls := "BadCodes", name := "setLimit", desc := "(I)I" } : Jvm.MethodName)) ∈ lw_all := lw_g (lw_at lw_m8 99 rfl) rfl
theorem q1891 : (Jvm.Cond.selects "BadCodes" ({ cls := "BadCodes", name := "setLimit", desc := "(I)I" } : Jvm.MethodName) ({ cls := "BadCodes", name := "setLimit", desc := "(I)I" } : Jvm.MethodName)) ∈ lw_all := lw_g (lw_at lw_m8 100 rfl) rfl
theorem q1892 : (Jvm.Cond.code ({ cls := "BadCodes", name := "setLimit", desc := "(I)I" } : Jvm.MethodName) prog_1_method_88_code (3 : Nat) (Option.some Jvm.ClassFile.FieldType.int)) ∈ lw_all := lw_g (lw_at lw_m8 101 rfl) rfl
theorem q1897 : (Jvm.Cond.instanceMethod ({ cls := "BadCodes", name := "turnRoute", desc := "(I)I" } : Jvm.MethodName)) ∈ lw_all := lw_g (lw_at lw_m8 106 rfl) rfl
theorem q1898 : (Jvm.Cond.selects "BadCodes" ({ cls := "BadCodes", name := "turnRoute", desc := "(I)I" } : Jvm.MethodName) ({ cls := "BadCodes", name := "turnRoute", desc := "(I)I" } : Jvm.MethodName)) ∈ lw_all := lw_g (lw_at lw_m8 107 rfl) rfl
theorem q1899 : (Jvm.Cond.code ({ cls := "BadCodes", name := "turnRoute", desc := "(I)I" } : Jvm.MethodName) prog_1_method_89_code (4 : Nat) (Option.some Jvm.ClassFile.FieldType.int)) ∈ lw_all := lw_g (lw_at lw_m8 108 rfl) rfl
theorem q1904 : (Jvm.Cond.instanceMethod ({ cls := "BadCodes", name := "undo", desc := "()I" } : Jvm.MethodName)) ∈ lw_all := lw_g (lw_at lw_m8 113 rfl) rfl
theorem q1905 : (Jvm.Cond.selects "BadCodes" ({ cls := "BadCodes", name := "undo", desc := "()I" } : Jvm.MethodName) ({ cls := "BadCodes", name := "undo", desc := "()I" } : Jvm.MethodName)) ∈ lw_all := lw_g (lw_at lw_m8 114 rfl) rfl
theorem q1906 : (Jvm.Cond.code ({ cls := "BadCodes", name := "undo", desc := "()I" } : Jvm.MethodName) prog_1_method_90_code (1 : Nat) (Option.some Jvm.ClassFile.FieldType.int)) ∈ lw_all := lw_g (lw_at lw_m8 115 rfl) rfl
theorem q1907 : (Jvm.Cond.interfaceEntry "BadCodes" (437 : Nat)) ∈ lw_tbl := lw_at lw_m8 116 rfl
theorem q1915 : (Jvm.Cond.interfaceEntry "BadCodes" (441 : Nat)) ∈ lw_tbl := lw_at lw_m8 124 rfl
theorem q1916 : (Jvm.Cond.methodLink "BadCodes" (441 : Nat) ({ cls := "java/util/Deque", name := "removeLast", desc := "()Ljava/lang/Object;" } : Jvm.MethodName)) ∈ lw_all := lw_g (lw_at lw_m8 125 rfl) rfl
theorem q1935 : (Jvm.Cond.instanceMethod ({ cls := "BadCodes", name := "save", desc := "(I)I" } : Jvm.MethodName)) ∈ lw_all := lw_g (lw_at lw_m8 144 rfl) rfl
theorem q1936 : (Jvm.Cond.selects "BadCodes" ({ cls := "BadCodes", name := "save", desc := "(I)I" } : Jvm.MethodName) ({ cls := "BadCodes", name := "save", desc := "(I)I" } : Jvm.MethodName)) ∈ lw_all := lw_g (lw_at lw_m8 145 rfl) rfl
theorem q1937 : (Jvm.Cond.code ({ cls := "BadCodes", name := "save", desc := "(I)I" } : Jvm.MethodName) prog_1_method_92_code (3 : Nat) (Option.some Jvm.ClassFile.FieldType.int)) ∈ lw_all := lw_g (lw_at lw_m8 146 rfl) rfl
theorem q1942 : (Jvm.Cond.instanceMethod ({ cls := "BadCodes", name := "restore", desc := "(I)I" } : Jvm.MethodName)) ∈ lw_all := lw_g (lw_at lw_m8 151 rfl) rfl
theorem q1943 : (Jvm.Cond.selects "BadCodes" ({ cls := "BadCodes", name := "restore", desc := "(I)I" } : Jvm.MethodName) ({ cls := "BadCodes", name := "restore", desc := "(I)I" } : Jvm.MethodName)) ∈ lw_all := lw_g (lw_at lw_m8 152 rfl) rfl
theorem q1944 : (Jvm.Cond.code ({ cls := "BadCodes", name := "restore", desc := "(I)I" } : Jvm.MethodName) prog_1_method_93_code (2 : Nat) (Option.some Jvm.ClassFile.FieldType.int)) ∈ lw_all := lw_g (lw_at lw_m8 153 rfl) rfl
theorem q2574 : (Jvm.Cond.castable "BadCodes" "java/lang/Object") ∈ lw_tbl := lw_at lw_m11 63 rfl
theorem in_X1 : ∀ w ∈ wsX10, w ∈ lw_all := lw_in wsX10 [225, 227, 229, 231, 233, 235, 237, 239, 241] (by decide +kernel) (by decide +kernel)
