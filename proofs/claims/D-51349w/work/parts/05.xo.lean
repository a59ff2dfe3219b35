/-! BadCodes$Office -/
set_option maxRecDepth 100000
def RX5 : String := "BadCodes$Office"
def TX5 : u_T := fun k => match k with
  | 0 => ("BadCodes$Office", "towns", "Ljava/util/List;", true)
  | 1 => ("BadCodes$Office", "letters", "Ljava/util/List;", true)
  | 2 => ("BadCodes$Office", "sums", "[I", true)
  | 3 => ("BadCodes$Office", "inBag", "[I", true)
  | 4 => ("BadCodes$Office", "sent", "[I", true)
  | 5 => ("BadCodes$Office", "sorted", "[I", true)
  | 6 => ("BadCodes$Office", "isClosed", "[Z", true)
  | 7 => ("BadCodes$Office", "limit", "I", false)
  | 8 => ("BadCodes$Office", "bag", "I", false)
  | _ => ("BadCodes$Office", "readAgain", "I", false)
def tyX5 : Nat → FieldType := fun k => match k with
  | 0 => .object "java/util/List"
  | 1 => .object "java/util/List"
  | 2 => .array .int
  | 3 => .array .int
  | 4 => .array .int
  | 5 => .array .int
  | 6 => .array .boolean
  | 7 => .int
  | 8 => .int
  | _ => .int
abbrev wsX50 : List Cond := u_ws RX5 TX5 10
theorem nmX5 : ∀ a, a < 10 → ∀ b, b < 10 → a ≠ b → (TX5 a).2.1 ≠ (TX5 b).2.1 := by decide +kernel
theorem tyX5_ok : ∀ k, k < 10 → parseFieldDescriptor (TX5 k).2.2.1 = some (tyX5 k) := by decide +kernel
abbrev cX5_letter : ByteArray := prog_5_method_3_code
def yX5_letter : MethodName := ⟨RX5, "letter", "(I)LBadCodes$Letter;"⟩
def dkwX5_letter_0 : List UInt8 := [42, 180, 0, 14, 27, 185, 0, 62, 2, 0, 192, 0, 66, 176]
abbrev dktX5_letter_0 : List UInt8 := dkwX5_letter_0 ++ []
theorem dksX5_letter_0 : cX5_letter.data.toList.drop 0 = dktX5_letter_0 := by decide +kernel
theorem dX5_letter_0 : decode cX5_letter 0 = .ok (.aload_n 0, 1) := dk_42 (dk_at dksX5_letter_0 0 rfl rfl)
theorem dX5_letter_1 : decode cX5_letter 1 = .ok (.getfield 14, 3) := dk_180 0 14 (dk_at dksX5_letter_0 1 rfl rfl)
theorem dX5_letter_4 : decode cX5_letter 4 = .ok (.iload_n 1, 1) := dk_27 (dk_at dksX5_letter_0 4 rfl rfl)
theorem dX5_letter_5 : decode cX5_letter 5 = .ok (.invokeinterface 62 2, 5) := by decide +kernel
theorem dX5_letter_10 : decode cX5_letter 10 = .ok (.checkcast 66, 3) := dk_192 0 66 (dk_at dksX5_letter_0 10 rfl rfl)
theorem dX5_letter_13 : decode cX5_letter 13 = .ok (.areturn, 1) := dk_176 (dk_at dksX5_letter_0 13 rfl rfl)
abbrev cX5_init : ByteArray := prog_5_method_1_code
def yX5_init : MethodName := ⟨RX5, "<init>", "(II)V"⟩
def dkwX5_init_3 : List UInt8 := [42, 27, 181, 0, 40, 42, 28, 181, 0, 44, 42, 180, 0, 20, 2, 184, 0, 47, 177]
abbrev dktX5_init_3 : List UInt8 := dkwX5_init_3 ++ []
def dkwX5_init_2 : List UInt8 := [181, 0, 30, 42, 16, 6, 188, 4, 181, 0, 33, 42, 187, 0, 9, 89, 16, 12, 183, 0, 11, 181, 0, 37]
abbrev dktX5_init_2 : List UInt8 := dkwX5_init_2 ++ dktX5_init_3
def dkwX5_init_1 : List UInt8 := [181, 0, 20, 42, 16, 6, 188, 10, 181, 0, 24, 42, 16, 6, 188, 10, 181, 0, 27, 42, 16, 6, 188, 10]
abbrev dktX5_init_1 : List UInt8 := dkwX5_init_1 ++ dktX5_init_2
def dkwX5_init_0 : List UInt8 := [42, 183, 0, 3, 42, 187, 0, 9, 89, 16, 24, 183, 0, 11, 181, 0, 14, 42, 16, 6, 188, 10]
abbrev dktX5_init_0 : List UInt8 := dkwX5_init_0 ++ dktX5_init_1
theorem dksX5_init_0 : cX5_init.data.toList.drop 0 = dktX5_init_0 := by decide +kernel
theorem dksX5_init_1 : cX5_init.data.toList.drop 22 = dktX5_init_1 := dk_seg dksX5_init_0 22 rfl rfl
theorem dksX5_init_2 : cX5_init.data.toList.drop 46 = dktX5_init_2 := dk_seg dksX5_init_1 24 rfl rfl
theorem dksX5_init_3 : cX5_init.data.toList.drop 70 = dktX5_init_3 := dk_seg dksX5_init_2 24 rfl rfl
theorem dX5_init_0 : decode cX5_init 0 = .ok (.aload_n 0, 1) := dk_42 (dk_at dksX5_init_0 0 rfl rfl)
theorem dX5_init_1 : decode cX5_init 1 = .ok (.invokespecial 3, 3) := dk_183 0 3 (dk_at dksX5_init_0 1 rfl rfl)
theorem dX5_init_4 : decode cX5_init 4 = .ok (.aload_n 0, 1) := dk_42 (dk_at dksX5_init_0 4 rfl rfl)
theorem dX5_init_5 : decode cX5_init 5 = .ok (.new 9, 3) := dk_187 0 9 (dk_at dksX5_init_0 5 rfl rfl)
theorem dX5_init_8 : decode cX5_init 8 = .ok (.dup, 1) := dk_89 (dk_at dksX5_init_0 8 rfl rfl)
theorem dX5_init_9 : decode cX5_init 9 = .ok (.bipush 24, 2) := dk_16 24 (dk_at dksX5_init_0 9 rfl rfl)
theorem dX5_init_11 : decode cX5_init 11 = .ok (.invokespecial 11, 3) := dk_183 0 11 (dk_at dksX5_init_0 11 rfl rfl)
theorem dX5_init_14 : decode cX5_init 14 = .ok (.putfield 14, 3) := dk_181 0 14 (dk_at dksX5_init_0 14 rfl rfl)
theorem dX5_init_17 : decode cX5_init 17 = .ok (.aload_n 0, 1) := dk_42 (dk_at dksX5_init_0 17 rfl rfl)
theorem dX5_init_18 : decode cX5_init 18 = .ok (.bipush 6, 2) := dk_16 6 (dk_at dksX5_init_0 18 rfl rfl)
theorem dX5_init_20 : decode cX5_init 20 = .ok (.newarray .int, 2) := dk_188_10 (dk_at dksX5_init_0 20 rfl rfl)
theorem dX5_init_22 : decode cX5_init 22 = .ok (.putfield 20, 3) := dk_181 0 20 (dk_at dksX5_init_1 0 rfl rfl)
theorem dX5_init_25 : decode cX5_init 25 = .ok (.aload_n 0, 1) := dk_42 (dk_at dksX5_init_1 3 rfl rfl)
theorem dX5_init_26 : decode cX5_init 26 = .ok (.bipush 6, 2) := dk_16 6 (dk_at dksX5_init_1 4 rfl rfl)
theorem dX5_init_28 : decode cX5_init 28 = .ok (.newarray .int, 2) := dk_188_10 (dk_at dksX5_init_1 6 rfl rfl)
theorem dX5_init_30 : decode cX5_init 30 = .ok (.putfield 24, 3) := dk_181 0 24 (dk_at dksX5_init_1 8 rfl rfl)
theorem dX5_init_33 : decode cX5_init 33 = .ok (.aload_n 0, 1) := dk_42 (dk_at dksX5_init_1 11 rfl rfl)
theorem dX5_init_34 : decode cX5_init 34 = .ok (.bipush 6, 2) := dk_16 6 (dk_at dksX5_init_1 12 rfl rfl)
theorem dX5_init_36 : decode cX5_init 36 = .ok (.newarray .int, 2) := dk_188_10 (dk_at dksX5_init_1 14 rfl rfl)
theorem dX5_init_38 : decode cX5_init 38 = .ok (.putfield 27, 3) := dk_181 0 27 (dk_at dksX5_init_1 16 rfl rfl)
theorem dX5_init_41 : decode cX5_init 41 = .ok (.aload_n 0, 1) := dk_42 (dk_at dksX5_init_1 19 rfl rfl)
theorem dX5_init_42 : decode cX5_init 42 = .ok (.bipush 6, 2) := dk_16 6 (dk_at dksX5_init_1 20 rfl rfl)
theorem dX5_init_44 : decode cX5_init 44 = .ok (.newarray .int, 2) := dk_188_10 (dk_at dksX5_init_1 22 rfl rfl)
theorem dX5_init_46 : decode cX5_init 46 = .ok (.putfield 30, 3) := dk_181 0 30 (dk_at dksX5_init_2 0 rfl rfl)
theorem dX5_init_49 : decode cX5_init 49 = .ok (.aload_n 0, 1) := dk_42 (dk_at dksX5_init_2 3 rfl rfl)
theorem dX5_init_50 : decode cX5_init 50 = .ok (.bipush 6, 2) := dk_16 6 (dk_at dksX5_init_2 4 rfl rfl)
theorem dX5_init_52 : decode cX5_init 52 = .ok (.newarray .boolean, 2) := dk_188_4 (dk_at dksX5_init_2 6 rfl rfl)
theorem dX5_init_54 : decode cX5_init 54 = .ok (.putfield 33, 3) := dk_181 0 33 (dk_at dksX5_init_2 8 rfl rfl)
theorem dX5_init_57 : decode cX5_init 57 = .ok (.aload_n 0, 1) := dk_42 (dk_at dksX5_init_2 11 rfl rfl)
theorem dX5_init_58 : decode cX5_init 58 = .ok (.new 9, 3) := dk_187 0 9 (dk_at dksX5_init_2 12 rfl rfl)
theorem dX5_init_61 : decode cX5_init 61 = .ok (.dup, 1) := dk_89 (dk_at dksX5_init_2 15 rfl rfl)
theorem dX5_init_62 : decode cX5_init 62 = .ok (.bipush 12, 2) := dk_16 12 (dk_at dksX5_init_2 16 rfl rfl)
theorem dX5_init_64 : decode cX5_init 64 = .ok (.invokespecial 11, 3) := dk_183 0 11 (dk_at dksX5_init_2 18 rfl rfl)
theorem dX5_init_67 : decode cX5_init 67 = .ok (.putfield 37, 3) := dk_181 0 37 (dk_at dksX5_init_2 21 rfl rfl)
theorem dX5_init_70 : decode cX5_init 70 = .ok (.aload_n 0, 1) := dk_42 (dk_at dksX5_init_3 0 rfl rfl)
theorem dX5_init_71 : decode cX5_init 71 = .ok (.iload_n 1, 1) := dk_27 (dk_at dksX5_init_3 1 rfl rfl)
theorem dX5_init_72 : decode cX5_init 72 = .ok (.putfield 40, 3) := dk_181 0 40 (dk_at dksX5_init_3 2 rfl rfl)
theorem dX5_init_75 : decode cX5_init 75 = .ok (.aload_n 0, 1) := dk_42 (dk_at dksX5_init_3 5 rfl rfl)
theorem dX5_init_76 : decode cX5_init 76 = .ok (.iload_n 2, 1) := dk_28 (dk_at dksX5_init_3 6 rfl rfl)
theorem dX5_init_77 : decode cX5_init 77 = .ok (.putfield 44, 3) := dk_181 0 44 (dk_at dksX5_init_3 7 rfl rfl)
theorem dX5_init_80 : decode cX5_init 80 = .ok (.aload_n 0, 1) := dk_42 (dk_at dksX5_init_3 10 rfl rfl)
theorem dX5_init_81 : decode cX5_init 81 = .ok (.getfield 20, 3) := dk_180 0 20 (dk_at dksX5_init_3 11 rfl rfl)
theorem dX5_init_84 : decode cX5_init 84 = .ok (.iconst (-1), 1) := dk_2 (dk_at dksX5_init_3 14 rfl rfl)
theorem dX5_init_85 : decode cX5_init 85 = .ok (.invokestatic 47, 3) := dk_184 0 47 (dk_at dksX5_init_3 15 rfl rfl)
theorem dX5_init_88 : decode cX5_init 88 = .ok (.return_, 1) := dk_177 (dk_at dksX5_init_3 18 rfl rfl)
abbrev cX5_townWith : ByteArray := prog_5_method_5_code
def yX5_townWith : MethodName := ⟨RX5, "townWith", "(I)I"⟩
def dkwX5_townWith_1 : List UInt8 := [160, 0, 5, 28, 172, 132, 2, 1, 167, 255, 226, 2, 172]
abbrev dktX5_townWith_1 : List UInt8 := dkwX5_townWith_1 ++ []
def dkwX5_townWith_0 : List UInt8 := [3, 61, 28, 42, 180, 0, 37, 185, 0, 56, 1, 0, 162, 0, 23, 42, 28, 182, 0, 84, 182, 0, 88, 27]
abbrev dktX5_townWith_0 : List UInt8 := dkwX5_townWith_0 ++ dktX5_townWith_1
theorem dksX5_townWith_0 : cX5_townWith.data.toList.drop 0 = dktX5_townWith_0 := by decide +kernel
theorem dksX5_townWith_1 : cX5_townWith.data.toList.drop 24 = dktX5_townWith_1 := dk_seg dksX5_townWith_0 24 rfl rfl
theorem dX5_townWith_0 : decode cX5_townWith 0 = .ok (.iconst 0, 1) := dk_3 (dk_at dksX5_townWith_0 0 rfl rfl)
theorem dX5_townWith_1 : decode cX5_townWith 1 = .ok (.istore_n 2, 1) := dk_61 (dk_at dksX5_townWith_0 1 rfl rfl)
theorem dX5_townWith_2 : decode cX5_townWith 2 = .ok (.iload_n 2, 1) := dk_28 (dk_at dksX5_townWith_0 2 rfl rfl)
theorem dX5_townWith_3 : decode cX5_townWith 3 = .ok (.aload_n 0, 1) := dk_42 (dk_at dksX5_townWith_0 3 rfl rfl)
theorem dX5_townWith_4 : decode cX5_townWith 4 = .ok (.getfield 37, 3) := dk_180 0 37 (dk_at dksX5_townWith_0 4 rfl rfl)
theorem dX5_townWith_7 : decode cX5_townWith 7 = .ok (.invokeinterface 56 1, 5) := by decide +kernel
theorem dX5_townWith_12 : decode cX5_townWith 12 = .ok (.if_icmp .ge 23, 3) := dk_162 0 23 (dk_at dksX5_townWith_0 12 rfl rfl)
theorem dX5_townWith_15 : decode cX5_townWith 15 = .ok (.aload_n 0, 1) := dk_42 (dk_at dksX5_townWith_0 15 rfl rfl)
theorem dX5_townWith_16 : decode cX5_townWith 16 = .ok (.iload_n 2, 1) := dk_28 (dk_at dksX5_townWith_0 16 rfl rfl)
theorem dX5_townWith_17 : decode cX5_townWith 17 = .ok (.invokevirtual 84, 3) := dk_182 0 84 (dk_at dksX5_townWith_0 17 rfl rfl)
theorem dX5_townWith_20 : decode cX5_townWith 20 = .ok (.invokevirtual 88, 3) := dk_182 0 88 (dk_at dksX5_townWith_0 20 rfl rfl)
theorem dX5_townWith_23 : decode cX5_townWith 23 = .ok (.iload_n 1, 1) := dk_27 (dk_at dksX5_townWith_0 23 rfl rfl)
theorem dX5_townWith_24 : decode cX5_townWith 24 = .ok (.if_icmp .ne 5, 3) := dk_160 0 5 (dk_at dksX5_townWith_1 0 rfl rfl)
theorem dX5_townWith_27 : decode cX5_townWith 27 = .ok (.iload_n 2, 1) := dk_28 (dk_at dksX5_townWith_1 3 rfl rfl)
theorem dX5_townWith_28 : decode cX5_townWith 28 = .ok (.ireturn, 1) := dk_172 (dk_at dksX5_townWith_1 4 rfl rfl)
theorem dX5_townWith_29 : decode cX5_townWith 29 = .ok (.iinc 2 1, 3) := dk_132 2 1 (dk_at dksX5_townWith_1 5 rfl rfl)
theorem dX5_townWith_32 : decode cX5_townWith 32 = .ok (.goto (-30), 3) := dk_167 255 226 (dk_at dksX5_townWith_1 8 rfl rfl)
theorem dX5_townWith_35 : decode cX5_townWith 35 = .ok (.iconst (-1), 1) := dk_2 (dk_at dksX5_townWith_1 11 rfl rfl)
theorem dX5_townWith_36 : decode cX5_townWith 36 = .ok (.ireturn, 1) := dk_172 (dk_at dksX5_townWith_1 12 rfl rfl)
abbrev cX5_town : ByteArray := prog_5_method_4_code
def yX5_town : MethodName := ⟨RX5, "town", "(I)LBadCodes$Town;"⟩
def dkwX5_town_0 : List UInt8 := [42, 180, 0, 37, 27, 185, 0, 62, 2, 0, 192, 0, 82, 176]
abbrev dktX5_town_0 : List UInt8 := dkwX5_town_0 ++ []
theorem dksX5_town_0 : cX5_town.data.toList.drop 0 = dktX5_town_0 := by decide +kernel
theorem dX5_town_0 : decode cX5_town 0 = .ok (.aload_n 0, 1) := dk_42 (dk_at dksX5_town_0 0 rfl rfl)
theorem dX5_town_1 : decode cX5_town 1 = .ok (.getfield 37, 3) := dk_180 0 37 (dk_at dksX5_town_0 1 rfl rfl)
theorem dX5_town_4 : decode cX5_town 4 = .ok (.iload_n 1, 1) := dk_27 (dk_at dksX5_town_0 4 rfl rfl)
theorem dX5_town_5 : decode cX5_town 5 = .ok (.invokeinterface 62 2, 5) := by decide +kernel
theorem dX5_town_10 : decode cX5_town 10 = .ok (.checkcast 82, 3) := dk_192 0 82 (dk_at dksX5_town_0 10 rfl rfl)
theorem dX5_town_13 : decode cX5_town 13 = .ok (.areturn, 1) := dk_176 (dk_at dksX5_town_0 13 rfl rfl)
abbrev cX5_sortsAll : ByteArray := prog_5_method_22_code
def yX5_sortsAll : MethodName := ⟨RX5, "sortsAll", "()I"⟩
def dkwX5_sortsAll_2 : List UInt8 := [60, 132, 2, 1, 167, 255, 209, 27, 172]
abbrev dktX5_sortsAll_2 : List UInt8 := dkwX5_sortsAll_2 ++ []
def dkwX5_sortsAll_1 : List UInt8 := [180, 0, 143, 154, 0, 16, 42, 28, 182, 0, 183, 2, 159, 0, 7, 4, 167, 0, 4, 3, 184, 0, 111, 96]
abbrev dktX5_sortsAll_1 : List UInt8 := dkwX5_sortsAll_1 ++ dktX5_sortsAll_2
def dkwX5_sortsAll_0 : List UInt8 := [3, 60, 3, 61, 28, 42, 180, 0, 14, 185, 0, 56, 1, 0, 162, 0, 40, 27, 42, 28, 182, 0, 91]
abbrev dktX5_sortsAll_0 : List UInt8 := dkwX5_sortsAll_0 ++ dktX5_sortsAll_1
theorem dksX5_sortsAll_0 : cX5_sortsAll.data.toList.drop 0 = dktX5_sortsAll_0 := by decide +kernel
theorem dksX5_sortsAll_1 : cX5_sortsAll.data.toList.drop 23 = dktX5_sortsAll_1 := dk_seg dksX5_sortsAll_0 23 rfl rfl
theorem dksX5_sortsAll_2 : cX5_sortsAll.data.toList.drop 47 = dktX5_sortsAll_2 := dk_seg dksX5_sortsAll_1 24 rfl rfl
theorem dX5_sortsAll_0 : decode cX5_sortsAll 0 = .ok (.iconst 0, 1) := dk_3 (dk_at dksX5_sortsAll_0 0 rfl rfl)
theorem dX5_sortsAll_1 : decode cX5_sortsAll 1 = .ok (.istore_n 1, 1) := dk_60 (dk_at dksX5_sortsAll_0 1 rfl rfl)
theorem dX5_sortsAll_2 : decode cX5_sortsAll 2 = .ok (.iconst 0, 1) := dk_3 (dk_at dksX5_sortsAll_0 2 rfl rfl)
theorem dX5_sortsAll_3 : decode cX5_sortsAll 3 = .ok (.istore_n 2, 1) := dk_61 (dk_at dksX5_sortsAll_0 3 rfl rfl)
theorem dX5_sortsAll_4 : decode cX5_sortsAll 4 = .ok (.iload_n 2, 1) := dk_28 (dk_at dksX5_sortsAll_0 4 rfl rfl)
theorem dX5_sortsAll_5 : decode cX5_sortsAll 5 = .ok (.aload_n 0, 1) := dk_42 (dk_at dksX5_sortsAll_0 5 rfl rfl)
theorem dX5_sortsAll_6 : decode cX5_sortsAll 6 = .ok (.getfield 14, 3) := dk_180 0 14 (dk_at dksX5_sortsAll_0 6 rfl rfl)
theorem dX5_sortsAll_9 : decode cX5_sortsAll 9 = .ok (.invokeinterface 56 1, 5) := by decide +kernel
theorem dX5_sortsAll_14 : decode cX5_sortsAll 14 = .ok (.if_icmp .ge 40, 3) := dk_162 0 40 (dk_at dksX5_sortsAll_0 14 rfl rfl)
theorem dX5_sortsAll_17 : decode cX5_sortsAll 17 = .ok (.iload_n 1, 1) := dk_27 (dk_at dksX5_sortsAll_0 17 rfl rfl)
theorem dX5_sortsAll_18 : decode cX5_sortsAll 18 = .ok (.aload_n 0, 1) := dk_42 (dk_at dksX5_sortsAll_0 18 rfl rfl)
theorem dX5_sortsAll_19 : decode cX5_sortsAll 19 = .ok (.iload_n 2, 1) := dk_28 (dk_at dksX5_sortsAll_0 19 rfl rfl)
theorem dX5_sortsAll_20 : decode cX5_sortsAll 20 = .ok (.invokevirtual 91, 3) := dk_182 0 91 (dk_at dksX5_sortsAll_0 20 rfl rfl)
theorem dX5_sortsAll_23 : decode cX5_sortsAll 23 = .ok (.getfield 143, 3) := dk_180 0 143 (dk_at dksX5_sortsAll_1 0 rfl rfl)
theorem dX5_sortsAll_26 : decode cX5_sortsAll 26 = .ok (.ifCond .ne 16, 3) := dk_154 0 16 (dk_at dksX5_sortsAll_1 3 rfl rfl)
theorem dX5_sortsAll_29 : decode cX5_sortsAll 29 = .ok (.aload_n 0, 1) := dk_42 (dk_at dksX5_sortsAll_1 6 rfl rfl)
theorem dX5_sortsAll_30 : decode cX5_sortsAll 30 = .ok (.iload_n 2, 1) := dk_28 (dk_at dksX5_sortsAll_1 7 rfl rfl)
theorem dX5_sortsAll_31 : decode cX5_sortsAll 31 = .ok (.invokevirtual 183, 3) := dk_182 0 183 (dk_at dksX5_sortsAll_1 8 rfl rfl)
theorem dX5_sortsAll_34 : decode cX5_sortsAll 34 = .ok (.iconst (-1), 1) := dk_2 (dk_at dksX5_sortsAll_1 11 rfl rfl)
theorem dX5_sortsAll_35 : decode cX5_sortsAll 35 = .ok (.if_icmp .eq 7, 3) := dk_159 0 7 (dk_at dksX5_sortsAll_1 12 rfl rfl)
theorem dX5_sortsAll_38 : decode cX5_sortsAll 38 = .ok (.iconst 1, 1) := dk_4 (dk_at dksX5_sortsAll_1 15 rfl rfl)
theorem dX5_sortsAll_39 : decode cX5_sortsAll 39 = .ok (.goto 4, 3) := dk_167 0 4 (dk_at dksX5_sortsAll_1 16 rfl rfl)
theorem dX5_sortsAll_42 : decode cX5_sortsAll 42 = .ok (.iconst 0, 1) := dk_3 (dk_at dksX5_sortsAll_1 19 rfl rfl)
theorem dX5_sortsAll_43 : decode cX5_sortsAll 43 = .ok (.invokestatic 111, 3) := dk_184 0 111 (dk_at dksX5_sortsAll_1 20 rfl rfl)
theorem dX5_sortsAll_46 : decode cX5_sortsAll 46 = .ok (.iadd, 1) := dk_96 (dk_at dksX5_sortsAll_1 23 rfl rfl)
theorem dX5_sortsAll_47 : decode cX5_sortsAll 47 = .ok (.istore_n 1, 1) := dk_60 (dk_at dksX5_sortsAll_2 0 rfl rfl)
theorem dX5_sortsAll_48 : decode cX5_sortsAll 48 = .ok (.iinc 2 1, 3) := dk_132 2 1 (dk_at dksX5_sortsAll_2 1 rfl rfl)
theorem dX5_sortsAll_51 : decode cX5_sortsAll 51 = .ok (.goto (-47), 3) := dk_167 255 209 (dk_at dksX5_sortsAll_2 4 rfl rfl)
theorem dX5_sortsAll_54 : decode cX5_sortsAll 54 = .ok (.iload_n 1, 1) := dk_27 (dk_at dksX5_sortsAll_2 7 rfl rfl)
theorem dX5_sortsAll_55 : decode cX5_sortsAll 55 = .ok (.ireturn, 1) := dk_172 (dk_at dksX5_sortsAll_2 8 rfl rfl)
abbrev cX5_sorts : ByteArray := prog_5_method_21_code
def yX5_sorts : MethodName := ⟨RX5, "sorts", "(I)I"⟩
def dkwX5_sorts_3 : List UInt8 := [44, 180, 0, 175, 172]
abbrev dktX5_sorts_3 : List UInt8 := dkwX5_sorts_3 ++ []
def dkwX5_sorts_2 : List UInt8 := [182, 0, 172, 181, 0, 180, 44, 29, 181, 0, 143, 167, 0, 13, 58, 5, 44, 29, 181, 0, 143, 25, 5, 191]
abbrev dktX5_sorts_2 : List UInt8 := dkwX5_sorts_2 ++ dktX5_sorts_3
def dkwX5_sorts_1 : List UInt8 := [182, 0, 84, 182, 0, 158, 182, 0, 177, 4, 62, 44, 29, 181, 0, 143, 167, 0, 32, 58, 4, 44, 25, 4]
abbrev dktX5_sorts_1 : List UInt8 := dkwX5_sorts_1 ++ dktX5_sorts_2
def dkwX5_sorts_0 : List UInt8 := [42, 27, 182, 0, 91, 77, 5, 62, 44, 42, 27, 182, 0, 169, 181, 0, 175, 42, 42, 44, 180, 0, 175]
abbrev dktX5_sorts_0 : List UInt8 := dkwX5_sorts_0 ++ dktX5_sorts_1
theorem dksX5_sorts_0 : cX5_sorts.data.toList.drop 0 = dktX5_sorts_0 := by decide +kernel
theorem dksX5_sorts_1 : cX5_sorts.data.toList.drop 23 = dktX5_sorts_1 := dk_seg dksX5_sorts_0 23 rfl rfl
theorem dksX5_sorts_2 : cX5_sorts.data.toList.drop 47 = dktX5_sorts_2 := dk_seg dksX5_sorts_1 24 rfl rfl
theorem dksX5_sorts_3 : cX5_sorts.data.toList.drop 71 = dktX5_sorts_3 := dk_seg dksX5_sorts_2 24 rfl rfl
theorem dX5_sorts_0 : decode cX5_sorts 0 = .ok (.aload_n 0, 1) := dk_42 (dk_at dksX5_sorts_0 0 rfl rfl)
theorem dX5_sorts_1 : decode cX5_sorts 1 = .ok (.iload_n 1, 1) := dk_27 (dk_at dksX5_sorts_0 1 rfl rfl)
theorem dX5_sorts_2 : decode cX5_sorts 2 = .ok (.invokevirtual 91, 3) := dk_182 0 91 (dk_at dksX5_sorts_0 2 rfl rfl)
theorem dX5_sorts_5 : decode cX5_sorts 5 = .ok (.astore_n 2, 1) := dk_77 (dk_at dksX5_sorts_0 5 rfl rfl)
theorem dX5_sorts_6 : decode cX5_sorts 6 = .ok (.iconst 2, 1) := dk_5 (dk_at dksX5_sorts_0 6 rfl rfl)
theorem dX5_sorts_7 : decode cX5_sorts 7 = .ok (.istore_n 3, 1) := dk_62 (dk_at dksX5_sorts_0 7 rfl rfl)
theorem dX5_sorts_8 : decode cX5_sorts 8 = .ok (.aload_n 2, 1) := dk_44 (dk_at dksX5_sorts_0 8 rfl rfl)
theorem dX5_sorts_9 : decode cX5_sorts 9 = .ok (.aload_n 0, 1) := dk_42 (dk_at dksX5_sorts_0 9 rfl rfl)
theorem dX5_sorts_10 : decode cX5_sorts 10 = .ok (.iload_n 1, 1) := dk_27 (dk_at dksX5_sorts_0 10 rfl rfl)
theorem dX5_sorts_11 : decode cX5_sorts 11 = .ok (.invokevirtual 169, 3) := dk_182 0 169 (dk_at dksX5_sorts_0 11 rfl rfl)
theorem dX5_sorts_14 : decode cX5_sorts 14 = .ok (.putfield 175, 3) := dk_181 0 175 (dk_at dksX5_sorts_0 14 rfl rfl)
theorem dX5_sorts_17 : decode cX5_sorts 17 = .ok (.aload_n 0, 1) := dk_42 (dk_at dksX5_sorts_0 17 rfl rfl)
theorem dX5_sorts_18 : decode cX5_sorts 18 = .ok (.aload_n 0, 1) := dk_42 (dk_at dksX5_sorts_0 18 rfl rfl)
theorem dX5_sorts_19 : decode cX5_sorts 19 = .ok (.aload_n 2, 1) := dk_44 (dk_at dksX5_sorts_0 19 rfl rfl)
theorem dX5_sorts_20 : decode cX5_sorts 20 = .ok (.getfield 175, 3) := dk_180 0 175 (dk_at dksX5_sorts_0 20 rfl rfl)
theorem dX5_sorts_23 : decode cX5_sorts 23 = .ok (.invokevirtual 84, 3) := dk_182 0 84 (dk_at dksX5_sorts_1 0 rfl rfl)
theorem dX5_sorts_26 : decode cX5_sorts 26 = .ok (.invokevirtual 158, 3) := dk_182 0 158 (dk_at dksX5_sorts_1 3 rfl rfl)
theorem dX5_sorts_29 : decode cX5_sorts 29 = .ok (.invokevirtual 177, 3) := dk_182 0 177 (dk_at dksX5_sorts_1 6 rfl rfl)
theorem dX5_sorts_32 : decode cX5_sorts 32 = .ok (.iconst 1, 1) := dk_4 (dk_at dksX5_sorts_1 9 rfl rfl)
theorem dX5_sorts_33 : decode cX5_sorts 33 = .ok (.istore_n 3, 1) := dk_62 (dk_at dksX5_sorts_1 10 rfl rfl)
theorem dX5_sorts_34 : decode cX5_sorts 34 = .ok (.aload_n 2, 1) := dk_44 (dk_at dksX5_sorts_1 11 rfl rfl)
theorem dX5_sorts_35 : decode cX5_sorts 35 = .ok (.iload_n 3, 1) := dk_29 (dk_at dksX5_sorts_1 12 rfl rfl)
theorem dX5_sorts_36 : decode cX5_sorts 36 = .ok (.putfield 143, 3) := dk_181 0 143 (dk_at dksX5_sorts_1 13 rfl rfl)
theorem dX5_sorts_39 : decode cX5_sorts 39 = .ok (.goto 32, 3) := dk_167 0 32 (dk_at dksX5_sorts_1 16 rfl rfl)
theorem dX5_sorts_42 : decode cX5_sorts 42 = .ok (.astore 4, 2) := dk_58 4 (dk_at dksX5_sorts_1 19 rfl rfl)
theorem dX5_sorts_44 : decode cX5_sorts 44 = .ok (.aload_n 2, 1) := dk_44 (dk_at dksX5_sorts_1 21 rfl rfl)
theorem dX5_sorts_45 : decode cX5_sorts 45 = .ok (.aload 4, 2) := dk_25 4 (dk_at dksX5_sorts_1 22 rfl rfl)
theorem dX5_sorts_47 : decode cX5_sorts 47 = .ok (.invokevirtual 172, 3) := dk_182 0 172 (dk_at dksX5_sorts_2 0 rfl rfl)
theorem dX5_sorts_50 : decode cX5_sorts 50 = .ok (.putfield 180, 3) := dk_181 0 180 (dk_at dksX5_sorts_2 3 rfl rfl)
theorem dX5_sorts_53 : decode cX5_sorts 53 = .ok (.aload_n 2, 1) := dk_44 (dk_at dksX5_sorts_2 6 rfl rfl)
theorem dX5_sorts_54 : decode cX5_sorts 54 = .ok (.iload_n 3, 1) := dk_29 (dk_at dksX5_sorts_2 7 rfl rfl)
theorem dX5_sorts_55 : decode cX5_sorts 55 = .ok (.putfield 143, 3) := dk_181 0 143 (dk_at dksX5_sorts_2 8 rfl rfl)
theorem dX5_sorts_58 : decode cX5_sorts 58 = .ok (.goto 13, 3) := dk_167 0 13 (dk_at dksX5_sorts_2 11 rfl rfl)
theorem dX5_sorts_61 : decode cX5_sorts 61 = .ok (.astore 5, 2) := dk_58 5 (dk_at dksX5_sorts_2 14 rfl rfl)
theorem dX5_sorts_63 : decode cX5_sorts 63 = .ok (.aload_n 2, 1) := dk_44 (dk_at dksX5_sorts_2 16 rfl rfl)
theorem dX5_sorts_64 : decode cX5_sorts 64 = .ok (.iload_n 3, 1) := dk_29 (dk_at dksX5_sorts_2 17 rfl rfl)
theorem dX5_sorts_65 : decode cX5_sorts 65 = .ok (.putfield 143, 3) := dk_181 0 143 (dk_at dksX5_sorts_2 18 rfl rfl)
theorem dX5_sorts_68 : decode cX5_sorts 68 = .ok (.aload 5, 2) := dk_25 5 (dk_at dksX5_sorts_2 21 rfl rfl)
theorem dX5_sorts_70 : decode cX5_sorts 70 = .ok (.athrow, 1) := dk_191 (dk_at dksX5_sorts_2 23 rfl rfl)
theorem dX5_sorts_71 : decode cX5_sorts 71 = .ok (.aload_n 2, 1) := dk_44 (dk_at dksX5_sorts_3 0 rfl rfl)
theorem dX5_sorts_72 : decode cX5_sorts 72 = .ok (.getfield 175, 3) := dk_180 0 175 (dk_at dksX5_sorts_3 1 rfl rfl)
theorem dX5_sorts_75 : decode cX5_sorts 75 = .ok (.ireturn, 1) := dk_172 (dk_at dksX5_sorts_3 4 rfl rfl)
abbrev cX5_mustBeSorted : ByteArray := prog_5_method_18_code
def yX5_mustBeSorted : MethodName := ⟨RX5, "mustBeSorted", "(I)I"⟩
def dkwX5_mustBeSorted_1 : List UInt8 := [89, 44, 183, 0, 166, 191]
abbrev dktX5_mustBeSorted_1 : List UInt8 := dkwX5_mustBeSorted_1 ++ []
def dkwX5_mustBeSorted_0 : List UInt8 := [42, 27, 182, 0, 155, 61, 42, 42, 28, 182, 0, 84, 182, 0, 158, 182, 0, 161, 28, 172, 77, 187, 0, 164]
abbrev dktX5_mustBeSorted_0 : List UInt8 := dkwX5_mustBeSorted_0 ++ dktX5_mustBeSorted_1
theorem dksX5_mustBeSorted_0 : cX5_mustBeSorted.data.toList.drop 0 = dktX5_mustBeSorted_0 := by decide +kernel
theorem dksX5_mustBeSorted_1 : cX5_mustBeSorted.data.toList.drop 24 = dktX5_mustBeSorted_1 := dk_seg dksX5_mustBeSorted_0 24 rfl rfl
theorem dX5_mustBeSorted_0 : decode cX5_mustBeSorted 0 = .ok (.aload_n 0, 1) := dk_42 (dk_at dksX5_mustBeSorted_0 0 rfl rfl)
theorem dX5_mustBeSorted_1 : decode cX5_mustBeSorted 1 = .ok (.iload_n 1, 1) := dk_27 (dk_at dksX5_mustBeSorted_0 1 rfl rfl)
theorem dX5_mustBeSorted_2 : decode cX5_mustBeSorted 2 = .ok (.invokevirtual 155, 3) := dk_182 0 155 (dk_at dksX5_mustBeSorted_0 2 rfl rfl)
theorem dX5_mustBeSorted_5 : decode cX5_mustBeSorted 5 = .ok (.istore_n 2, 1) := dk_61 (dk_at dksX5_mustBeSorted_0 5 rfl rfl)
theorem dX5_mustBeSorted_6 : decode cX5_mustBeSorted 6 = .ok (.aload_n 0, 1) := dk_42 (dk_at dksX5_mustBeSorted_0 6 rfl rfl)
theorem dX5_mustBeSorted_7 : decode cX5_mustBeSorted 7 = .ok (.aload_n 0, 1) := dk_42 (dk_at dksX5_mustBeSorted_0 7 rfl rfl)
theorem dX5_mustBeSorted_8 : decode cX5_mustBeSorted 8 = .ok (.iload_n 2, 1) := dk_28 (dk_at dksX5_mustBeSorted_0 8 rfl rfl)
theorem dX5_mustBeSorted_9 : decode cX5_mustBeSorted 9 = .ok (.invokevirtual 84, 3) := dk_182 0 84 (dk_at dksX5_mustBeSorted_0 9 rfl rfl)
theorem dX5_mustBeSorted_12 : decode cX5_mustBeSorted 12 = .ok (.invokevirtual 158, 3) := dk_182 0 158 (dk_at dksX5_mustBeSorted_0 12 rfl rfl)
theorem dX5_mustBeSorted_15 : decode cX5_mustBeSorted 15 = .ok (.invokevirtual 161, 3) := dk_182 0 161 (dk_at dksX5_mustBeSorted_0 15 rfl rfl)
theorem dX5_mustBeSorted_18 : decode cX5_mustBeSorted 18 = .ok (.iload_n 2, 1) := dk_28 (dk_at dksX5_mustBeSorted_0 18 rfl rfl)
theorem dX5_mustBeSorted_19 : decode cX5_mustBeSorted 19 = .ok (.ireturn, 1) := dk_172 (dk_at dksX5_mustBeSorted_0 19 rfl rfl)
theorem dX5_mustBeSorted_20 : decode cX5_mustBeSorted 20 = .ok (.astore_n 2, 1) := dk_77 (dk_at dksX5_mustBeSorted_0 20 rfl rfl)
theorem dX5_mustBeSorted_21 : decode cX5_mustBeSorted 21 = .ok (.new 164, 3) := dk_187 0 164 (dk_at dksX5_mustBeSorted_0 21 rfl rfl)
theorem dX5_mustBeSorted_24 : decode cX5_mustBeSorted 24 = .ok (.dup, 1) := dk_89 (dk_at dksX5_mustBeSorted_1 0 rfl rfl)
theorem dX5_mustBeSorted_25 : decode cX5_mustBeSorted 25 = .ok (.aload_n 2, 1) := dk_44 (dk_at dksX5_mustBeSorted_1 1 rfl rfl)
theorem dX5_mustBeSorted_26 : decode cX5_mustBeSorted 26 = .ok (.invokespecial 166, 3) := dk_183 0 166 (dk_at dksX5_mustBeSorted_1 2 rfl rfl)
theorem dX5_mustBeSorted_29 : decode cX5_mustBeSorted 29 = .ok (.athrow, 1) := dk_191 (dk_at dksX5_mustBeSorted_1 5 rfl rfl)
abbrev cX5_mustBeDecided : ByteArray := prog_5_method_16_code
def yX5_mustBeDecided : MethodName := ⟨RX5, "mustBeDecided", "(I)I"⟩
def dkwX5_mustBeDecided_1 : List UInt8 := [172]
abbrev dktX5_mustBeDecided_1 : List UInt8 := dkwX5_mustBeDecided_1 ++ []
def dkwX5_mustBeDecided_0 : List UInt8 := [42, 27, 182, 0, 146, 61, 28, 158, 0, 12, 187, 0, 149, 89, 28, 183, 0, 151, 191, 42, 27, 182, 0, 140]
abbrev dktX5_mustBeDecided_0 : List UInt8 := dkwX5_mustBeDecided_0 ++ dktX5_mustBeDecided_1
theorem dksX5_mustBeDecided_0 : cX5_mustBeDecided.data.toList.drop 0 = dktX5_mustBeDecided_0 := by decide +kernel
theorem dksX5_mustBeDecided_1 : cX5_mustBeDecided.data.toList.drop 24 = dktX5_mustBeDecided_1 := dk_seg dksX5_mustBeDecided_0 24 rfl rfl
theorem dX5_mustBeDecided_0 : decode cX5_mustBeDecided 0 = .ok (.aload_n 0, 1) := dk_42 (dk_at dksX5_mustBeDecided_0 0 rfl rfl)
theorem dX5_mustBeDecided_1 : decode cX5_mustBeDecided 1 = .ok (.iload_n 1, 1) := dk_27 (dk_at dksX5_mustBeDecided_0 1 rfl rfl)
theorem dX5_mustBeDecided_2 : decode cX5_mustBeDecided 2 = .ok (.invokevirtual 146, 3) := dk_182 0 146 (dk_at dksX5_mustBeDecided_0 2 rfl rfl)
theorem dX5_mustBeDecided_5 : decode cX5_mustBeDecided 5 = .ok (.istore_n 2, 1) := dk_61 (dk_at dksX5_mustBeDecided_0 5 rfl rfl)
theorem dX5_mustBeDecided_6 : decode cX5_mustBeDecided 6 = .ok (.iload_n 2, 1) := dk_28 (dk_at dksX5_mustBeDecided_0 6 rfl rfl)
theorem dX5_mustBeDecided_7 : decode cX5_mustBeDecided 7 = .ok (.ifCond .le 12, 3) := dk_158 0 12 (dk_at dksX5_mustBeDecided_0 7 rfl rfl)
theorem dX5_mustBeDecided_10 : decode cX5_mustBeDecided 10 = .ok (.new 149, 3) := dk_187 0 149 (dk_at dksX5_mustBeDecided_0 10 rfl rfl)
theorem dX5_mustBeDecided_13 : decode cX5_mustBeDecided 13 = .ok (.dup, 1) := dk_89 (dk_at dksX5_mustBeDecided_0 13 rfl rfl)
theorem dX5_mustBeDecided_14 : decode cX5_mustBeDecided 14 = .ok (.iload_n 2, 1) := dk_28 (dk_at dksX5_mustBeDecided_0 14 rfl rfl)
theorem dX5_mustBeDecided_15 : decode cX5_mustBeDecided 15 = .ok (.invokespecial 151, 3) := dk_183 0 151 (dk_at dksX5_mustBeDecided_0 15 rfl rfl)
theorem dX5_mustBeDecided_18 : decode cX5_mustBeDecided 18 = .ok (.athrow, 1) := dk_191 (dk_at dksX5_mustBeDecided_0 18 rfl rfl)
theorem dX5_mustBeDecided_19 : decode cX5_mustBeDecided 19 = .ok (.aload_n 0, 1) := dk_42 (dk_at dksX5_mustBeDecided_0 19 rfl rfl)
theorem dX5_mustBeDecided_20 : decode cX5_mustBeDecided 20 = .ok (.iload_n 1, 1) := dk_27 (dk_at dksX5_mustBeDecided_0 20 rfl rfl)
theorem dX5_mustBeDecided_21 : decode cX5_mustBeDecided 21 = .ok (.invokevirtual 140, 3) := dk_182 0 140 (dk_at dksX5_mustBeDecided_0 21 rfl rfl)
theorem dX5_mustBeDecided_24 : decode cX5_mustBeDecided 24 = .ok (.ireturn, 1) := dk_172 (dk_at dksX5_mustBeDecided_1 0 rfl rfl)
abbrev cX5_whyNot : ByteArray := prog_5_method_14_code
def yX5_whyNot : MethodName := ⟨RX5, "whyNot", "(I)I"⟩
def dkwX5_whyNot_1 : List UInt8 := [182, 0, 140, 2, 160, 0, 7, 6, 167, 0, 4, 3, 172]
abbrev dktX5_whyNot_1 : List UInt8 := dkwX5_whyNot_1 ++ []
def dkwX5_whyNot_0 : List UInt8 := [42, 27, 182, 0, 118, 153, 0, 5, 4, 172, 42, 27, 182, 0, 122, 154, 0, 5, 5, 172, 42, 27]
abbrev dktX5_whyNot_0 : List UInt8 := dkwX5_whyNot_0 ++ dktX5_whyNot_1
theorem dksX5_whyNot_0 : cX5_whyNot.data.toList.drop 0 = dktX5_whyNot_0 := by decide +kernel
theorem dksX5_whyNot_1 : cX5_whyNot.data.toList.drop 22 = dktX5_whyNot_1 := dk_seg dksX5_whyNot_0 22 rfl rfl
theorem dX5_whyNot_0 : decode cX5_whyNot 0 = .ok (.aload_n 0, 1) := dk_42 (dk_at dksX5_whyNot_0 0 rfl rfl)
theorem dX5_whyNot_1 : decode cX5_whyNot 1 = .ok (.iload_n 1, 1) := dk_27 (dk_at dksX5_whyNot_0 1 rfl rfl)
theorem dX5_whyNot_2 : decode cX5_whyNot 2 = .ok (.invokevirtual 118, 3) := dk_182 0 118 (dk_at dksX5_whyNot_0 2 rfl rfl)
theorem dX5_whyNot_5 : decode cX5_whyNot 5 = .ok (.ifCond .eq 5, 3) := dk_153 0 5 (dk_at dksX5_whyNot_0 5 rfl rfl)
theorem dX5_whyNot_8 : decode cX5_whyNot 8 = .ok (.iconst 1, 1) := dk_4 (dk_at dksX5_whyNot_0 8 rfl rfl)
theorem dX5_whyNot_9 : decode cX5_whyNot 9 = .ok (.ireturn, 1) := dk_172 (dk_at dksX5_whyNot_0 9 rfl rfl)
theorem dX5_whyNot_10 : decode cX5_whyNot 10 = .ok (.aload_n 0, 1) := dk_42 (dk_at dksX5_whyNot_0 10 rfl rfl)
theorem dX5_whyNot_11 : decode cX5_whyNot 11 = .ok (.iload_n 1, 1) := dk_27 (dk_at dksX5_whyNot_0 11 rfl rfl)
theorem dX5_whyNot_12 : decode cX5_whyNot 12 = .ok (.invokevirtual 122, 3) := dk_182 0 122 (dk_at dksX5_whyNot_0 12 rfl rfl)
theorem dX5_whyNot_15 : decode cX5_whyNot 15 = .ok (.ifCond .ne 5, 3) := dk_154 0 5 (dk_at dksX5_whyNot_0 15 rfl rfl)
theorem dX5_whyNot_18 : decode cX5_whyNot 18 = .ok (.iconst 2, 1) := dk_5 (dk_at dksX5_whyNot_0 18 rfl rfl)
theorem dX5_whyNot_19 : decode cX5_whyNot 19 = .ok (.ireturn, 1) := dk_172 (dk_at dksX5_whyNot_0 19 rfl rfl)
theorem dX5_whyNot_20 : decode cX5_whyNot 20 = .ok (.aload_n 0, 1) := dk_42 (dk_at dksX5_whyNot_0 20 rfl rfl)
theorem dX5_whyNot_21 : decode cX5_whyNot 21 = .ok (.iload_n 1, 1) := dk_27 (dk_at dksX5_whyNot_0 21 rfl rfl)
theorem dX5_whyNot_22 : decode cX5_whyNot 22 = .ok (.invokevirtual 140, 3) := dk_182 0 140 (dk_at dksX5_whyNot_1 0 rfl rfl)
theorem dX5_whyNot_25 : decode cX5_whyNot 25 = .ok (.iconst (-1), 1) := dk_2 (dk_at dksX5_whyNot_1 3 rfl rfl)
theorem dX5_whyNot_26 : decode cX5_whyNot 26 = .ok (.if_icmp .ne 7, 3) := dk_160 0 7 (dk_at dksX5_whyNot_1 4 rfl rfl)
theorem dX5_whyNot_29 : decode cX5_whyNot 29 = .ok (.iconst 3, 1) := dk_6 (dk_at dksX5_whyNot_1 7 rfl rfl)
theorem dX5_whyNot_30 : decode cX5_whyNot 30 = .ok (.goto 4, 3) := dk_167 0 4 (dk_at dksX5_whyNot_1 8 rfl rfl)
theorem dX5_whyNot_33 : decode cX5_whyNot 33 = .ok (.iconst 0, 1) := dk_3 (dk_at dksX5_whyNot_1 11 rfl rfl)
theorem dX5_whyNot_34 : decode cX5_whyNot 34 = .ok (.ireturn, 1) := dk_172 (dk_at dksX5_whyNot_1 12 rfl rfl)
abbrev cX5_isTooBad : ByteArray := prog_5_method_9_code
def yX5_isTooBad : MethodName := ⟨RX5, "isTooBad", "(I)Z"⟩
def dkwX5_isTooBad_0 : List UInt8 := [42, 27, 182, 0, 91, 182, 0, 115, 6, 164, 0, 7, 4, 167, 0, 4, 3, 172]
abbrev dktX5_isTooBad_0 : List UInt8 := dkwX5_isTooBad_0 ++ []
theorem dksX5_isTooBad_0 : cX5_isTooBad.data.toList.drop 0 = dktX5_isTooBad_0 := by decide +kernel
theorem dX5_isTooBad_0 : decode cX5_isTooBad 0 = .ok (.aload_n 0, 1) := dk_42 (dk_at dksX5_isTooBad_0 0 rfl rfl)
theorem dX5_isTooBad_1 : decode cX5_isTooBad 1 = .ok (.iload_n 1, 1) := dk_27 (dk_at dksX5_isTooBad_0 1 rfl rfl)
theorem dX5_isTooBad_2 : decode cX5_isTooBad 2 = .ok (.invokevirtual 91, 3) := dk_182 0 91 (dk_at dksX5_isTooBad_0 2 rfl rfl)
theorem dX5_isTooBad_5 : decode cX5_isTooBad 5 = .ok (.invokevirtual 115, 3) := dk_182 0 115 (dk_at dksX5_isTooBad_0 5 rfl rfl)
theorem dX5_isTooBad_8 : decode cX5_isTooBad 8 = .ok (.iconst 3, 1) := dk_6 (dk_at dksX5_isTooBad_0 8 rfl rfl)
theorem dX5_isTooBad_9 : decode cX5_isTooBad 9 = .ok (.if_icmp .le 7, 3) := dk_164 0 7 (dk_at dksX5_isTooBad_0 9 rfl rfl)
theorem dX5_isTooBad_12 : decode cX5_isTooBad 12 = .ok (.iconst 1, 1) := dk_4 (dk_at dksX5_isTooBad_0 12 rfl rfl)
theorem dX5_isTooBad_13 : decode cX5_isTooBad 13 = .ok (.goto 4, 3) := dk_167 0 4 (dk_at dksX5_isTooBad_0 13 rfl rfl)
theorem dX5_isTooBad_16 : decode cX5_isTooBad 16 = .ok (.iconst 0, 1) := dk_3 (dk_at dksX5_isTooBad_0 16 rfl rfl)
theorem dX5_isTooBad_17 : decode cX5_isTooBad 17 = .ok (.ireturn, 1) := dk_172 (dk_at dksX5_isTooBad_0 17 rfl rfl)
abbrev cX5_bestMany : ByteArray := prog_5_method_8_code
def yX5_bestMany : MethodName := ⟨RX5, "bestMany", "(I)I"⟩
def dkwX5_bestMany_2 : List UInt8 := [167, 0, 4, 3, 184, 0, 111, 96, 62, 132, 4, 1, 167, 255, 209, 29, 172]
abbrev dktX5_bestMany_2 : List UInt8 := dkwX5_bestMany_2 ++ []
def dkwX5_bestMany_1 : List UInt8 := [162, 0, 39, 29, 28, 42, 180, 0, 40, 163, 0, 18, 42, 27, 21, 4, 182, 0, 99, 28, 160, 0, 7, 4]
abbrev dktX5_bestMany_1 : List UInt8 := dkwX5_bestMany_1 ++ dktX5_bestMany_2
def dkwX5_bestMany_0 : List UInt8 := [42, 27, 182, 0, 107, 61, 3, 62, 3, 54, 4, 21, 4, 42, 180, 0, 37, 185, 0, 56, 1, 0]
abbrev dktX5_bestMany_0 : List UInt8 := dkwX5_bestMany_0 ++ dktX5_bestMany_1
theorem dksX5_bestMany_0 : cX5_bestMany.data.toList.drop 0 = dktX5_bestMany_0 := by decide +kernel
theorem dksX5_bestMany_1 : cX5_bestMany.data.toList.drop 22 = dktX5_bestMany_1 := dk_seg dksX5_bestMany_0 22 rfl rfl
theorem dksX5_bestMany_2 : cX5_bestMany.data.toList.drop 46 = dktX5_bestMany_2 := dk_seg dksX5_bestMany_1 24 rfl rfl
theorem dX5_bestMany_0 : decode cX5_bestMany 0 = .ok (.aload_n 0, 1) := dk_42 (dk_at dksX5_bestMany_0 0 rfl rfl)
theorem dX5_bestMany_1 : decode cX5_bestMany 1 = .ok (.iload_n 1, 1) := dk_27 (dk_at dksX5_bestMany_0 1 rfl rfl)
theorem dX5_bestMany_2 : decode cX5_bestMany 2 = .ok (.invokevirtual 107, 3) := dk_182 0 107 (dk_at dksX5_bestMany_0 2 rfl rfl)
theorem dX5_bestMany_5 : decode cX5_bestMany 5 = .ok (.istore_n 2, 1) := dk_61 (dk_at dksX5_bestMany_0 5 rfl rfl)
theorem dX5_bestMany_6 : decode cX5_bestMany 6 = .ok (.iconst 0, 1) := dk_3 (dk_at dksX5_bestMany_0 6 rfl rfl)
theorem dX5_bestMany_7 : decode cX5_bestMany 7 = .ok (.istore_n 3, 1) := dk_62 (dk_at dksX5_bestMany_0 7 rfl rfl)
theorem dX5_bestMany_8 : decode cX5_bestMany 8 = .ok (.iconst 0, 1) := dk_3 (dk_at dksX5_bestMany_0 8 rfl rfl)
theorem dX5_bestMany_9 : decode cX5_bestMany 9 = .ok (.istore 4, 2) := dk_54 4 (dk_at dksX5_bestMany_0 9 rfl rfl)
theorem dX5_bestMany_11 : decode cX5_bestMany 11 = .ok (.iload 4, 2) := dk_21 4 (dk_at dksX5_bestMany_0 11 rfl rfl)
theorem dX5_bestMany_13 : decode cX5_bestMany 13 = .ok (.aload_n 0, 1) := dk_42 (dk_at dksX5_bestMany_0 13 rfl rfl)
theorem dX5_bestMany_14 : decode cX5_bestMany 14 = .ok (.getfield 37, 3) := dk_180 0 37 (dk_at dksX5_bestMany_0 14 rfl rfl)
theorem dX5_bestMany_17 : decode cX5_bestMany 17 = .ok (.invokeinterface 56 1, 5) := by decide +kernel
theorem dX5_bestMany_22 : decode cX5_bestMany 22 = .ok (.if_icmp .ge 39, 3) := dk_162 0 39 (dk_at dksX5_bestMany_1 0 rfl rfl)
theorem dX5_bestMany_25 : decode cX5_bestMany 25 = .ok (.iload_n 3, 1) := dk_29 (dk_at dksX5_bestMany_1 3 rfl rfl)
theorem dX5_bestMany_26 : decode cX5_bestMany 26 = .ok (.iload_n 2, 1) := dk_28 (dk_at dksX5_bestMany_1 4 rfl rfl)
theorem dX5_bestMany_27 : decode cX5_bestMany 27 = .ok (.aload_n 0, 1) := dk_42 (dk_at dksX5_bestMany_1 5 rfl rfl)
theorem dX5_bestMany_28 : decode cX5_bestMany 28 = .ok (.getfield 40, 3) := dk_180 0 40 (dk_at dksX5_bestMany_1 6 rfl rfl)
theorem dX5_bestMany_31 : decode cX5_bestMany 31 = .ok (.if_icmp .gt 18, 3) := dk_163 0 18 (dk_at dksX5_bestMany_1 9 rfl rfl)
theorem dX5_bestMany_34 : decode cX5_bestMany 34 = .ok (.aload_n 0, 1) := dk_42 (dk_at dksX5_bestMany_1 12 rfl rfl)
theorem dX5_bestMany_35 : decode cX5_bestMany 35 = .ok (.iload_n 1, 1) := dk_27 (dk_at dksX5_bestMany_1 13 rfl rfl)
theorem dX5_bestMany_36 : decode cX5_bestMany 36 = .ok (.iload 4, 2) := dk_21 4 (dk_at dksX5_bestMany_1 14 rfl rfl)
theorem dX5_bestMany_38 : decode cX5_bestMany 38 = .ok (.invokevirtual 99, 3) := dk_182 0 99 (dk_at dksX5_bestMany_1 16 rfl rfl)
theorem dX5_bestMany_41 : decode cX5_bestMany 41 = .ok (.iload_n 2, 1) := dk_28 (dk_at dksX5_bestMany_1 19 rfl rfl)
theorem dX5_bestMany_42 : decode cX5_bestMany 42 = .ok (.if_icmp .ne 7, 3) := dk_160 0 7 (dk_at dksX5_bestMany_1 20 rfl rfl)
theorem dX5_bestMany_45 : decode cX5_bestMany 45 = .ok (.iconst 1, 1) := dk_4 (dk_at dksX5_bestMany_1 23 rfl rfl)
theorem dX5_bestMany_46 : decode cX5_bestMany 46 = .ok (.goto 4, 3) := dk_167 0 4 (dk_at dksX5_bestMany_2 0 rfl rfl)
theorem dX5_bestMany_49 : decode cX5_bestMany 49 = .ok (.iconst 0, 1) := dk_3 (dk_at dksX5_bestMany_2 3 rfl rfl)
theorem dX5_bestMany_50 : decode cX5_bestMany 50 = .ok (.invokestatic 111, 3) := dk_184 0 111 (dk_at dksX5_bestMany_2 4 rfl rfl)
theorem dX5_bestMany_53 : decode cX5_bestMany 53 = .ok (.iadd, 1) := dk_96 (dk_at dksX5_bestMany_2 7 rfl rfl)
theorem dX5_bestMany_54 : decode cX5_bestMany 54 = .ok (.istore_n 3, 1) := dk_62 (dk_at dksX5_bestMany_2 8 rfl rfl)
theorem dX5_bestMany_55 : decode cX5_bestMany 55 = .ok (.iinc 4 1, 3) := dk_132 4 1 (dk_at dksX5_bestMany_2 9 rfl rfl)
theorem dX5_bestMany_58 : decode cX5_bestMany 58 = .ok (.goto (-47), 3) := dk_167 255 209 (dk_at dksX5_bestMany_2 12 rfl rfl)
theorem dX5_bestMany_61 : decode cX5_bestMany 61 = .ok (.iload_n 3, 1) := dk_29 (dk_at dksX5_bestMany_2 15 rfl rfl)
theorem dX5_bestMany_62 : decode cX5_bestMany 62 = .ok (.ireturn, 1) := dk_172 (dk_at dksX5_bestMany_2 16 rfl rfl)
abbrev cX5_least : ByteArray := prog_5_method_7_code
def yX5_least : MethodName := ⟨RX5, "least", "(I)I"⟩
def dkwX5_least_1 : List UInt8 := [182, 0, 99, 184, 0, 102, 61, 132, 3, 1, 167, 255, 229, 28, 172]
abbrev dktX5_least_1 : List UInt8 := dkwX5_least_1 ++ []
def dkwX5_least_0 : List UInt8 := [16, 11, 61, 3, 62, 29, 42, 180, 0, 37, 185, 0, 56, 1, 0, 162, 0, 20, 28, 42, 27, 29]
abbrev dktX5_least_0 : List UInt8 := dkwX5_least_0 ++ dktX5_least_1
theorem dksX5_least_0 : cX5_least.data.toList.drop 0 = dktX5_least_0 := by decide +kernel
theorem dksX5_least_1 : cX5_least.data.toList.drop 22 = dktX5_least_1 := dk_seg dksX5_least_0 22 rfl rfl
theorem dX5_least_0 : decode cX5_least 0 = .ok (.bipush 11, 2) := dk_16 11 (dk_at dksX5_least_0 0 rfl rfl)
theorem dX5_least_2 : decode cX5_least 2 = .ok (.istore_n 2, 1) := dk_61 (dk_at dksX5_least_0 2 rfl rfl)
theorem dX5_least_3 : decode cX5_least 3 = .ok (.iconst 0, 1) := dk_3 (dk_at dksX5_least_0 3 rfl rfl)
theorem dX5_least_4 : decode cX5_least 4 = .ok (.istore_n 3, 1) := dk_62 (dk_at dksX5_least_0 4 rfl rfl)
theorem dX5_least_5 : decode cX5_least 5 = .ok (.iload_n 3, 1) := dk_29 (dk_at dksX5_least_0 5 rfl rfl)
theorem dX5_least_6 : decode cX5_least 6 = .ok (.aload_n 0, 1) := dk_42 (dk_at dksX5_least_0 6 rfl rfl)
theorem dX5_least_7 : decode cX5_least 7 = .ok (.getfield 37, 3) := dk_180 0 37 (dk_at dksX5_least_0 7 rfl rfl)
theorem dX5_least_10 : decode cX5_least 10 = .ok (.invokeinterface 56 1, 5) := by decide +kernel
theorem dX5_least_15 : decode cX5_least 15 = .ok (.if_icmp .ge 20, 3) := dk_162 0 20 (dk_at dksX5_least_0 15 rfl rfl)
theorem dX5_least_18 : decode cX5_least 18 = .ok (.iload_n 2, 1) := dk_28 (dk_at dksX5_least_0 18 rfl rfl)
theorem dX5_least_19 : decode cX5_least 19 = .ok (.aload_n 0, 1) := dk_42 (dk_at dksX5_least_0 19 rfl rfl)
theorem dX5_least_20 : decode cX5_least 20 = .ok (.iload_n 1, 1) := dk_27 (dk_at dksX5_least_0 20 rfl rfl)
theorem dX5_least_21 : decode cX5_least 21 = .ok (.iload_n 3, 1) := dk_29 (dk_at dksX5_least_0 21 rfl rfl)
theorem dX5_least_22 : decode cX5_least 22 = .ok (.invokevirtual 99, 3) := dk_182 0 99 (dk_at dksX5_least_1 0 rfl rfl)
theorem dX5_least_25 : decode cX5_least 25 = .ok (.invokestatic 102, 3) := dk_184 0 102 (dk_at dksX5_least_1 3 rfl rfl)
theorem dX5_least_28 : decode cX5_least 28 = .ok (.istore_n 2, 1) := dk_61 (dk_at dksX5_least_1 6 rfl rfl)
theorem dX5_least_29 : decode cX5_least 29 = .ok (.iinc 3 1, 3) := dk_132 3 1 (dk_at dksX5_least_1 7 rfl rfl)
theorem dX5_least_32 : decode cX5_least 32 = .ok (.goto (-27), 3) := dk_167 255 229 (dk_at dksX5_least_1 10 rfl rfl)
theorem dX5_least_35 : decode cX5_least 35 = .ok (.iload_n 2, 1) := dk_28 (dk_at dksX5_least_1 13 rfl rfl)
theorem dX5_least_36 : decode cX5_least 36 = .ok (.ireturn, 1) := dk_172 (dk_at dksX5_least_1 14 rfl rfl)
abbrev cX5_distance : ByteArray := prog_5_method_6_code
def yX5_distance : MethodName := ⟨RX5, "distance", "(II)I"⟩
def dkwX5_distance_0 : List UInt8 := [42, 27, 182, 0, 91, 42, 28, 182, 0, 84, 182, 0, 95, 172]
abbrev dktX5_distance_0 : List UInt8 := dkwX5_distance_0 ++ []
theorem dksX5_distance_0 : cX5_distance.data.toList.drop 0 = dktX5_distance_0 := by decide +kernel
theorem dX5_distance_0 : decode cX5_distance 0 = .ok (.aload_n 0, 1) := dk_42 (dk_at dksX5_distance_0 0 rfl rfl)
theorem dX5_distance_1 : decode cX5_distance 1 = .ok (.iload_n 1, 1) := dk_27 (dk_at dksX5_distance_0 1 rfl rfl)
theorem dX5_distance_2 : decode cX5_distance 2 = .ok (.invokevirtual 91, 3) := dk_182 0 91 (dk_at dksX5_distance_0 2 rfl rfl)
theorem dX5_distance_5 : decode cX5_distance 5 = .ok (.aload_n 0, 1) := dk_42 (dk_at dksX5_distance_0 5 rfl rfl)
theorem dX5_distance_6 : decode cX5_distance 6 = .ok (.iload_n 2, 1) := dk_28 (dk_at dksX5_distance_0 6 rfl rfl)
theorem dX5_distance_7 : decode cX5_distance 7 = .ok (.invokevirtual 84, 3) := dk_182 0 84 (dk_at dksX5_distance_0 7 rfl rfl)
theorem dX5_distance_10 : decode cX5_distance 10 = .ok (.invokevirtual 95, 3) := dk_182 0 95 (dk_at dksX5_distance_0 10 rfl rfl)
theorem dX5_distance_13 : decode cX5_distance 13 = .ok (.ireturn, 1) := dk_172 (dk_at dksX5_distance_0 13 rfl rfl)
abbrev cX5_decided : ByteArray := prog_5_method_13_code
def yX5_decided : MethodName := ⟨RX5, "decided", "(I)I"⟩
def dkwX5_decided_1 : List UInt8 := [160, 0, 11, 42, 27, 182, 0, 128, 167, 0, 8, 42, 27, 182, 0, 137, 172]
abbrev dktX5_decided_1 : List UInt8 := dkwX5_decided_1 ++ []
def dkwX5_decided_0 : List UInt8 := [42, 27, 182, 0, 118, 154, 0, 11, 42, 27, 182, 0, 122, 154, 0, 5, 2, 172, 42, 27, 182, 0, 122, 4]
abbrev dktX5_decided_0 : List UInt8 := dkwX5_decided_0 ++ dktX5_decided_1
theorem dksX5_decided_0 : cX5_decided.data.toList.drop 0 = dktX5_decided_0 := by decide +kernel
theorem dksX5_decided_1 : cX5_decided.data.toList.drop 24 = dktX5_decided_1 := dk_seg dksX5_decided_0 24 rfl rfl
theorem dX5_decided_0 : decode cX5_decided 0 = .ok (.aload_n 0, 1) := dk_42 (dk_at dksX5_decided_0 0 rfl rfl)
theorem dX5_decided_1 : decode cX5_decided 1 = .ok (.iload_n 1, 1) := dk_27 (dk_at dksX5_decided_0 1 rfl rfl)
theorem dX5_decided_2 : decode cX5_decided 2 = .ok (.invokevirtual 118, 3) := dk_182 0 118 (dk_at dksX5_decided_0 2 rfl rfl)
theorem dX5_decided_5 : decode cX5_decided 5 = .ok (.ifCond .ne 11, 3) := dk_154 0 11 (dk_at dksX5_decided_0 5 rfl rfl)
theorem dX5_decided_8 : decode cX5_decided 8 = .ok (.aload_n 0, 1) := dk_42 (dk_at dksX5_decided_0 8 rfl rfl)
theorem dX5_decided_9 : decode cX5_decided 9 = .ok (.iload_n 1, 1) := dk_27 (dk_at dksX5_decided_0 9 rfl rfl)
theorem dX5_decided_10 : decode cX5_decided 10 = .ok (.invokevirtual 122, 3) := dk_182 0 122 (dk_at dksX5_decided_0 10 rfl rfl)
theorem dX5_decided_13 : decode cX5_decided 13 = .ok (.ifCond .ne 5, 3) := dk_154 0 5 (dk_at dksX5_decided_0 13 rfl rfl)
theorem dX5_decided_16 : decode cX5_decided 16 = .ok (.iconst (-1), 1) := dk_2 (dk_at dksX5_decided_0 16 rfl rfl)
theorem dX5_decided_17 : decode cX5_decided 17 = .ok (.ireturn, 1) := dk_172 (dk_at dksX5_decided_0 17 rfl rfl)
theorem dX5_decided_18 : decode cX5_decided 18 = .ok (.aload_n 0, 1) := dk_42 (dk_at dksX5_decided_0 18 rfl rfl)
theorem dX5_decided_19 : decode cX5_decided 19 = .ok (.iload_n 1, 1) := dk_27 (dk_at dksX5_decided_0 19 rfl rfl)
theorem dX5_decided_20 : decode cX5_decided 20 = .ok (.invokevirtual 122, 3) := dk_182 0 122 (dk_at dksX5_decided_0 20 rfl rfl)
theorem dX5_decided_23 : decode cX5_decided 23 = .ok (.iconst 1, 1) := dk_4 (dk_at dksX5_decided_0 23 rfl rfl)
theorem dX5_decided_24 : decode cX5_decided 24 = .ok (.if_icmp .ne 11, 3) := dk_160 0 11 (dk_at dksX5_decided_1 0 rfl rfl)
theorem dX5_decided_27 : decode cX5_decided 27 = .ok (.aload_n 0, 1) := dk_42 (dk_at dksX5_decided_1 3 rfl rfl)
theorem dX5_decided_28 : decode cX5_decided 28 = .ok (.iload_n 1, 1) := dk_27 (dk_at dksX5_decided_1 4 rfl rfl)
theorem dX5_decided_29 : decode cX5_decided 29 = .ok (.invokevirtual 128, 3) := dk_182 0 128 (dk_at dksX5_decided_1 5 rfl rfl)
theorem dX5_decided_32 : decode cX5_decided 32 = .ok (.goto 8, 3) := dk_167 0 8 (dk_at dksX5_decided_1 8 rfl rfl)
theorem dX5_decided_35 : decode cX5_decided 35 = .ok (.aload_n 0, 1) := dk_42 (dk_at dksX5_decided_1 11 rfl rfl)
theorem dX5_decided_36 : decode cX5_decided 36 = .ok (.iload_n 1, 1) := dk_27 (dk_at dksX5_decided_1 12 rfl rfl)
theorem dX5_decided_37 : decode cX5_decided 37 = .ok (.invokevirtual 137, 3) := dk_182 0 137 (dk_at dksX5_decided_1 13 rfl rfl)
theorem dX5_decided_40 : decode cX5_decided 40 = .ok (.ireturn, 1) := dk_172 (dk_at dksX5_decided_1 16 rfl rfl)
abbrev cX5_byItself : ByteArray := prog_5_method_10_code
def yX5_byItself : MethodName := ⟨RX5, "byItself", "(I)I"⟩
def dkwX5_byItself_1 : List UInt8 := [61, 3, 62, 42, 27, 29, 182, 0, 99, 28, 159, 0, 9, 132, 3, 1, 167, 255, 243, 29, 172]
abbrev dktX5_byItself_1 : List UInt8 := dkwX5_byItself_1 ++ []
def dkwX5_byItself_0 : List UInt8 := [42, 27, 182, 0, 118, 154, 0, 12, 42, 27, 182, 0, 122, 4, 159, 0, 5, 2, 172, 42, 27, 182, 0, 107]
abbrev dktX5_byItself_0 : List UInt8 := dkwX5_byItself_0 ++ dktX5_byItself_1
theorem dksX5_byItself_0 : cX5_byItself.data.toList.drop 0 = dktX5_byItself_0 := by decide +kernel
theorem dksX5_byItself_1 : cX5_byItself.data.toList.drop 24 = dktX5_byItself_1 := dk_seg dksX5_byItself_0 24 rfl rfl
theorem dX5_byItself_0 : decode cX5_byItself 0 = .ok (.aload_n 0, 1) := dk_42 (dk_at dksX5_byItself_0 0 rfl rfl)
theorem dX5_byItself_1 : decode cX5_byItself 1 = .ok (.iload_n 1, 1) := dk_27 (dk_at dksX5_byItself_0 1 rfl rfl)
theorem dX5_byItself_2 : decode cX5_byItself 2 = .ok (.invokevirtual 118, 3) := dk_182 0 118 (dk_at dksX5_byItself_0 2 rfl rfl)
theorem dX5_byItself_5 : decode cX5_byItself 5 = .ok (.ifCond .ne 12, 3) := dk_154 0 12 (dk_at dksX5_byItself_0 5 rfl rfl)
theorem dX5_byItself_8 : decode cX5_byItself 8 = .ok (.aload_n 0, 1) := dk_42 (dk_at dksX5_byItself_0 8 rfl rfl)
theorem dX5_byItself_9 : decode cX5_byItself 9 = .ok (.iload_n 1, 1) := dk_27 (dk_at dksX5_byItself_0 9 rfl rfl)
theorem dX5_byItself_10 : decode cX5_byItself 10 = .ok (.invokevirtual 122, 3) := dk_182 0 122 (dk_at dksX5_byItself_0 10 rfl rfl)
theorem dX5_byItself_13 : decode cX5_byItself 13 = .ok (.iconst 1, 1) := dk_4 (dk_at dksX5_byItself_0 13 rfl rfl)
theorem dX5_byItself_14 : decode cX5_byItself 14 = .ok (.if_icmp .eq 5, 3) := dk_159 0 5 (dk_at dksX5_byItself_0 14 rfl rfl)
theorem dX5_byItself_17 : decode cX5_byItself 17 = .ok (.iconst (-1), 1) := dk_2 (dk_at dksX5_byItself_0 17 rfl rfl)
theorem dX5_byItself_18 : decode cX5_byItself 18 = .ok (.ireturn, 1) := dk_172 (dk_at dksX5_byItself_0 18 rfl rfl)
theorem dX5_byItself_19 : decode cX5_byItself 19 = .ok (.aload_n 0, 1) := dk_42 (dk_at dksX5_byItself_0 19 rfl rfl)
theorem dX5_byItself_20 : decode cX5_byItself 20 = .ok (.iload_n 1, 1) := dk_27 (dk_at dksX5_byItself_0 20 rfl rfl)
theorem dX5_byItself_21 : decode cX5_byItself 21 = .ok (.invokevirtual 107, 3) := dk_182 0 107 (dk_at dksX5_byItself_0 21 rfl rfl)
theorem dX5_byItself_24 : decode cX5_byItself 24 = .ok (.istore_n 2, 1) := dk_61 (dk_at dksX5_byItself_1 0 rfl rfl)
theorem dX5_byItself_25 : decode cX5_byItself 25 = .ok (.iconst 0, 1) := dk_3 (dk_at dksX5_byItself_1 1 rfl rfl)
theorem dX5_byItself_26 : decode cX5_byItself 26 = .ok (.istore_n 3, 1) := dk_62 (dk_at dksX5_byItself_1 2 rfl rfl)
theorem dX5_byItself_27 : decode cX5_byItself 27 = .ok (.aload_n 0, 1) := dk_42 (dk_at dksX5_byItself_1 3 rfl rfl)
theorem dX5_byItself_28 : decode cX5_byItself 28 = .ok (.iload_n 1, 1) := dk_27 (dk_at dksX5_byItself_1 4 rfl rfl)
theorem dX5_byItself_29 : decode cX5_byItself 29 = .ok (.iload_n 3, 1) := dk_29 (dk_at dksX5_byItself_1 5 rfl rfl)
theorem dX5_byItself_30 : decode cX5_byItself 30 = .ok (.invokevirtual 99, 3) := dk_182 0 99 (dk_at dksX5_byItself_1 6 rfl rfl)
theorem dX5_byItself_33 : decode cX5_byItself 33 = .ok (.iload_n 2, 1) := dk_28 (dk_at dksX5_byItself_1 9 rfl rfl)
theorem dX5_byItself_34 : decode cX5_byItself 34 = .ok (.if_icmp .eq 9, 3) := dk_159 0 9 (dk_at dksX5_byItself_1 10 rfl rfl)
theorem dX5_byItself_37 : decode cX5_byItself 37 = .ok (.iinc 3 1, 3) := dk_132 3 1 (dk_at dksX5_byItself_1 13 rfl rfl)
theorem dX5_byItself_40 : decode cX5_byItself 40 = .ok (.goto (-13), 3) := dk_167 255 243 (dk_at dksX5_byItself_1 16 rfl rfl)
theorem dX5_byItself_43 : decode cX5_byItself 43 = .ok (.iload_n 3, 1) := dk_29 (dk_at dksX5_byItself_1 19 rfl rfl)
theorem dX5_byItself_44 : decode cX5_byItself 44 = .ok (.ireturn, 1) := dk_172 (dk_at dksX5_byItself_1 20 rfl rfl)
abbrev cX5_byBundle : ByteArray := prog_5_method_12_code
def yX5_byBundle : MethodName := ⟨RX5, "byBundle", "(I)I"⟩
def dkwX5_byBundle_4 : List UInt8 := [167, 0, 15, 21, 5, 2, 159, 0, 5, 2, 172, 21, 6, 54, 5, 132, 6, 1, 167, 255, 194, 21, 5, 172]
abbrev dktX5_byBundle_4 : List UInt8 := dkwX5_byBundle_4 ++ []
def dkwX5_byBundle_3 : List UInt8 := [21, 4, 160, 0, 36, 29, 42, 21, 6, 182, 0, 84, 182, 0, 131, 96, 16, 10, 112, 28, 159, 0, 6]
abbrev dktX5_byBundle_3 : List UInt8 := dkwX5_byBundle_3 ++ dktX5_byBundle_4
def dkwX5_byBundle_2 : List UInt8 := [54, 6, 21, 6, 42, 180, 0, 37, 185, 0, 56, 1, 0, 162, 0, 54, 42, 27, 21, 6, 182, 0, 99]
abbrev dktX5_byBundle_2 : List UInt8 := dkwX5_byBundle_2 ++ dktX5_byBundle_3
def dkwX5_byBundle_1 : List UInt8 := [27, 182, 0, 134, 62, 29, 2, 160, 0, 5, 2, 172, 42, 27, 182, 0, 107, 54, 4, 2, 54, 5, 3]
abbrev dktX5_byBundle_1 : List UInt8 := dkwX5_byBundle_1 ++ dktX5_byBundle_2
def dkwX5_byBundle_0 : List UInt8 := [42, 180, 0, 20, 42, 27, 182, 0, 91, 180, 0, 125, 46, 61, 28, 2, 160, 0, 7, 2, 167, 0, 8, 42]
abbrev dktX5_byBundle_0 : List UInt8 := dkwX5_byBundle_0 ++ dktX5_byBundle_1
theorem dksX5_byBundle_0 : cX5_byBundle.data.toList.drop 0 = dktX5_byBundle_0 := by decide +kernel
theorem dksX5_byBundle_1 : cX5_byBundle.data.toList.drop 24 = dktX5_byBundle_1 := dk_seg dksX5_byBundle_0 24 rfl rfl
theorem dksX5_byBundle_2 : cX5_byBundle.data.toList.drop 47 = dktX5_byBundle_2 := dk_seg dksX5_byBundle_1 23 rfl rfl
theorem dksX5_byBundle_3 : cX5_byBundle.data.toList.drop 70 = dktX5_byBundle_3 := dk_seg dksX5_byBundle_2 23 rfl rfl
theorem dksX5_byBundle_4 : cX5_byBundle.data.toList.drop 93 = dktX5_byBundle_4 := dk_seg dksX5_byBundle_3 23 rfl rfl
theorem dX5_byBundle_0 : decode cX5_byBundle 0 = .ok (.aload_n 0, 1) := dk_42 (dk_at dksX5_byBundle_0 0 rfl rfl)
theorem dX5_byBundle_1 : decode cX5_byBundle 1 = .ok (.getfield 20, 3) := dk_180 0 20 (dk_at dksX5_byBundle_0 1 rfl rfl)
theorem dX5_byBundle_4 : decode cX5_byBundle 4 = .ok (.aload_n 0, 1) := dk_42 (dk_at dksX5_byBundle_0 4 rfl rfl)
theorem dX5_byBundle_5 : decode cX5_byBundle 5 = .ok (.iload_n 1, 1) := dk_27 (dk_at dksX5_byBundle_0 5 rfl rfl)
theorem dX5_byBundle_6 : decode cX5_byBundle 6 = .ok (.invokevirtual 91, 3) := dk_182 0 91 (dk_at dksX5_byBundle_0 6 rfl rfl)
theorem dX5_byBundle_9 : decode cX5_byBundle 9 = .ok (.getfield 125, 3) := dk_180 0 125 (dk_at dksX5_byBundle_0 9 rfl rfl)
theorem dX5_byBundle_12 : decode cX5_byBundle 12 = .ok (.iaload, 1) := dk_46 (dk_at dksX5_byBundle_0 12 rfl rfl)
theorem dX5_byBundle_13 : decode cX5_byBundle 13 = .ok (.istore_n 2, 1) := dk_61 (dk_at dksX5_byBundle_0 13 rfl rfl)
theorem dX5_byBundle_14 : decode cX5_byBundle 14 = .ok (.iload_n 2, 1) := dk_28 (dk_at dksX5_byBundle_0 14 rfl rfl)
theorem dX5_byBundle_15 : decode cX5_byBundle 15 = .ok (.iconst (-1), 1) := dk_2 (dk_at dksX5_byBundle_0 15 rfl rfl)
theorem dX5_byBundle_16 : decode cX5_byBundle 16 = .ok (.if_icmp .ne 7, 3) := dk_160 0 7 (dk_at dksX5_byBundle_0 16 rfl rfl)
theorem dX5_byBundle_19 : decode cX5_byBundle 19 = .ok (.iconst (-1), 1) := dk_2 (dk_at dksX5_byBundle_0 19 rfl rfl)
theorem dX5_byBundle_20 : decode cX5_byBundle 20 = .ok (.goto 8, 3) := dk_167 0 8 (dk_at dksX5_byBundle_0 20 rfl rfl)
theorem dX5_byBundle_23 : decode cX5_byBundle 23 = .ok (.aload_n 0, 1) := dk_42 (dk_at dksX5_byBundle_0 23 rfl rfl)
theorem dX5_byBundle_24 : decode cX5_byBundle 24 = .ok (.iload_n 1, 1) := dk_27 (dk_at dksX5_byBundle_1 0 rfl rfl)
theorem dX5_byBundle_25 : decode cX5_byBundle 25 = .ok (.invokevirtual 134, 3) := dk_182 0 134 (dk_at dksX5_byBundle_1 1 rfl rfl)
theorem dX5_byBundle_28 : decode cX5_byBundle 28 = .ok (.istore_n 3, 1) := dk_62 (dk_at dksX5_byBundle_1 4 rfl rfl)
theorem dX5_byBundle_29 : decode cX5_byBundle 29 = .ok (.iload_n 3, 1) := dk_29 (dk_at dksX5_byBundle_1 5 rfl rfl)
theorem dX5_byBundle_30 : decode cX5_byBundle 30 = .ok (.iconst (-1), 1) := dk_2 (dk_at dksX5_byBundle_1 6 rfl rfl)
theorem dX5_byBundle_31 : decode cX5_byBundle 31 = .ok (.if_icmp .ne 5, 3) := dk_160 0 5 (dk_at dksX5_byBundle_1 7 rfl rfl)
theorem dX5_byBundle_34 : decode cX5_byBundle 34 = .ok (.iconst (-1), 1) := dk_2 (dk_at dksX5_byBundle_1 10 rfl rfl)
theorem dX5_byBundle_35 : decode cX5_byBundle 35 = .ok (.ireturn, 1) := dk_172 (dk_at dksX5_byBundle_1 11 rfl rfl)
theorem dX5_byBundle_36 : decode cX5_byBundle 36 = .ok (.aload_n 0, 1) := dk_42 (dk_at dksX5_byBundle_1 12 rfl rfl)
theorem dX5_byBundle_37 : decode cX5_byBundle 37 = .ok (.iload_n 1, 1) := dk_27 (dk_at dksX5_byBundle_1 13 rfl rfl)
theorem dX5_byBundle_38 : decode cX5_byBundle 38 = .ok (.invokevirtual 107, 3) := dk_182 0 107 (dk_at dksX5_byBundle_1 14 rfl rfl)
theorem dX5_byBundle_41 : decode cX5_byBundle 41 = .ok (.istore 4, 2) := dk_54 4 (dk_at dksX5_byBundle_1 17 rfl rfl)
theorem dX5_byBundle_43 : decode cX5_byBundle 43 = .ok (.iconst (-1), 1) := dk_2 (dk_at dksX5_byBundle_1 19 rfl rfl)
theorem dX5_byBundle_44 : decode cX5_byBundle 44 = .ok (.istore 5, 2) := dk_54 5 (dk_at dksX5_byBundle_1 20 rfl rfl)
theorem dX5_byBundle_46 : decode cX5_byBundle 46 = .ok (.iconst 0, 1) := dk_3 (dk_at dksX5_byBundle_1 22 rfl rfl)
theorem dX5_byBundle_47 : decode cX5_byBundle 47 = .ok (.istore 6, 2) := dk_54 6 (dk_at dksX5_byBundle_2 0 rfl rfl)
theorem dX5_byBundle_49 : decode cX5_byBundle 49 = .ok (.iload 6, 2) := dk_21 6 (dk_at dksX5_byBundle_2 2 rfl rfl)
theorem dX5_byBundle_51 : decode cX5_byBundle 51 = .ok (.aload_n 0, 1) := dk_42 (dk_at dksX5_byBundle_2 4 rfl rfl)
theorem dX5_byBundle_52 : decode cX5_byBundle 52 = .ok (.getfield 37, 3) := dk_180 0 37 (dk_at dksX5_byBundle_2 5 rfl rfl)
theorem dX5_byBundle_55 : decode cX5_byBundle 55 = .ok (.invokeinterface 56 1, 5) := by decide +kernel
theorem dX5_byBundle_60 : decode cX5_byBundle 60 = .ok (.if_icmp .ge 54, 3) := dk_162 0 54 (dk_at dksX5_byBundle_2 13 rfl rfl)
theorem dX5_byBundle_63 : decode cX5_byBundle 63 = .ok (.aload_n 0, 1) := dk_42 (dk_at dksX5_byBundle_2 16 rfl rfl)
theorem dX5_byBundle_64 : decode cX5_byBundle 64 = .ok (.iload_n 1, 1) := dk_27 (dk_at dksX5_byBundle_2 17 rfl rfl)
theorem dX5_byBundle_65 : decode cX5_byBundle 65 = .ok (.iload 6, 2) := dk_21 6 (dk_at dksX5_byBundle_2 18 rfl rfl)
theorem dX5_byBundle_67 : decode cX5_byBundle 67 = .ok (.invokevirtual 99, 3) := dk_182 0 99 (dk_at dksX5_byBundle_2 20 rfl rfl)
theorem dX5_byBundle_70 : decode cX5_byBundle 70 = .ok (.iload 4, 2) := dk_21 4 (dk_at dksX5_byBundle_3 0 rfl rfl)
theorem dX5_byBundle_72 : decode cX5_byBundle 72 = .ok (.if_icmp .ne 36, 3) := dk_160 0 36 (dk_at dksX5_byBundle_3 2 rfl rfl)
theorem dX5_byBundle_75 : decode cX5_byBundle 75 = .ok (.iload_n 3, 1) := dk_29 (dk_at dksX5_byBundle_3 5 rfl rfl)
theorem dX5_byBundle_76 : decode cX5_byBundle 76 = .ok (.aload_n 0, 1) := dk_42 (dk_at dksX5_byBundle_3 6 rfl rfl)
theorem dX5_byBundle_77 : decode cX5_byBundle 77 = .ok (.iload 6, 2) := dk_21 6 (dk_at dksX5_byBundle_3 7 rfl rfl)
theorem dX5_byBundle_79 : decode cX5_byBundle 79 = .ok (.invokevirtual 84, 3) := dk_182 0 84 (dk_at dksX5_byBundle_3 9 rfl rfl)
theorem dX5_byBundle_82 : decode cX5_byBundle 82 = .ok (.invokevirtual 131, 3) := dk_182 0 131 (dk_at dksX5_byBundle_3 12 rfl rfl)
theorem dX5_byBundle_85 : decode cX5_byBundle 85 = .ok (.iadd, 1) := dk_96 (dk_at dksX5_byBundle_3 15 rfl rfl)
theorem dX5_byBundle_86 : decode cX5_byBundle 86 = .ok (.bipush 10, 2) := dk_16 10 (dk_at dksX5_byBundle_3 16 rfl rfl)
theorem dX5_byBundle_88 : decode cX5_byBundle 88 = .ok (.irem, 1) := dk_112 (dk_at dksX5_byBundle_3 18 rfl rfl)
theorem dX5_byBundle_89 : decode cX5_byBundle 89 = .ok (.iload_n 2, 1) := dk_28 (dk_at dksX5_byBundle_3 19 rfl rfl)
theorem dX5_byBundle_90 : decode cX5_byBundle 90 = .ok (.if_icmp .eq 6, 3) := dk_159 0 6 (dk_at dksX5_byBundle_3 20 rfl rfl)
theorem dX5_byBundle_93 : decode cX5_byBundle 93 = .ok (.goto 15, 3) := dk_167 0 15 (dk_at dksX5_byBundle_4 0 rfl rfl)
theorem dX5_byBundle_96 : decode cX5_byBundle 96 = .ok (.iload 5, 2) := dk_21 5 (dk_at dksX5_byBundle_4 3 rfl rfl)
theorem dX5_byBundle_98 : decode cX5_byBundle 98 = .ok (.iconst (-1), 1) := dk_2 (dk_at dksX5_byBundle_4 5 rfl rfl)
theorem dX5_byBundle_99 : decode cX5_byBundle 99 = .ok (.if_icmp .eq 5, 3) := dk_159 0 5 (dk_at dksX5_byBundle_4 6 rfl rfl)
theorem dX5_byBundle_102 : decode cX5_byBundle 102 = .ok (.iconst (-1), 1) := dk_2 (dk_at dksX5_byBundle_4 9 rfl rfl)
theorem dX5_byBundle_103 : decode cX5_byBundle 103 = .ok (.ireturn, 1) := dk_172 (dk_at dksX5_byBundle_4 10 rfl rfl)
theorem dX5_byBundle_104 : decode cX5_byBundle 104 = .ok (.iload 6, 2) := dk_21 6 (dk_at dksX5_byBundle_4 11 rfl rfl)
theorem dX5_byBundle_106 : decode cX5_byBundle 106 = .ok (.istore 5, 2) := dk_54 5 (dk_at dksX5_byBundle_4 13 rfl rfl)
theorem dX5_byBundle_108 : decode cX5_byBundle 108 = .ok (.iinc 6 1, 3) := dk_132 6 1 (dk_at dksX5_byBundle_4 15 rfl rfl)
theorem dX5_byBundle_111 : decode cX5_byBundle 111 = .ok (.goto (-62), 3) := dk_167 255 194 (dk_at dksX5_byBundle_4 18 rfl rfl)
theorem dX5_byBundle_114 : decode cX5_byBundle 114 = .ok (.iload 5, 2) := dk_21 5 (dk_at dksX5_byBundle_4 21 rfl rfl)
theorem dX5_byBundle_116 : decode cX5_byBundle 116 = .ok (.ireturn, 1) := dk_172 (dk_at dksX5_byBundle_4 23 rfl rfl)
abbrev cX5_otherSum : ByteArray := prog_5_method_11_code
def yX5_otherSum : MethodName := ⟨RX5, "otherSum", "(I)I"⟩
def dkwX5_otherSum_3 : List UInt8 := [61, 132, 3, 1, 167, 255, 186, 28, 172]
abbrev dktX5_otherSum_3 : List UInt8 := dkwX5_otherSum_3 ++ []
def dkwX5_otherSum_2 : List UInt8 := [182, 0, 128, 54, 4, 21, 4, 2, 160, 0, 5, 2, 172, 28, 42, 21, 4, 182, 0, 84, 182, 0, 131, 96]
abbrev dktX5_otherSum_2 : List UInt8 := dkwX5_otherSum_2 ++ dktX5_otherSum_3
def dkwX5_otherSum_1 : List UInt8 := [182, 0, 91, 180, 0, 125, 42, 27, 182, 0, 91, 180, 0, 125, 159, 0, 6, 167, 0, 30, 42, 29]
abbrev dktX5_otherSum_1 : List UInt8 := dkwX5_otherSum_1 ++ dktX5_otherSum_2
def dkwX5_otherSum_0 : List UInt8 := [3, 61, 3, 62, 29, 42, 180, 0, 14, 185, 0, 56, 1, 0, 162, 0, 63, 29, 27, 159, 0, 52, 42, 29]
abbrev dktX5_otherSum_0 : List UInt8 := dkwX5_otherSum_0 ++ dktX5_otherSum_1
theorem dksX5_otherSum_0 : cX5_otherSum.data.toList.drop 0 = dktX5_otherSum_0 := by decide +kernel
theorem dksX5_otherSum_1 : cX5_otherSum.data.toList.drop 24 = dktX5_otherSum_1 := dk_seg dksX5_otherSum_0 24 rfl rfl
theorem dksX5_otherSum_2 : cX5_otherSum.data.toList.drop 46 = dktX5_otherSum_2 := dk_seg dksX5_otherSum_1 22 rfl rfl
theorem dksX5_otherSum_3 : cX5_otherSum.data.toList.drop 70 = dktX5_otherSum_3 := dk_seg dksX5_otherSum_2 24 rfl rfl
theorem dX5_otherSum_0 : decode cX5_otherSum 0 = .ok (.iconst 0, 1) := dk_3 (dk_at dksX5_otherSum_0 0 rfl rfl)
theorem dX5_otherSum_1 : decode cX5_otherSum 1 = .ok (.istore_n 2, 1) := dk_61 (dk_at dksX5_otherSum_0 1 rfl rfl)
theorem dX5_otherSum_2 : decode cX5_otherSum 2 = .ok (.iconst 0, 1) := dk_3 (dk_at dksX5_otherSum_0 2 rfl rfl)
theorem dX5_otherSum_3 : decode cX5_otherSum 3 = .ok (.istore_n 3, 1) := dk_62 (dk_at dksX5_otherSum_0 3 rfl rfl)
theorem dX5_otherSum_4 : decode cX5_otherSum 4 = .ok (.iload_n 3, 1) := dk_29 (dk_at dksX5_otherSum_0 4 rfl rfl)
theorem dX5_otherSum_5 : decode cX5_otherSum 5 = .ok (.aload_n 0, 1) := dk_42 (dk_at dksX5_otherSum_0 5 rfl rfl)
theorem dX5_otherSum_6 : decode cX5_otherSum 6 = .ok (.getfield 14, 3) := dk_180 0 14 (dk_at dksX5_otherSum_0 6 rfl rfl)
theorem dX5_otherSum_9 : decode cX5_otherSum 9 = .ok (.invokeinterface 56 1, 5) := by decide +kernel
theorem dX5_otherSum_14 : decode cX5_otherSum 14 = .ok (.if_icmp .ge 63, 3) := dk_162 0 63 (dk_at dksX5_otherSum_0 14 rfl rfl)
theorem dX5_otherSum_17 : decode cX5_otherSum 17 = .ok (.iload_n 3, 1) := dk_29 (dk_at dksX5_otherSum_0 17 rfl rfl)
theorem dX5_otherSum_18 : decode cX5_otherSum 18 = .ok (.iload_n 1, 1) := dk_27 (dk_at dksX5_otherSum_0 18 rfl rfl)
theorem dX5_otherSum_19 : decode cX5_otherSum 19 = .ok (.if_icmp .eq 52, 3) := dk_159 0 52 (dk_at dksX5_otherSum_0 19 rfl rfl)
theorem dX5_otherSum_22 : decode cX5_otherSum 22 = .ok (.aload_n 0, 1) := dk_42 (dk_at dksX5_otherSum_0 22 rfl rfl)
theorem dX5_otherSum_23 : decode cX5_otherSum 23 = .ok (.iload_n 3, 1) := dk_29 (dk_at dksX5_otherSum_0 23 rfl rfl)
theorem dX5_otherSum_24 : decode cX5_otherSum 24 = .ok (.invokevirtual 91, 3) := dk_182 0 91 (dk_at dksX5_otherSum_1 0 rfl rfl)
theorem dX5_otherSum_27 : decode cX5_otherSum 27 = .ok (.getfield 125, 3) := dk_180 0 125 (dk_at dksX5_otherSum_1 3 rfl rfl)
theorem dX5_otherSum_30 : decode cX5_otherSum 30 = .ok (.aload_n 0, 1) := dk_42 (dk_at dksX5_otherSum_1 6 rfl rfl)
theorem dX5_otherSum_31 : decode cX5_otherSum 31 = .ok (.iload_n 1, 1) := dk_27 (dk_at dksX5_otherSum_1 7 rfl rfl)
theorem dX5_otherSum_32 : decode cX5_otherSum 32 = .ok (.invokevirtual 91, 3) := dk_182 0 91 (dk_at dksX5_otherSum_1 8 rfl rfl)
theorem dX5_otherSum_35 : decode cX5_otherSum 35 = .ok (.getfield 125, 3) := dk_180 0 125 (dk_at dksX5_otherSum_1 11 rfl rfl)
theorem dX5_otherSum_38 : decode cX5_otherSum 38 = .ok (.if_icmp .eq 6, 3) := dk_159 0 6 (dk_at dksX5_otherSum_1 14 rfl rfl)
theorem dX5_otherSum_41 : decode cX5_otherSum 41 = .ok (.goto 30, 3) := dk_167 0 30 (dk_at dksX5_otherSum_1 17 rfl rfl)
theorem dX5_otherSum_44 : decode cX5_otherSum 44 = .ok (.aload_n 0, 1) := dk_42 (dk_at dksX5_otherSum_1 20 rfl rfl)
theorem dX5_otherSum_45 : decode cX5_otherSum 45 = .ok (.iload_n 3, 1) := dk_29 (dk_at dksX5_otherSum_1 21 rfl rfl)
theorem dX5_otherSum_46 : decode cX5_otherSum 46 = .ok (.invokevirtual 128, 3) := dk_182 0 128 (dk_at dksX5_otherSum_2 0 rfl rfl)
theorem dX5_otherSum_49 : decode cX5_otherSum 49 = .ok (.istore 4, 2) := dk_54 4 (dk_at dksX5_otherSum_2 3 rfl rfl)
theorem dX5_otherSum_51 : decode cX5_otherSum 51 = .ok (.iload 4, 2) := dk_21 4 (dk_at dksX5_otherSum_2 5 rfl rfl)
theorem dX5_otherSum_53 : decode cX5_otherSum 53 = .ok (.iconst (-1), 1) := dk_2 (dk_at dksX5_otherSum_2 7 rfl rfl)
theorem dX5_otherSum_54 : decode cX5_otherSum 54 = .ok (.if_icmp .ne 5, 3) := dk_160 0 5 (dk_at dksX5_otherSum_2 8 rfl rfl)
theorem dX5_otherSum_57 : decode cX5_otherSum 57 = .ok (.iconst (-1), 1) := dk_2 (dk_at dksX5_otherSum_2 11 rfl rfl)
theorem dX5_otherSum_58 : decode cX5_otherSum 58 = .ok (.ireturn, 1) := dk_172 (dk_at dksX5_otherSum_2 12 rfl rfl)
theorem dX5_otherSum_59 : decode cX5_otherSum 59 = .ok (.iload_n 2, 1) := dk_28 (dk_at dksX5_otherSum_2 13 rfl rfl)
theorem dX5_otherSum_60 : decode cX5_otherSum 60 = .ok (.aload_n 0, 1) := dk_42 (dk_at dksX5_otherSum_2 14 rfl rfl)
theorem dX5_otherSum_61 : decode cX5_otherSum 61 = .ok (.iload 4, 2) := dk_21 4 (dk_at dksX5_otherSum_2 15 rfl rfl)
theorem dX5_otherSum_63 : decode cX5_otherSum 63 = .ok (.invokevirtual 84, 3) := dk_182 0 84 (dk_at dksX5_otherSum_2 17 rfl rfl)
theorem dX5_otherSum_66 : decode cX5_otherSum 66 = .ok (.invokevirtual 131, 3) := dk_182 0 131 (dk_at dksX5_otherSum_2 20 rfl rfl)
theorem dX5_otherSum_69 : decode cX5_otherSum 69 = .ok (.iadd, 1) := dk_96 (dk_at dksX5_otherSum_2 23 rfl rfl)
theorem dX5_otherSum_70 : decode cX5_otherSum 70 = .ok (.istore_n 2, 1) := dk_61 (dk_at dksX5_otherSum_3 0 rfl rfl)
theorem dX5_otherSum_71 : decode cX5_otherSum 71 = .ok (.iinc 3 1, 3) := dk_132 3 1 (dk_at dksX5_otherSum_3 1 rfl rfl)
theorem dX5_otherSum_74 : decode cX5_otherSum 74 = .ok (.goto (-70), 3) := dk_167 255 186 (dk_at dksX5_otherSum_3 4 rfl rfl)
theorem dX5_otherSum_77 : decode cX5_otherSum 77 = .ok (.iload_n 2, 1) := dk_28 (dk_at dksX5_otherSum_3 7 rfl rfl)
theorem dX5_otherSum_78 : decode cX5_otherSum 78 = .ok (.ireturn, 1) := dk_172 (dk_at dksX5_otherSum_3 8 rfl rfl)
abbrev cX5_mustBeOpen : ByteArray := prog_5_method_17_code
def yX5_mustBeOpen : MethodName := ⟨RX5, "mustBeOpen", "(I)V"⟩
def dkwX5_mustBeOpen_0 : List UInt8 := [42, 180, 0, 33, 27, 51, 153, 0, 11, 187, 0, 152, 89, 183, 0, 154, 191, 177]
abbrev dktX5_mustBeOpen_0 : List UInt8 := dkwX5_mustBeOpen_0 ++ []
theorem dksX5_mustBeOpen_0 : cX5_mustBeOpen.data.toList.drop 0 = dktX5_mustBeOpen_0 := by decide +kernel
theorem dX5_mustBeOpen_0 : decode cX5_mustBeOpen 0 = .ok (.aload_n 0, 1) := dk_42 (dk_at dksX5_mustBeOpen_0 0 rfl rfl)
theorem dX5_mustBeOpen_1 : decode cX5_mustBeOpen 1 = .ok (.getfield 33, 3) := dk_180 0 33 (dk_at dksX5_mustBeOpen_0 1 rfl rfl)
theorem dX5_mustBeOpen_4 : decode cX5_mustBeOpen 4 = .ok (.iload_n 1, 1) := dk_27 (dk_at dksX5_mustBeOpen_0 4 rfl rfl)
theorem dX5_mustBeOpen_5 : decode cX5_mustBeOpen 5 = .ok (.baload, 1) := dk_51 (dk_at dksX5_mustBeOpen_0 5 rfl rfl)
theorem dX5_mustBeOpen_6 : decode cX5_mustBeOpen 6 = .ok (.ifCond .eq 11, 3) := dk_153 0 11 (dk_at dksX5_mustBeOpen_0 6 rfl rfl)
theorem dX5_mustBeOpen_9 : decode cX5_mustBeOpen 9 = .ok (.new 152, 3) := dk_187 0 152 (dk_at dksX5_mustBeOpen_0 9 rfl rfl)
theorem dX5_mustBeOpen_12 : decode cX5_mustBeOpen 12 = .ok (.dup, 1) := dk_89 (dk_at dksX5_mustBeOpen_0 12 rfl rfl)
theorem dX5_mustBeOpen_13 : decode cX5_mustBeOpen 13 = .ok (.invokespecial 154, 3) := dk_183 0 154 (dk_at dksX5_mustBeOpen_0 13 rfl rfl)
theorem dX5_mustBeOpen_16 : decode cX5_mustBeOpen 16 = .ok (.athrow, 1) := dk_191 (dk_at dksX5_mustBeOpen_0 16 rfl rfl)
theorem dX5_mustBeOpen_17 : decode cX5_mustBeOpen 17 = .ok (.return_, 1) := dk_177 (dk_at dksX5_mustBeOpen_0 17 rfl rfl)
abbrev cX5_comesToBag : ByteArray := prog_5_method_20_code
def yX5_comesToBag : MethodName := ⟨RX5, "comesToBag", "(I)V"⟩
def dkwX5_comesToBag_2 : List UInt8 := [4, 96, 79, 177]
abbrev dktX5_comesToBag_2 : List UInt8 := dkwX5_comesToBag_2 ++ []
def dkwX5_comesToBag_1 : List UInt8 := [27, 46, 42, 180, 0, 44, 162, 0, 4, 177, 42, 180, 0, 24, 27, 3, 79, 42, 180, 0, 27, 27, 92, 46]
abbrev dktX5_comesToBag_1 : List UInt8 := dkwX5_comesToBag_1 ++ dktX5_comesToBag_2
def dkwX5_comesToBag_0 : List UInt8 := [42, 180, 0, 30, 27, 92, 46, 4, 96, 79, 42, 180, 0, 24, 27, 92, 46, 4, 96, 79, 42, 180, 0, 24]
abbrev dktX5_comesToBag_0 : List UInt8 := dkwX5_comesToBag_0 ++ dktX5_comesToBag_1
theorem dksX5_comesToBag_0 : cX5_comesToBag.data.toList.drop 0 = dktX5_comesToBag_0 := by decide +kernel
theorem dksX5_comesToBag_1 : cX5_comesToBag.data.toList.drop 24 = dktX5_comesToBag_1 := dk_seg dksX5_comesToBag_0 24 rfl rfl
theorem dksX5_comesToBag_2 : cX5_comesToBag.data.toList.drop 48 = dktX5_comesToBag_2 := dk_seg dksX5_comesToBag_1 24 rfl rfl
theorem dX5_comesToBag_0 : decode cX5_comesToBag 0 = .ok (.aload_n 0, 1) := dk_42 (dk_at dksX5_comesToBag_0 0 rfl rfl)
theorem dX5_comesToBag_1 : decode cX5_comesToBag 1 = .ok (.getfield 30, 3) := dk_180 0 30 (dk_at dksX5_comesToBag_0 1 rfl rfl)
theorem dX5_comesToBag_4 : decode cX5_comesToBag 4 = .ok (.iload_n 1, 1) := dk_27 (dk_at dksX5_comesToBag_0 4 rfl rfl)
theorem dX5_comesToBag_5 : decode cX5_comesToBag 5 = .ok (.dup2, 1) := dk_92 (dk_at dksX5_comesToBag_0 5 rfl rfl)
theorem dX5_comesToBag_6 : decode cX5_comesToBag 6 = .ok (.iaload, 1) := dk_46 (dk_at dksX5_comesToBag_0 6 rfl rfl)
theorem dX5_comesToBag_7 : decode cX5_comesToBag 7 = .ok (.iconst 1, 1) := dk_4 (dk_at dksX5_comesToBag_0 7 rfl rfl)
theorem dX5_comesToBag_8 : decode cX5_comesToBag 8 = .ok (.iadd, 1) := dk_96 (dk_at dksX5_comesToBag_0 8 rfl rfl)
theorem dX5_comesToBag_9 : decode cX5_comesToBag 9 = .ok (.iastore, 1) := dk_79 (dk_at dksX5_comesToBag_0 9 rfl rfl)
theorem dX5_comesToBag_10 : decode cX5_comesToBag 10 = .ok (.aload_n 0, 1) := dk_42 (dk_at dksX5_comesToBag_0 10 rfl rfl)
theorem dX5_comesToBag_11 : decode cX5_comesToBag 11 = .ok (.getfield 24, 3) := dk_180 0 24 (dk_at dksX5_comesToBag_0 11 rfl rfl)
theorem dX5_comesToBag_14 : decode cX5_comesToBag 14 = .ok (.iload_n 1, 1) := dk_27 (dk_at dksX5_comesToBag_0 14 rfl rfl)
theorem dX5_comesToBag_15 : decode cX5_comesToBag 15 = .ok (.dup2, 1) := dk_92 (dk_at dksX5_comesToBag_0 15 rfl rfl)
theorem dX5_comesToBag_16 : decode cX5_comesToBag 16 = .ok (.iaload, 1) := dk_46 (dk_at dksX5_comesToBag_0 16 rfl rfl)
theorem dX5_comesToBag_17 : decode cX5_comesToBag 17 = .ok (.iconst 1, 1) := dk_4 (dk_at dksX5_comesToBag_0 17 rfl rfl)
theorem dX5_comesToBag_18 : decode cX5_comesToBag 18 = .ok (.iadd, 1) := dk_96 (dk_at dksX5_comesToBag_0 18 rfl rfl)
theorem dX5_comesToBag_19 : decode cX5_comesToBag 19 = .ok (.iastore, 1) := dk_79 (dk_at dksX5_comesToBag_0 19 rfl rfl)
theorem dX5_comesToBag_20 : decode cX5_comesToBag 20 = .ok (.aload_n 0, 1) := dk_42 (dk_at dksX5_comesToBag_0 20 rfl rfl)
theorem dX5_comesToBag_21 : decode cX5_comesToBag 21 = .ok (.getfield 24, 3) := dk_180 0 24 (dk_at dksX5_comesToBag_0 21 rfl rfl)
theorem dX5_comesToBag_24 : decode cX5_comesToBag 24 = .ok (.iload_n 1, 1) := dk_27 (dk_at dksX5_comesToBag_1 0 rfl rfl)
theorem dX5_comesToBag_25 : decode cX5_comesToBag 25 = .ok (.iaload, 1) := dk_46 (dk_at dksX5_comesToBag_1 1 rfl rfl)
theorem dX5_comesToBag_26 : decode cX5_comesToBag 26 = .ok (.aload_n 0, 1) := dk_42 (dk_at dksX5_comesToBag_1 2 rfl rfl)
theorem dX5_comesToBag_27 : decode cX5_comesToBag 27 = .ok (.getfield 44, 3) := dk_180 0 44 (dk_at dksX5_comesToBag_1 3 rfl rfl)
theorem dX5_comesToBag_30 : decode cX5_comesToBag 30 = .ok (.if_icmp .ge 4, 3) := dk_162 0 4 (dk_at dksX5_comesToBag_1 6 rfl rfl)
theorem dX5_comesToBag_33 : decode cX5_comesToBag 33 = .ok (.return_, 1) := dk_177 (dk_at dksX5_comesToBag_1 9 rfl rfl)
theorem dX5_comesToBag_34 : decode cX5_comesToBag 34 = .ok (.aload_n 0, 1) := dk_42 (dk_at dksX5_comesToBag_1 10 rfl rfl)
theorem dX5_comesToBag_35 : decode cX5_comesToBag 35 = .ok (.getfield 24, 3) := dk_180 0 24 (dk_at dksX5_comesToBag_1 11 rfl rfl)
theorem dX5_comesToBag_38 : decode cX5_comesToBag 38 = .ok (.iload_n 1, 1) := dk_27 (dk_at dksX5_comesToBag_1 14 rfl rfl)
theorem dX5_comesToBag_39 : decode cX5_comesToBag 39 = .ok (.iconst 0, 1) := dk_3 (dk_at dksX5_comesToBag_1 15 rfl rfl)
theorem dX5_comesToBag_40 : decode cX5_comesToBag 40 = .ok (.iastore, 1) := dk_79 (dk_at dksX5_comesToBag_1 16 rfl rfl)
theorem dX5_comesToBag_41 : decode cX5_comesToBag 41 = .ok (.aload_n 0, 1) := dk_42 (dk_at dksX5_comesToBag_1 17 rfl rfl)
theorem dX5_comesToBag_42 : decode cX5_comesToBag 42 = .ok (.getfield 27, 3) := dk_180 0 27 (dk_at dksX5_comesToBag_1 18 rfl rfl)
theorem dX5_comesToBag_45 : decode cX5_comesToBag 45 = .ok (.iload_n 1, 1) := dk_27 (dk_at dksX5_comesToBag_1 21 rfl rfl)
theorem dX5_comesToBag_46 : decode cX5_comesToBag 46 = .ok (.dup2, 1) := dk_92 (dk_at dksX5_comesToBag_1 22 rfl rfl)
theorem dX5_comesToBag_47 : decode cX5_comesToBag 47 = .ok (.iaload, 1) := dk_46 (dk_at dksX5_comesToBag_1 23 rfl rfl)
theorem dX5_comesToBag_48 : decode cX5_comesToBag 48 = .ok (.iconst 1, 1) := dk_4 (dk_at dksX5_comesToBag_2 0 rfl rfl)
theorem dX5_comesToBag_49 : decode cX5_comesToBag 49 = .ok (.iadd, 1) := dk_96 (dk_at dksX5_comesToBag_2 1 rfl rfl)
theorem dX5_comesToBag_50 : decode cX5_comesToBag 50 = .ok (.iastore, 1) := dk_79 (dk_at dksX5_comesToBag_2 2 rfl rfl)
theorem dX5_comesToBag_51 : decode cX5_comesToBag 51 = .ok (.return_, 1) := dk_177 (dk_at dksX5_comesToBag_2 3 rfl rfl)
abbrev cX5_inState : ByteArray := prog_5_method_15_code
def yX5_inState : MethodName := ⟨RX5, "inState", "(I)I"⟩
def dkwX5_inState_2 : List UInt8 := [172]
abbrev dktX5_inState_2 : List UInt8 := dkwX5_inState_2 ++ []
def dkwX5_inState_1 : List UInt8 := [180, 0, 143, 27, 160, 0, 7, 4, 167, 0, 4, 3, 184, 0, 111, 96, 61, 132, 3, 1, 167, 255, 217, 28]
abbrev dktX5_inState_1 : List UInt8 := dkwX5_inState_1 ++ dktX5_inState_2
def dkwX5_inState_0 : List UInt8 := [3, 61, 3, 62, 29, 42, 180, 0, 14, 185, 0, 56, 1, 0, 162, 0, 32, 28, 42, 29, 182, 0, 91]
abbrev dktX5_inState_0 : List UInt8 := dkwX5_inState_0 ++ dktX5_inState_1
theorem dksX5_inState_0 : cX5_inState.data.toList.drop 0 = dktX5_inState_0 := by decide +kernel
theorem dksX5_inState_1 : cX5_inState.data.toList.drop 23 = dktX5_inState_1 := dk_seg dksX5_inState_0 23 rfl rfl
theorem dksX5_inState_2 : cX5_inState.data.toList.drop 47 = dktX5_inState_2 := dk_seg dksX5_inState_1 24 rfl rfl
theorem dX5_inState_0 : decode cX5_inState 0 = .ok (.iconst 0, 1) := dk_3 (dk_at dksX5_inState_0 0 rfl rfl)
theorem dX5_inState_1 : decode cX5_inState 1 = .ok (.istore_n 2, 1) := dk_61 (dk_at dksX5_inState_0 1 rfl rfl)
theorem dX5_inState_2 : decode cX5_inState 2 = .ok (.iconst 0, 1) := dk_3 (dk_at dksX5_inState_0 2 rfl rfl)
theorem dX5_inState_3 : decode cX5_inState 3 = .ok (.istore_n 3, 1) := dk_62 (dk_at dksX5_inState_0 3 rfl rfl)
theorem dX5_inState_4 : decode cX5_inState 4 = .ok (.iload_n 3, 1) := dk_29 (dk_at dksX5_inState_0 4 rfl rfl)
theorem dX5_inState_5 : decode cX5_inState 5 = .ok (.aload_n 0, 1) := dk_42 (dk_at dksX5_inState_0 5 rfl rfl)
theorem dX5_inState_6 : decode cX5_inState 6 = .ok (.getfield 14, 3) := dk_180 0 14 (dk_at dksX5_inState_0 6 rfl rfl)
theorem dX5_inState_9 : decode cX5_inState 9 = .ok (.invokeinterface 56 1, 5) := by decide +kernel
theorem dX5_inState_14 : decode cX5_inState 14 = .ok (.if_icmp .ge 32, 3) := dk_162 0 32 (dk_at dksX5_inState_0 14 rfl rfl)
theorem dX5_inState_17 : decode cX5_inState 17 = .ok (.iload_n 2, 1) := dk_28 (dk_at dksX5_inState_0 17 rfl rfl)
theorem dX5_inState_18 : decode cX5_inState 18 = .ok (.aload_n 0, 1) := dk_42 (dk_at dksX5_inState_0 18 rfl rfl)
theorem dX5_inState_19 : decode cX5_inState 19 = .ok (.iload_n 3, 1) := dk_29 (dk_at dksX5_inState_0 19 rfl rfl)
theorem dX5_inState_20 : decode cX5_inState 20 = .ok (.invokevirtual 91, 3) := dk_182 0 91 (dk_at dksX5_inState_0 20 rfl rfl)
theorem dX5_inState_23 : decode cX5_inState 23 = .ok (.getfield 143, 3) := dk_180 0 143 (dk_at dksX5_inState_1 0 rfl rfl)
theorem dX5_inState_26 : decode cX5_inState 26 = .ok (.iload_n 1, 1) := dk_27 (dk_at dksX5_inState_1 3 rfl rfl)
theorem dX5_inState_27 : decode cX5_inState 27 = .ok (.if_icmp .ne 7, 3) := dk_160 0 7 (dk_at dksX5_inState_1 4 rfl rfl)
theorem dX5_inState_30 : decode cX5_inState 30 = .ok (.iconst 1, 1) := dk_4 (dk_at dksX5_inState_1 7 rfl rfl)
theorem dX5_inState_31 : decode cX5_inState 31 = .ok (.goto 4, 3) := dk_167 0 4 (dk_at dksX5_inState_1 8 rfl rfl)
theorem dX5_inState_34 : decode cX5_inState 34 = .ok (.iconst 0, 1) := dk_3 (dk_at dksX5_inState_1 11 rfl rfl)
theorem dX5_inState_35 : decode cX5_inState 35 = .ok (.invokestatic 111, 3) := dk_184 0 111 (dk_at dksX5_inState_1 12 rfl rfl)
theorem dX5_inState_38 : decode cX5_inState 38 = .ok (.iadd, 1) := dk_96 (dk_at dksX5_inState_1 15 rfl rfl)
theorem dX5_inState_39 : decode cX5_inState 39 = .ok (.istore_n 2, 1) := dk_61 (dk_at dksX5_inState_1 16 rfl rfl)
theorem dX5_inState_40 : decode cX5_inState 40 = .ok (.iinc 3 1, 3) := dk_132 3 1 (dk_at dksX5_inState_1 17 rfl rfl)
theorem dX5_inState_43 : decode cX5_inState 43 = .ok (.goto (-39), 3) := dk_167 255 217 (dk_at dksX5_inState_1 20 rfl rfl)
theorem dX5_inState_46 : decode cX5_inState 46 = .ok (.iload_n 2, 1) := dk_28 (dk_at dksX5_inState_1 23 rfl rfl)
theorem dX5_inState_47 : decode cX5_inState 47 = .ok (.ireturn, 1) := dk_172 (dk_at dksX5_inState_2 0 rfl rfl)
abbrev cX5_sentAll : ByteArray := prog_5_method_25_code
def yX5_sentAll : MethodName := ⟨RX5, "sentAll", "()I"⟩
def dkwX5_sentAll_1 : List UInt8 := [167, 255, 238, 27, 172]
abbrev dktX5_sentAll_1 : List UInt8 := dkwX5_sentAll_1 ++ []
def dkwX5_sentAll_0 : List UInt8 := [3, 60, 3, 61, 28, 16, 6, 162, 0, 18, 27, 42, 180, 0, 27, 28, 46, 96, 60, 132, 2, 1]
abbrev dktX5_sentAll_0 : List UInt8 := dkwX5_sentAll_0 ++ dktX5_sentAll_1
theorem dksX5_sentAll_0 : cX5_sentAll.data.toList.drop 0 = dktX5_sentAll_0 := by decide +kernel
theorem dksX5_sentAll_1 : cX5_sentAll.data.toList.drop 22 = dktX5_sentAll_1 := dk_seg dksX5_sentAll_0 22 rfl rfl
theorem dX5_sentAll_0 : decode cX5_sentAll 0 = .ok (.iconst 0, 1) := dk_3 (dk_at dksX5_sentAll_0 0 rfl rfl)
theorem dX5_sentAll_1 : decode cX5_sentAll 1 = .ok (.istore_n 1, 1) := dk_60 (dk_at dksX5_sentAll_0 1 rfl rfl)
theorem dX5_sentAll_2 : decode cX5_sentAll 2 = .ok (.iconst 0, 1) := dk_3 (dk_at dksX5_sentAll_0 2 rfl rfl)
theorem dX5_sentAll_3 : decode cX5_sentAll 3 = .ok (.istore_n 2, 1) := dk_61 (dk_at dksX5_sentAll_0 3 rfl rfl)
theorem dX5_sentAll_4 : decode cX5_sentAll 4 = .ok (.iload_n 2, 1) := dk_28 (dk_at dksX5_sentAll_0 4 rfl rfl)
theorem dX5_sentAll_5 : decode cX5_sentAll 5 = .ok (.bipush 6, 2) := dk_16 6 (dk_at dksX5_sentAll_0 5 rfl rfl)
theorem dX5_sentAll_7 : decode cX5_sentAll 7 = .ok (.if_icmp .ge 18, 3) := dk_162 0 18 (dk_at dksX5_sentAll_0 7 rfl rfl)
theorem dX5_sentAll_10 : decode cX5_sentAll 10 = .ok (.iload_n 1, 1) := dk_27 (dk_at dksX5_sentAll_0 10 rfl rfl)
theorem dX5_sentAll_11 : decode cX5_sentAll 11 = .ok (.aload_n 0, 1) := dk_42 (dk_at dksX5_sentAll_0 11 rfl rfl)
theorem dX5_sentAll_12 : decode cX5_sentAll 12 = .ok (.getfield 27, 3) := dk_180 0 27 (dk_at dksX5_sentAll_0 12 rfl rfl)
theorem dX5_sentAll_15 : decode cX5_sentAll 15 = .ok (.iload_n 2, 1) := dk_28 (dk_at dksX5_sentAll_0 15 rfl rfl)
theorem dX5_sentAll_16 : decode cX5_sentAll 16 = .ok (.iaload, 1) := dk_46 (dk_at dksX5_sentAll_0 16 rfl rfl)
theorem dX5_sentAll_17 : decode cX5_sentAll 17 = .ok (.iadd, 1) := dk_96 (dk_at dksX5_sentAll_0 17 rfl rfl)
theorem dX5_sentAll_18 : decode cX5_sentAll 18 = .ok (.istore_n 1, 1) := dk_60 (dk_at dksX5_sentAll_0 18 rfl rfl)
theorem dX5_sentAll_19 : decode cX5_sentAll 19 = .ok (.iinc 2 1, 3) := dk_132 2 1 (dk_at dksX5_sentAll_0 19 rfl rfl)
theorem dX5_sentAll_22 : decode cX5_sentAll 22 = .ok (.goto (-18), 3) := dk_167 255 238 (dk_at dksX5_sentAll_1 0 rfl rfl)
theorem dX5_sentAll_25 : decode cX5_sentAll 25 = .ok (.iload_n 1, 1) := dk_27 (dk_at dksX5_sentAll_1 3 rfl rfl)
theorem dX5_sentAll_26 : decode cX5_sentAll 26 = .ok (.ireturn, 1) := dk_172 (dk_at dksX5_sentAll_1 4 rfl rfl)
abbrev cX5_whyNotAgain : ByteArray := prog_5_method_23_code
def yX5_whyNotAgain : MethodName := ⟨RX5, "whyNotAgain", "(I)I"⟩
def dkwX5_whyNotAgain_1 : List UInt8 := [6, 160, 0, 7, 5, 167, 0, 4, 3, 172]
abbrev dktX5_whyNotAgain_1 : List UInt8 := dkwX5_whyNotAgain_1 ++ []
def dkwX5_whyNotAgain_0 : List UInt8 := [42, 27, 182, 0, 91, 180, 0, 143, 5, 159, 0, 7, 4, 167, 0, 20, 42, 27, 182, 0, 91, 180, 0, 186]
abbrev dktX5_whyNotAgain_0 : List UInt8 := dkwX5_whyNotAgain_0 ++ dktX5_whyNotAgain_1
theorem dksX5_whyNotAgain_0 : cX5_whyNotAgain.data.toList.drop 0 = dktX5_whyNotAgain_0 := by decide +kernel
theorem dksX5_whyNotAgain_1 : cX5_whyNotAgain.data.toList.drop 24 = dktX5_whyNotAgain_1 := dk_seg dksX5_whyNotAgain_0 24 rfl rfl
theorem dX5_whyNotAgain_0 : decode cX5_whyNotAgain 0 = .ok (.aload_n 0, 1) := dk_42 (dk_at dksX5_whyNotAgain_0 0 rfl rfl)
theorem dX5_whyNotAgain_1 : decode cX5_whyNotAgain 1 = .ok (.iload_n 1, 1) := dk_27 (dk_at dksX5_whyNotAgain_0 1 rfl rfl)
theorem dX5_whyNotAgain_2 : decode cX5_whyNotAgain 2 = .ok (.invokevirtual 91, 3) := dk_182 0 91 (dk_at dksX5_whyNotAgain_0 2 rfl rfl)
theorem dX5_whyNotAgain_5 : decode cX5_whyNotAgain 5 = .ok (.getfield 143, 3) := dk_180 0 143 (dk_at dksX5_whyNotAgain_0 5 rfl rfl)
theorem dX5_whyNotAgain_8 : decode cX5_whyNotAgain 8 = .ok (.iconst 2, 1) := dk_5 (dk_at dksX5_whyNotAgain_0 8 rfl rfl)
theorem dX5_whyNotAgain_9 : decode cX5_whyNotAgain 9 = .ok (.if_icmp .eq 7, 3) := dk_159 0 7 (dk_at dksX5_whyNotAgain_0 9 rfl rfl)
theorem dX5_whyNotAgain_12 : decode cX5_whyNotAgain 12 = .ok (.iconst 1, 1) := dk_4 (dk_at dksX5_whyNotAgain_0 12 rfl rfl)
theorem dX5_whyNotAgain_13 : decode cX5_whyNotAgain 13 = .ok (.goto 20, 3) := dk_167 0 20 (dk_at dksX5_whyNotAgain_0 13 rfl rfl)
theorem dX5_whyNotAgain_16 : decode cX5_whyNotAgain 16 = .ok (.aload_n 0, 1) := dk_42 (dk_at dksX5_whyNotAgain_0 16 rfl rfl)
theorem dX5_whyNotAgain_17 : decode cX5_whyNotAgain 17 = .ok (.iload_n 1, 1) := dk_27 (dk_at dksX5_whyNotAgain_0 17 rfl rfl)
theorem dX5_whyNotAgain_18 : decode cX5_whyNotAgain 18 = .ok (.invokevirtual 91, 3) := dk_182 0 91 (dk_at dksX5_whyNotAgain_0 18 rfl rfl)
theorem dX5_whyNotAgain_21 : decode cX5_whyNotAgain 21 = .ok (.getfield 186, 3) := dk_180 0 186 (dk_at dksX5_whyNotAgain_0 21 rfl rfl)
theorem dX5_whyNotAgain_24 : decode cX5_whyNotAgain 24 = .ok (.iconst 3, 1) := dk_6 (dk_at dksX5_whyNotAgain_1 0 rfl rfl)
theorem dX5_whyNotAgain_25 : decode cX5_whyNotAgain 25 = .ok (.if_icmp .ne 7, 3) := dk_160 0 7 (dk_at dksX5_whyNotAgain_1 1 rfl rfl)
theorem dX5_whyNotAgain_28 : decode cX5_whyNotAgain 28 = .ok (.iconst 2, 1) := dk_5 (dk_at dksX5_whyNotAgain_1 4 rfl rfl)
theorem dX5_whyNotAgain_29 : decode cX5_whyNotAgain 29 = .ok (.goto 4, 3) := dk_167 0 4 (dk_at dksX5_whyNotAgain_1 5 rfl rfl)
theorem dX5_whyNotAgain_32 : decode cX5_whyNotAgain 32 = .ok (.iconst 0, 1) := dk_3 (dk_at dksX5_whyNotAgain_1 8 rfl rfl)
theorem dX5_whyNotAgain_33 : decode cX5_whyNotAgain 33 = .ok (.ireturn, 1) := dk_172 (dk_at dksX5_whyNotAgain_1 9 rfl rfl)
abbrev cX5_init_2 : ByteArray := prog_5_method_2_code
def yX5_init_2 : MethodName := ⟨RX5, "<init>", "(LBadCodes$Office;)V"⟩
def dkwX5_init_2_9 : List UInt8 := [184, 0, 76, 177]
abbrev dktX5_init_2_9 : List UInt8 := dkwX5_init_2_9 ++ []
def dkwX5_init_2_8 : List UInt8 := [3, 42, 180, 0, 30, 3, 16, 6, 184, 0, 76, 43, 180, 0, 33, 3, 42, 180, 0, 33, 3, 16, 6]
abbrev dktX5_init_2_8 : List UInt8 := dkwX5_init_2_8 ++ dktX5_init_2_9
def dkwX5_init_2_7 : List UInt8 := [16, 6, 184, 0, 76, 43, 180, 0, 27, 3, 42, 180, 0, 27, 3, 16, 6, 184, 0, 76, 43, 180, 0, 30]
abbrev dktX5_init_2_7 : List UInt8 := dkwX5_init_2_7 ++ dktX5_init_2_8
def dkwX5_init_2_6 : List UInt8 := [180, 0, 20, 3, 42, 180, 0, 20, 3, 16, 6, 184, 0, 76, 43, 180, 0, 24, 3, 42, 180, 0, 24, 3]
abbrev dktX5_init_2_6 : List UInt8 := dkwX5_init_2_6 ++ dktX5_init_2_7
def dkwX5_init_2_5 : List UInt8 := [185, 0, 62, 2, 0, 192, 0, 66, 182, 0, 68, 185, 0, 72, 2, 0, 87, 132, 2, 1, 167, 255, 214, 43]
abbrev dktX5_init_2_5 : List UInt8 := dkwX5_init_2_5 ++ dktX5_init_2_6
def dkwX5_init_2_4 : List UInt8 := [180, 0, 14, 185, 0, 56, 1, 0, 162, 0, 35, 42, 180, 0, 14, 43, 180, 0, 14, 28]
abbrev dktX5_init_2_4 : List UInt8 := dkwX5_init_2_4 ++ dktX5_init_2_5
def dkwX5_init_2_3 : List UInt8 := [181, 0, 40, 42, 43, 180, 0, 44, 181, 0, 44, 42, 43, 180, 0, 53, 181, 0, 53, 3, 61, 28, 43]
abbrev dktX5_init_2_3 : List UInt8 := dkwX5_init_2_3 ++ dktX5_init_2_4
def dkwX5_init_2_2 : List UInt8 := [181, 0, 30, 42, 16, 6, 188, 4, 181, 0, 33, 42, 43, 180, 0, 37, 181, 0, 37, 42, 43, 180, 0, 40]
abbrev dktX5_init_2_2 : List UInt8 := dkwX5_init_2_2 ++ dktX5_init_2_3
def dkwX5_init_2_1 : List UInt8 := [181, 0, 20, 42, 16, 6, 188, 10, 181, 0, 24, 42, 16, 6, 188, 10, 181, 0, 27, 42, 16, 6, 188, 10]
abbrev dktX5_init_2_1 : List UInt8 := dkwX5_init_2_1 ++ dktX5_init_2_2
def dkwX5_init_2_0 : List UInt8 := [42, 183, 0, 3, 42, 187, 0, 9, 89, 16, 24, 183, 0, 11, 181, 0, 14, 42, 16, 6, 188, 10]
abbrev dktX5_init_2_0 : List UInt8 := dkwX5_init_2_0 ++ dktX5_init_2_1
theorem dksX5_init_2_0 : cX5_init_2.data.toList.drop 0 = dktX5_init_2_0 := by decide +kernel
theorem dksX5_init_2_1 : cX5_init_2.data.toList.drop 22 = dktX5_init_2_1 := dk_seg dksX5_init_2_0 22 rfl rfl
theorem dksX5_init_2_2 : cX5_init_2.data.toList.drop 46 = dktX5_init_2_2 := dk_seg dksX5_init_2_1 24 rfl rfl
theorem dksX5_init_2_3 : cX5_init_2.data.toList.drop 70 = dktX5_init_2_3 := dk_seg dksX5_init_2_2 24 rfl rfl
theorem dksX5_init_2_4 : cX5_init_2.data.toList.drop 93 = dktX5_init_2_4 := dk_seg dksX5_init_2_3 23 rfl rfl
theorem dksX5_init_2_5 : cX5_init_2.data.toList.drop 113 = dktX5_init_2_5 := dk_seg dksX5_init_2_4 20 rfl rfl
theorem dksX5_init_2_6 : cX5_init_2.data.toList.drop 137 = dktX5_init_2_6 := dk_seg dksX5_init_2_5 24 rfl rfl
theorem dksX5_init_2_7 : cX5_init_2.data.toList.drop 161 = dktX5_init_2_7 := dk_seg dksX5_init_2_6 24 rfl rfl
theorem dksX5_init_2_8 : cX5_init_2.data.toList.drop 185 = dktX5_init_2_8 := dk_seg dksX5_init_2_7 24 rfl rfl
theorem dksX5_init_2_9 : cX5_init_2.data.toList.drop 208 = dktX5_init_2_9 := dk_seg dksX5_init_2_8 23 rfl rfl
theorem dX5_init_2_0 : decode cX5_init_2 0 = .ok (.aload_n 0, 1) := dk_42 (dk_at dksX5_init_2_0 0 rfl rfl)
theorem dX5_init_2_1 : decode cX5_init_2 1 = .ok (.invokespecial 3, 3) := dk_183 0 3 (dk_at dksX5_init_2_0 1 rfl rfl)
theorem dX5_init_2_4 : decode cX5_init_2 4 = .ok (.aload_n 0, 1) := dk_42 (dk_at dksX5_init_2_0 4 rfl rfl)
theorem dX5_init_2_5 : decode cX5_init_2 5 = .ok (.new 9, 3) := dk_187 0 9 (dk_at dksX5_init_2_0 5 rfl rfl)
theorem dX5_init_2_8 : decode cX5_init_2 8 = .ok (.dup, 1) := dk_89 (dk_at dksX5_init_2_0 8 rfl rfl)
theorem dX5_init_2_9 : decode cX5_init_2 9 = .ok (.bipush 24, 2) := dk_16 24 (dk_at dksX5_init_2_0 9 rfl rfl)
theorem dX5_init_2_11 : decode cX5_init_2 11 = .ok (.invokespecial 11, 3) := dk_183 0 11 (dk_at dksX5_init_2_0 11 rfl rfl)
theorem dX5_init_2_14 : decode cX5_init_2 14 = .ok (.putfield 14, 3) := dk_181 0 14 (dk_at dksX5_init_2_0 14 rfl rfl)
theorem dX5_init_2_17 : decode cX5_init_2 17 = .ok (.aload_n 0, 1) := dk_42 (dk_at dksX5_init_2_0 17 rfl rfl)
theorem dX5_init_2_18 : decode cX5_init_2 18 = .ok (.bipush 6, 2) := dk_16 6 (dk_at dksX5_init_2_0 18 rfl rfl)
theorem dX5_init_2_20 : decode cX5_init_2 20 = .ok (.newarray .int, 2) := dk_188_10 (dk_at dksX5_init_2_0 20 rfl rfl)
theorem dX5_init_2_22 : decode cX5_init_2 22 = .ok (.putfield 20, 3) := dk_181 0 20 (dk_at dksX5_init_2_1 0 rfl rfl)
theorem dX5_init_2_25 : decode cX5_init_2 25 = .ok (.aload_n 0, 1) := dk_42 (dk_at dksX5_init_2_1 3 rfl rfl)
theorem dX5_init_2_26 : decode cX5_init_2 26 = .ok (.bipush 6, 2) := dk_16 6 (dk_at dksX5_init_2_1 4 rfl rfl)
theorem dX5_init_2_28 : decode cX5_init_2 28 = .ok (.newarray .int, 2) := dk_188_10 (dk_at dksX5_init_2_1 6 rfl rfl)
theorem dX5_init_2_30 : decode cX5_init_2 30 = .ok (.putfield 24, 3) := dk_181 0 24 (dk_at dksX5_init_2_1 8 rfl rfl)
theorem dX5_init_2_33 : decode cX5_init_2 33 = .ok (.aload_n 0, 1) := dk_42 (dk_at dksX5_init_2_1 11 rfl rfl)
theorem dX5_init_2_34 : decode cX5_init_2 34 = .ok (.bipush 6, 2) := dk_16 6 (dk_at dksX5_init_2_1 12 rfl rfl)
theorem dX5_init_2_36 : decode cX5_init_2 36 = .ok (.newarray .int, 2) := dk_188_10 (dk_at dksX5_init_2_1 14 rfl rfl)
theorem dX5_init_2_38 : decode cX5_init_2 38 = .ok (.putfield 27, 3) := dk_181 0 27 (dk_at dksX5_init_2_1 16 rfl rfl)
theorem dX5_init_2_41 : decode cX5_init_2 41 = .ok (.aload_n 0, 1) := dk_42 (dk_at dksX5_init_2_1 19 rfl rfl)
theorem dX5_init_2_42 : decode cX5_init_2 42 = .ok (.bipush 6, 2) := dk_16 6 (dk_at dksX5_init_2_1 20 rfl rfl)
theorem dX5_init_2_44 : decode cX5_init_2 44 = .ok (.newarray .int, 2) := dk_188_10 (dk_at dksX5_init_2_1 22 rfl rfl)
theorem dX5_init_2_46 : decode cX5_init_2 46 = .ok (.putfield 30, 3) := dk_181 0 30 (dk_at dksX5_init_2_2 0 rfl rfl)
theorem dX5_init_2_49 : decode cX5_init_2 49 = .ok (.aload_n 0, 1) := dk_42 (dk_at dksX5_init_2_2 3 rfl rfl)
theorem dX5_init_2_50 : decode cX5_init_2 50 = .ok (.bipush 6, 2) := dk_16 6 (dk_at dksX5_init_2_2 4 rfl rfl)
theorem dX5_init_2_52 : decode cX5_init_2 52 = .ok (.newarray .boolean, 2) := dk_188_4 (dk_at dksX5_init_2_2 6 rfl rfl)
theorem dX5_init_2_54 : decode cX5_init_2 54 = .ok (.putfield 33, 3) := dk_181 0 33 (dk_at dksX5_init_2_2 8 rfl rfl)
theorem dX5_init_2_57 : decode cX5_init_2 57 = .ok (.aload_n 0, 1) := dk_42 (dk_at dksX5_init_2_2 11 rfl rfl)
theorem dX5_init_2_58 : decode cX5_init_2 58 = .ok (.aload_n 1, 1) := dk_43 (dk_at dksX5_init_2_2 12 rfl rfl)
theorem dX5_init_2_59 : decode cX5_init_2 59 = .ok (.getfield 37, 3) := dk_180 0 37 (dk_at dksX5_init_2_2 13 rfl rfl)
theorem dX5_init_2_62 : decode cX5_init_2 62 = .ok (.putfield 37, 3) := dk_181 0 37 (dk_at dksX5_init_2_2 16 rfl rfl)
theorem dX5_init_2_65 : decode cX5_init_2 65 = .ok (.aload_n 0, 1) := dk_42 (dk_at dksX5_init_2_2 19 rfl rfl)
theorem dX5_init_2_66 : decode cX5_init_2 66 = .ok (.aload_n 1, 1) := dk_43 (dk_at dksX5_init_2_2 20 rfl rfl)
theorem dX5_init_2_67 : decode cX5_init_2 67 = .ok (.getfield 40, 3) := dk_180 0 40 (dk_at dksX5_init_2_2 21 rfl rfl)
theorem dX5_init_2_70 : decode cX5_init_2 70 = .ok (.putfield 40, 3) := dk_181 0 40 (dk_at dksX5_init_2_3 0 rfl rfl)
theorem dX5_init_2_73 : decode cX5_init_2 73 = .ok (.aload_n 0, 1) := dk_42 (dk_at dksX5_init_2_3 3 rfl rfl)
theorem dX5_init_2_74 : decode cX5_init_2 74 = .ok (.aload_n 1, 1) := dk_43 (dk_at dksX5_init_2_3 4 rfl rfl)
theorem dX5_init_2_75 : decode cX5_init_2 75 = .ok (.getfield 44, 3) := dk_180 0 44 (dk_at dksX5_init_2_3 5 rfl rfl)
theorem dX5_init_2_78 : decode cX5_init_2 78 = .ok (.putfield 44, 3) := dk_181 0 44 (dk_at dksX5_init_2_3 8 rfl rfl)
theorem dX5_init_2_81 : decode cX5_init_2 81 = .ok (.aload_n 0, 1) := dk_42 (dk_at dksX5_init_2_3 11 rfl rfl)
theorem dX5_init_2_82 : decode cX5_init_2 82 = .ok (.aload_n 1, 1) := dk_43 (dk_at dksX5_init_2_3 12 rfl rfl)
theorem dX5_init_2_83 : decode cX5_init_2 83 = .ok (.getfield 53, 3) := dk_180 0 53 (dk_at dksX5_init_2_3 13 rfl rfl)
theorem dX5_init_2_86 : decode cX5_init_2 86 = .ok (.putfield 53, 3) := dk_181 0 53 (dk_at dksX5_init_2_3 16 rfl rfl)
theorem dX5_init_2_89 : decode cX5_init_2 89 = .ok (.iconst 0, 1) := dk_3 (dk_at dksX5_init_2_3 19 rfl rfl)
theorem dX5_init_2_90 : decode cX5_init_2 90 = .ok (.istore_n 2, 1) := dk_61 (dk_at dksX5_init_2_3 20 rfl rfl)
theorem dX5_init_2_91 : decode cX5_init_2 91 = .ok (.iload_n 2, 1) := dk_28 (dk_at dksX5_init_2_3 21 rfl rfl)
theorem dX5_init_2_92 : decode cX5_init_2 92 = .ok (.aload_n 1, 1) := dk_43 (dk_at dksX5_init_2_3 22 rfl rfl)
theorem dX5_init_2_93 : decode cX5_init_2 93 = .ok (.getfield 14, 3) := dk_180 0 14 (dk_at dksX5_init_2_4 0 rfl rfl)
theorem dX5_init_2_96 : decode cX5_init_2 96 = .ok (.invokeinterface 56 1, 5) := by decide +kernel
theorem dX5_init_2_101 : decode cX5_init_2 101 = .ok (.if_icmp .ge 35, 3) := dk_162 0 35 (dk_at dksX5_init_2_4 8 rfl rfl)
theorem dX5_init_2_104 : decode cX5_init_2 104 = .ok (.aload_n 0, 1) := dk_42 (dk_at dksX5_init_2_4 11 rfl rfl)
theorem dX5_init_2_105 : decode cX5_init_2 105 = .ok (.getfield 14, 3) := dk_180 0 14 (dk_at dksX5_init_2_4 12 rfl rfl)
theorem dX5_init_2_108 : decode cX5_init_2 108 = .ok (.aload_n 1, 1) := dk_43 (dk_at dksX5_init_2_4 15 rfl rfl)
theorem dX5_init_2_109 : decode cX5_init_2 109 = .ok (.getfield 14, 3) := dk_180 0 14 (dk_at dksX5_init_2_4 16 rfl rfl)
theorem dX5_init_2_112 : decode cX5_init_2 112 = .ok (.iload_n 2, 1) := dk_28 (dk_at dksX5_init_2_4 19 rfl rfl)
theorem dX5_init_2_113 : decode cX5_init_2 113 = .ok (.invokeinterface 62 2, 5) := by decide +kernel
theorem dX5_init_2_118 : decode cX5_init_2 118 = .ok (.checkcast 66, 3) := dk_192 0 66 (dk_at dksX5_init_2_5 5 rfl rfl)
theorem dX5_init_2_121 : decode cX5_init_2 121 = .ok (.invokevirtual 68, 3) := dk_182 0 68 (dk_at dksX5_init_2_5 8 rfl rfl)
theorem dX5_init_2_124 : decode cX5_init_2 124 = .ok (.invokeinterface 72 2, 5) := by decide +kernel
theorem dX5_init_2_129 : decode cX5_init_2 129 = .ok (.pop, 1) := dk_87 (dk_at dksX5_init_2_5 16 rfl rfl)
theorem dX5_init_2_130 : decode cX5_init_2 130 = .ok (.iinc 2 1, 3) := dk_132 2 1 (dk_at dksX5_init_2_5 17 rfl rfl)
theorem dX5_init_2_133 : decode cX5_init_2 133 = .ok (.goto (-42), 3) := dk_167 255 214 (dk_at dksX5_init_2_5 20 rfl rfl)
theorem dX5_init_2_136 : decode cX5_init_2 136 = .ok (.aload_n 1, 1) := dk_43 (dk_at dksX5_init_2_5 23 rfl rfl)
theorem dX5_init_2_137 : decode cX5_init_2 137 = .ok (.getfield 20, 3) := dk_180 0 20 (dk_at dksX5_init_2_6 0 rfl rfl)
theorem dX5_init_2_140 : decode cX5_init_2 140 = .ok (.iconst 0, 1) := dk_3 (dk_at dksX5_init_2_6 3 rfl rfl)
theorem dX5_init_2_141 : decode cX5_init_2 141 = .ok (.aload_n 0, 1) := dk_42 (dk_at dksX5_init_2_6 4 rfl rfl)
theorem dX5_init_2_142 : decode cX5_init_2 142 = .ok (.getfield 20, 3) := dk_180 0 20 (dk_at dksX5_init_2_6 5 rfl rfl)
theorem dX5_init_2_145 : decode cX5_init_2 145 = .ok (.iconst 0, 1) := dk_3 (dk_at dksX5_init_2_6 8 rfl rfl)
theorem dX5_init_2_146 : decode cX5_init_2 146 = .ok (.bipush 6, 2) := dk_16 6 (dk_at dksX5_init_2_6 9 rfl rfl)
theorem dX5_init_2_148 : decode cX5_init_2 148 = .ok (.invokestatic 76, 3) := dk_184 0 76 (dk_at dksX5_init_2_6 11 rfl rfl)
theorem dX5_init_2_151 : decode cX5_init_2 151 = .ok (.aload_n 1, 1) := dk_43 (dk_at dksX5_init_2_6 14 rfl rfl)
theorem dX5_init_2_152 : decode cX5_init_2 152 = .ok (.getfield 24, 3) := dk_180 0 24 (dk_at dksX5_init_2_6 15 rfl rfl)
theorem dX5_init_2_155 : decode cX5_init_2 155 = .ok (.iconst 0, 1) := dk_3 (dk_at dksX5_init_2_6 18 rfl rfl)
theorem dX5_init_2_156 : decode cX5_init_2 156 = .ok (.aload_n 0, 1) := dk_42 (dk_at dksX5_init_2_6 19 rfl rfl)
theorem dX5_init_2_157 : decode cX5_init_2 157 = .ok (.getfield 24, 3) := dk_180 0 24 (dk_at dksX5_init_2_6 20 rfl rfl)
theorem dX5_init_2_160 : decode cX5_init_2 160 = .ok (.iconst 0, 1) := dk_3 (dk_at dksX5_init_2_6 23 rfl rfl)
theorem dX5_init_2_161 : decode cX5_init_2 161 = .ok (.bipush 6, 2) := dk_16 6 (dk_at dksX5_init_2_7 0 rfl rfl)
theorem dX5_init_2_163 : decode cX5_init_2 163 = .ok (.invokestatic 76, 3) := dk_184 0 76 (dk_at dksX5_init_2_7 2 rfl rfl)
theorem dX5_init_2_166 : decode cX5_init_2 166 = .ok (.aload_n 1, 1) := dk_43 (dk_at dksX5_init_2_7 5 rfl rfl)
theorem dX5_init_2_167 : decode cX5_init_2 167 = .ok (.getfield 27, 3) := dk_180 0 27 (dk_at dksX5_init_2_7 6 rfl rfl)
theorem dX5_init_2_170 : decode cX5_init_2 170 = .ok (.iconst 0, 1) := dk_3 (dk_at dksX5_init_2_7 9 rfl rfl)
theorem dX5_init_2_171 : decode cX5_init_2 171 = .ok (.aload_n 0, 1) := dk_42 (dk_at dksX5_init_2_7 10 rfl rfl)
theorem dX5_init_2_172 : decode cX5_init_2 172 = .ok (.getfield 27, 3) := dk_180 0 27 (dk_at dksX5_init_2_7 11 rfl rfl)
theorem dX5_init_2_175 : decode cX5_init_2 175 = .ok (.iconst 0, 1) := dk_3 (dk_at dksX5_init_2_7 14 rfl rfl)
theorem dX5_init_2_176 : decode cX5_init_2 176 = .ok (.bipush 6, 2) := dk_16 6 (dk_at dksX5_init_2_7 15 rfl rfl)
theorem dX5_init_2_178 : decode cX5_init_2 178 = .ok (.invokestatic 76, 3) := dk_184 0 76 (dk_at dksX5_init_2_7 17 rfl rfl)
theorem dX5_init_2_181 : decode cX5_init_2 181 = .ok (.aload_n 1, 1) := dk_43 (dk_at dksX5_init_2_7 20 rfl rfl)
theorem dX5_init_2_182 : decode cX5_init_2 182 = .ok (.getfield 30, 3) := dk_180 0 30 (dk_at dksX5_init_2_7 21 rfl rfl)
theorem dX5_init_2_185 : decode cX5_init_2 185 = .ok (.iconst 0, 1) := dk_3 (dk_at dksX5_init_2_8 0 rfl rfl)
theorem dX5_init_2_186 : decode cX5_init_2 186 = .ok (.aload_n 0, 1) := dk_42 (dk_at dksX5_init_2_8 1 rfl rfl)
theorem dX5_init_2_187 : decode cX5_init_2 187 = .ok (.getfield 30, 3) := dk_180 0 30 (dk_at dksX5_init_2_8 2 rfl rfl)
theorem dX5_init_2_190 : decode cX5_init_2 190 = .ok (.iconst 0, 1) := dk_3 (dk_at dksX5_init_2_8 5 rfl rfl)
theorem dX5_init_2_191 : decode cX5_init_2 191 = .ok (.bipush 6, 2) := dk_16 6 (dk_at dksX5_init_2_8 6 rfl rfl)
theorem dX5_init_2_193 : decode cX5_init_2 193 = .ok (.invokestatic 76, 3) := dk_184 0 76 (dk_at dksX5_init_2_8 8 rfl rfl)
theorem dX5_init_2_196 : decode cX5_init_2 196 = .ok (.aload_n 1, 1) := dk_43 (dk_at dksX5_init_2_8 11 rfl rfl)
theorem dX5_init_2_197 : decode cX5_init_2 197 = .ok (.getfield 33, 3) := dk_180 0 33 (dk_at dksX5_init_2_8 12 rfl rfl)
theorem dX5_init_2_200 : decode cX5_init_2 200 = .ok (.iconst 0, 1) := dk_3 (dk_at dksX5_init_2_8 15 rfl rfl)
theorem dX5_init_2_201 : decode cX5_init_2 201 = .ok (.aload_n 0, 1) := dk_42 (dk_at dksX5_init_2_8 16 rfl rfl)
theorem dX5_init_2_202 : decode cX5_init_2 202 = .ok (.getfield 33, 3) := dk_180 0 33 (dk_at dksX5_init_2_8 17 rfl rfl)
theorem dX5_init_2_205 : decode cX5_init_2 205 = .ok (.iconst 0, 1) := dk_3 (dk_at dksX5_init_2_8 20 rfl rfl)
theorem dX5_init_2_206 : decode cX5_init_2 206 = .ok (.bipush 6, 2) := dk_16 6 (dk_at dksX5_init_2_8 21 rfl rfl)
theorem dX5_init_2_208 : decode cX5_init_2 208 = .ok (.invokestatic 76, 3) := dk_184 0 76 (dk_at dksX5_init_2_9 0 rfl rfl)
theorem dX5_init_2_211 : decode cX5_init_2 211 = .ok (.return_, 1) := dk_177 (dk_at dksX5_init_2_9 3 rfl rfl)
abbrev cX5_cause : ByteArray := prog_5_method_19_code
def yX5_cause : MethodName := ⟨RX5, "cause", "(I)I"⟩
def dkwX5_cause_0 : List UInt8 := [42, 27, 182, 0, 169, 61, 3, 172, 77, 44, 182, 0, 172, 172]
abbrev dktX5_cause_0 : List UInt8 := dkwX5_cause_0 ++ []
theorem dksX5_cause_0 : cX5_cause.data.toList.drop 0 = dktX5_cause_0 := by decide +kernel
theorem dX5_cause_0 : decode cX5_cause 0 = .ok (.aload_n 0, 1) := dk_42 (dk_at dksX5_cause_0 0 rfl rfl)
theorem dX5_cause_1 : decode cX5_cause 1 = .ok (.iload_n 1, 1) := dk_27 (dk_at dksX5_cause_0 1 rfl rfl)
theorem dX5_cause_2 : decode cX5_cause 2 = .ok (.invokevirtual 169, 3) := dk_182 0 169 (dk_at dksX5_cause_0 2 rfl rfl)
theorem dX5_cause_5 : decode cX5_cause 5 = .ok (.istore_n 2, 1) := dk_61 (dk_at dksX5_cause_0 5 rfl rfl)
theorem dX5_cause_6 : decode cX5_cause 6 = .ok (.iconst 0, 1) := dk_3 (dk_at dksX5_cause_0 6 rfl rfl)
theorem dX5_cause_7 : decode cX5_cause 7 = .ok (.ireturn, 1) := dk_172 (dk_at dksX5_cause_0 7 rfl rfl)
theorem dX5_cause_8 : decode cX5_cause 8 = .ok (.astore_n 2, 1) := dk_77 (dk_at dksX5_cause_0 8 rfl rfl)
theorem dX5_cause_9 : decode cX5_cause 9 = .ok (.aload_n 2, 1) := dk_44 (dk_at dksX5_cause_0 9 rfl rfl)
theorem dX5_cause_10 : decode cX5_cause 10 = .ok (.invokevirtual 172, 3) := dk_182 0 172 (dk_at dksX5_cause_0 10 rfl rfl)
theorem dX5_cause_13 : decode cX5_cause 13 = .ok (.ireturn, 1) := dk_172 (dk_at dksX5_cause_0 13 rfl rfl)
abbrev cX5_reads : ByteArray := prog_5_method_24_code
def yX5_reads : MethodName := ⟨RX5, "reads", "(III)V"⟩
def dkwX5_reads_2 : List UInt8 := [177]
abbrev dktX5_reads_2 : List UInt8 := dkwX5_reads_2 ++ []
def dkwX5_reads_1 : List UInt8 := [29, 79, 25, 4, 3, 181, 0, 143, 25, 4, 3, 181, 0, 180, 42, 89, 180, 0, 53, 4, 96, 181, 0, 53]
abbrev dktX5_reads_1 : List UInt8 := dkwX5_reads_1 ++ dktX5_reads_2
def dkwX5_reads_0 : List UInt8 := [42, 27, 182, 0, 91, 58, 4, 25, 4, 89, 180, 0, 186, 4, 96, 181, 0, 186, 25, 4, 180, 0, 189, 28]
abbrev dktX5_reads_0 : List UInt8 := dkwX5_reads_0 ++ dktX5_reads_1
theorem dksX5_reads_0 : cX5_reads.data.toList.drop 0 = dktX5_reads_0 := by decide +kernel
theorem dksX5_reads_1 : cX5_reads.data.toList.drop 24 = dktX5_reads_1 := dk_seg dksX5_reads_0 24 rfl rfl
theorem dksX5_reads_2 : cX5_reads.data.toList.drop 48 = dktX5_reads_2 := dk_seg dksX5_reads_1 24 rfl rfl
theorem dX5_reads_0 : decode cX5_reads 0 = .ok (.aload_n 0, 1) := dk_42 (dk_at dksX5_reads_0 0 rfl rfl)
theorem dX5_reads_1 : decode cX5_reads 1 = .ok (.iload_n 1, 1) := dk_27 (dk_at dksX5_reads_0 1 rfl rfl)
theorem dX5_reads_2 : decode cX5_reads 2 = .ok (.invokevirtual 91, 3) := dk_182 0 91 (dk_at dksX5_reads_0 2 rfl rfl)
theorem dX5_reads_5 : decode cX5_reads 5 = .ok (.astore 4, 2) := dk_58 4 (dk_at dksX5_reads_0 5 rfl rfl)
theorem dX5_reads_7 : decode cX5_reads 7 = .ok (.aload 4, 2) := dk_25 4 (dk_at dksX5_reads_0 7 rfl rfl)
theorem dX5_reads_9 : decode cX5_reads 9 = .ok (.dup, 1) := dk_89 (dk_at dksX5_reads_0 9 rfl rfl)
theorem dX5_reads_10 : decode cX5_reads 10 = .ok (.getfield 186, 3) := dk_180 0 186 (dk_at dksX5_reads_0 10 rfl rfl)
theorem dX5_reads_13 : decode cX5_reads 13 = .ok (.iconst 1, 1) := dk_4 (dk_at dksX5_reads_0 13 rfl rfl)
theorem dX5_reads_14 : decode cX5_reads 14 = .ok (.iadd, 1) := dk_96 (dk_at dksX5_reads_0 14 rfl rfl)
theorem dX5_reads_15 : decode cX5_reads 15 = .ok (.putfield 186, 3) := dk_181 0 186 (dk_at dksX5_reads_0 15 rfl rfl)
theorem dX5_reads_18 : decode cX5_reads 18 = .ok (.aload 4, 2) := dk_25 4 (dk_at dksX5_reads_0 18 rfl rfl)
theorem dX5_reads_20 : decode cX5_reads 20 = .ok (.getfield 189, 3) := dk_180 0 189 (dk_at dksX5_reads_0 20 rfl rfl)
theorem dX5_reads_23 : decode cX5_reads 23 = .ok (.iload_n 2, 1) := dk_28 (dk_at dksX5_reads_0 23 rfl rfl)
theorem dX5_reads_24 : decode cX5_reads 24 = .ok (.iload_n 3, 1) := dk_29 (dk_at dksX5_reads_1 0 rfl rfl)
theorem dX5_reads_25 : decode cX5_reads 25 = .ok (.iastore, 1) := dk_79 (dk_at dksX5_reads_1 1 rfl rfl)
theorem dX5_reads_26 : decode cX5_reads 26 = .ok (.aload 4, 2) := dk_25 4 (dk_at dksX5_reads_1 2 rfl rfl)
theorem dX5_reads_28 : decode cX5_reads 28 = .ok (.iconst 0, 1) := dk_3 (dk_at dksX5_reads_1 4 rfl rfl)
theorem dX5_reads_29 : decode cX5_reads 29 = .ok (.putfield 143, 3) := dk_181 0 143 (dk_at dksX5_reads_1 5 rfl rfl)
theorem dX5_reads_32 : decode cX5_reads 32 = .ok (.aload 4, 2) := dk_25 4 (dk_at dksX5_reads_1 8 rfl rfl)
theorem dX5_reads_34 : decode cX5_reads 34 = .ok (.iconst 0, 1) := dk_3 (dk_at dksX5_reads_1 10 rfl rfl)
theorem dX5_reads_35 : decode cX5_reads 35 = .ok (.putfield 180, 3) := dk_181 0 180 (dk_at dksX5_reads_1 11 rfl rfl)
theorem dX5_reads_38 : decode cX5_reads 38 = .ok (.aload_n 0, 1) := dk_42 (dk_at dksX5_reads_1 14 rfl rfl)
theorem dX5_reads_39 : decode cX5_reads 39 = .ok (.dup, 1) := dk_89 (dk_at dksX5_reads_1 15 rfl rfl)
theorem dX5_reads_40 : decode cX5_reads 40 = .ok (.getfield 53, 3) := dk_180 0 53 (dk_at dksX5_reads_1 16 rfl rfl)
theorem dX5_reads_43 : decode cX5_reads 43 = .ok (.iconst 1, 1) := dk_4 (dk_at dksX5_reads_1 19 rfl rfl)
theorem dX5_reads_44 : decode cX5_reads 44 = .ok (.iadd, 1) := dk_96 (dk_at dksX5_reads_1 20 rfl rfl)
theorem dX5_reads_45 : decode cX5_reads 45 = .ok (.putfield 53, 3) := dk_181 0 53 (dk_at dksX5_reads_1 21 rfl rfl)
theorem dX5_reads_48 : decode cX5_reads 48 = .ok (.return_, 1) := dk_177 (dk_at dksX5_reads_2 0 rfl rfl)
theorem q139 : (Jvm.Cond.initialized "BadCodes$Office") ∈ lw_all := lw_g (lw_at lw_m1 28 rfl) rfl
theorem q188 : (Jvm.Cond.instanceMethod ({ cls := "BadCodes$Office", name := "letter", desc := "(I)LBadCodes$Letter;" } : Jvm.MethodName)) ∈ lw_all := lw_g (lw_at lw_m1 77 rfl) rfl
theorem q189 : (Jvm.Cond.selects "BadCodes$Office" ({ cls := "BadCodes$Office", name := "letter", desc := "(I)LBadCodes$Letter;" } : Jvm.MethodName) ({ cls := "BadCodes$Office", name := "letter", desc := "(I)LBadCodes$Letter;" } : Jvm.MethodName)) ∈ lw_all := lw_g (lw_at lw_m1 78 rfl) rfl
theorem q190 : (Jvm.Cond.code ({ cls := "BadCodes$Office", name := "letter", desc := "(I)LBadCodes$Letter;" } : Jvm.MethodName) prog_5_method_3_code (2 : Nat) (Option.some (Jvm.ClassFile.FieldType.object "BadCodes$Letter"))) ∈ lw_all := lw_g (lw_at lw_m1 79 rfl) rfl
theorem q191 : (Jvm.Cond.interfaceEntry "BadCodes$Office" (62 : Nat)) ∈ lw_tbl := lw_at lw_m1 80 rfl
theorem q192 : (Jvm.Cond.methodLink "BadCodes$Office" (62 : Nat) ({ cls := "java/util/List", name := "get", desc := "(I)Ljava/lang/Object;" } : Jvm.MethodName)) ∈ lw_all := lw_g (lw_at lw_m1 81 rfl) rfl
theorem q211 : (Jvm.Cond.classLink "BadCodes$Office" (66 : Nat) "BadCodes$Letter") ∈ lw_all := lw_g (lw_at lw_m1 100 rfl) rfl
theorem q790 : (Jvm.Cond.instantiable "BadCodes$Office" (10 : Nat)) ∈ lw_all := lw_g (lw_at lw_m3 199 rfl) rfl
theorem q792 : (Jvm.Cond.instanceMethod ({ cls := "BadCodes$Office", name := "<init>", desc := "(II)V" } : Jvm.MethodName)) ∈ lw_all := lw_g (lw_at lw_m3 201 rfl) rfl
theorem q793 : (Jvm.Cond.code ({ cls := "BadCodes$Office", name := "<init>", desc := "(II)V" } : Jvm.MethodName) prog_5_method_1_code (3 : Nat) (Option.none : Option Jvm.ClassFile.FieldType)) ∈ lw_all := lw_g (lw_at lw_m3 202 rfl) rfl
theorem q794 : (Jvm.Cond.methodLink "BadCodes$Office" (3 : Nat) ({ cls := "java/lang/Object", name := "<init>", desc := "()V" } : Jvm.MethodName)) ∈ lw_all := lw_g (lw_at lw_m3 203 rfl) rfl
theorem q795 : (Jvm.Cond.classLink "BadCodes$Office" (9 : Nat) "java/util/ArrayList") ∈ lw_all := lw_g (lw_at lw_m3 204 rfl) rfl
theorem q797 : (Jvm.Cond.methodLink "BadCodes$Office" (11 : Nat) ({ cls := "java/util/ArrayList", name := "<init>", desc := "(I)V" } : Jvm.MethodName)) ∈ lw_all := lw_g (lw_at lw_m3 206 rfl) rfl
theorem q827 : (Jvm.Cond.methodLink "BadCodes$Office" (47 : Nat) ({ cls := "java/util/Arrays", name := "fill", desc := "([II)V" } : Jvm.MethodName)) ∈ lw_all := lw_g (lw_at lw_m3 236 rfl) rfl
theorem q830 : (Jvm.Cond.fieldLink "BadCodes$Office" (37 : Nat) "BadCodes$Office" "towns" "Ljava/util/List;") ∈ lw_all := lw_g (lw_at lw_m3 239 rfl) rfl
theorem q833 : (Jvm.Cond.fieldLink "BadCodes$Office" (14 : Nat) "BadCodes$Office" "letters" "Ljava/util/List;") ∈ lw_all := lw_g (lw_at lw_m4 2 rfl) rfl
theorem q836 : (Jvm.Cond.fieldLink "BadCodes$Office" (20 : Nat) "BadCodes$Office" "sums" "[I") ∈ lw_all := lw_g (lw_at lw_m4 5 rfl) rfl
theorem q839 : (Jvm.Cond.fieldLink "BadCodes$Office" (24 : Nat) "BadCodes$Office" "inBag" "[I") ∈ lw_all := lw_g (lw_at lw_m4 8 rfl) rfl
theorem q841 : (Jvm.Cond.fieldLink "BadCodes$Office" (27 : Nat) "BadCodes$Office" "sent" "[I") ∈ lw_all := lw_g (lw_at lw_m4 10 rfl) rfl
theorem q843 : (Jvm.Cond.fieldLink "BadCodes$Office" (30 : Nat) "BadCodes$Office" "sorted" "[I") ∈ lw_all := lw_g (lw_at lw_m4 12 rfl) rfl
theorem q845 : (Jvm.Cond.fieldLink "BadCodes$Office" (33 : Nat) "BadCodes$Office" "isClosed" "[Z") ∈ lw_all := lw_g (lw_at lw_m4 14 rfl) rfl
theorem q848 : (Jvm.Cond.fieldLink "BadCodes$Office" (40 : Nat) "BadCodes$Office" "limit" "I") ∈ lw_all := lw_g (lw_at lw_m4 17 rfl) rfl
theorem q850 : (Jvm.Cond.fieldLink "BadCodes$Office" (44 : Nat) "BadCodes$Office" "bag" "I") ∈ lw_all := lw_g (lw_at lw_m4 19 rfl) rfl
theorem q852 : (Jvm.Cond.fieldLink "BadCodes$Office" (53 : Nat) "BadCodes$Office" "readAgain" "I") ∈ lw_all := lw_g (lw_at lw_m4 21 rfl) rfl
theorem q854 : (Jvm.Cond.laysFinal "BadCodes$Office" "BadCodes$Office" "towns" "Ljava/util/List;") ∈ lw_all := lw_g (lw_at lw_m4 23 rfl) rfl
theorem q855 : (Jvm.Cond.soleField "BadCodes$Office" "towns") ∈ lw_all := lw_g (lw_at lw_m4 24 rfl) rfl
theorem q856 : (Jvm.Cond.laysFinal "BadCodes$Office" "BadCodes$Office" "letters" "Ljava/util/List;") ∈ lw_all := lw_g (lw_at lw_m4 25 rfl) rfl
theorem q857 : (Jvm.Cond.soleField "BadCodes$Office" "letters") ∈ lw_all := lw_g (lw_at lw_m4 26 rfl) rfl
theorem q858 : (Jvm.Cond.laysFinal "BadCodes$Office" "BadCodes$Office" "sums" "[I") ∈ lw_all := lw_g (lw_at lw_m4 27 rfl) rfl
theorem q859 : (Jvm.Cond.soleField "BadCodes$Office" "sums") ∈ lw_all := lw_g (lw_at lw_m4 28 rfl) rfl
theorem q860 : (Jvm.Cond.laysFinal "BadCodes$Office" "BadCodes$Office" "inBag" "[I") ∈ lw_all := lw_g (lw_at lw_m4 29 rfl) rfl
theorem q861 : (Jvm.Cond.soleField "BadCodes$Office" "inBag") ∈ lw_all := lw_g (lw_at lw_m4 30 rfl) rfl
theorem q862 : (Jvm.Cond.laysFinal "BadCodes$Office" "BadCodes$Office" "sent" "[I") ∈ lw_all := lw_g (lw_at lw_m4 31 rfl) rfl
theorem q863 : (Jvm.Cond.soleField "BadCodes$Office" "sent") ∈ lw_all := lw_g (lw_at lw_m4 32 rfl) rfl
theorem q864 : (Jvm.Cond.laysFinal "BadCodes$Office" "BadCodes$Office" "sorted" "[I") ∈ lw_all := lw_g (lw_at lw_m4 33 rfl) rfl
theorem q865 : (Jvm.Cond.soleField "BadCodes$Office" "sorted") ∈ lw_all := lw_g (lw_at lw_m4 34 rfl) rfl
theorem q866 : (Jvm.Cond.laysFinal "BadCodes$Office" "BadCodes$Office" "isClosed" "[Z") ∈ lw_all := lw_g (lw_at lw_m4 35 rfl) rfl
theorem q867 : (Jvm.Cond.soleField "BadCodes$Office" "isClosed") ∈ lw_all := lw_g (lw_at lw_m4 36 rfl) rfl
theorem q868 : (Jvm.Cond.lays "BadCodes$Office" "BadCodes$Office" "limit" "I") ∈ lw_all := lw_g (lw_at lw_m4 37 rfl) rfl
theorem q869 : (Jvm.Cond.soleField "BadCodes$Office" "limit") ∈ lw_all := lw_g (lw_at lw_m4 38 rfl) rfl
theorem q870 : (Jvm.Cond.lays "BadCodes$Office" "BadCodes$Office" "bag" "I") ∈ lw_all := lw_g (lw_at lw_m4 39 rfl) rfl
theorem q871 : (Jvm.Cond.soleField "BadCodes$Office" "bag") ∈ lw_all := lw_g (lw_at lw_m4 40 rfl) rfl
theorem q872 : (Jvm.Cond.lays "BadCodes$Office" "BadCodes$Office" "readAgain" "I") ∈ lw_all := lw_g (lw_at lw_m4 41 rfl) rfl
theorem q873 : (Jvm.Cond.soleField "BadCodes$Office" "readAgain") ∈ lw_all := lw_g (lw_at lw_m4 42 rfl) rfl
theorem q874 : (Jvm.Cond.superclass "BadCodes$Office" "java/lang/Object") ∈ lw_all := lw_g (lw_at lw_m4 43 rfl) rfl
theorem q960 : (Jvm.Cond.instanceMethod ({ cls := "BadCodes$Office", name := "townWith", desc := "(I)I" } : Jvm.MethodName)) ∈ lw_all := lw_g (lw_at lw_m4 129 rfl) rfl
theorem q961 : (Jvm.Cond.selects "BadCodes$Office" ({ cls := "BadCodes$Office", name := "townWith", desc := "(I)I" } : Jvm.MethodName) ({ cls := "BadCodes$Office", name := "townWith", desc := "(I)I" } : Jvm.MethodName)) ∈ lw_all := lw_g (lw_at lw_m4 130 rfl) rfl
theorem q962 : (Jvm.Cond.code ({ cls := "BadCodes$Office", name := "townWith", desc := "(I)I" } : Jvm.MethodName) prog_5_method_5_code (3 : Nat) (Option.some Jvm.ClassFile.FieldType.int)) ∈ lw_all := lw_g (lw_at lw_m4 131 rfl) rfl
theorem q963 : (Jvm.Cond.interfaceEntry "BadCodes$Office" (56 : Nat)) ∈ lw_tbl := lw_at lw_m4 132 rfl
theorem q964 : (Jvm.Cond.methodLink "BadCodes$Office" (56 : Nat) ({ cls := "java/util/List", name := "size", desc := "()I" } : Jvm.MethodName)) ∈ lw_all := lw_g (lw_at lw_m4 133 rfl) rfl
theorem q965 : (Jvm.Cond.methodLink "BadCodes$Office" (84 : Nat) ({ cls := "BadCodes$Office", name := "town", desc := "(I)LBadCodes$Town;" } : Jvm.MethodName)) ∈ lw_all := lw_g (lw_at lw_m4 134 rfl) rfl
theorem q966 : (Jvm.Cond.instanceMethod ({ cls := "BadCodes$Office", name := "town", desc := "(I)LBadCodes$Town;" } : Jvm.MethodName)) ∈ lw_all := lw_g (lw_at lw_m4 135 rfl) rfl
theorem q967 : (Jvm.Cond.selects "BadCodes$Office" ({ cls := "BadCodes$Office", name := "town", desc := "(I)LBadCodes$Town;" } : Jvm.MethodName) ({ cls := "BadCodes$Office", name := "town", desc := "(I)LBadCodes$Town;" } : Jvm.MethodName)) ∈ lw_all := lw_g (lw_at lw_m4 136 rfl) rfl
theorem q968 : (Jvm.Cond.code ({ cls := "BadCodes$Office", name := "town", desc := "(I)LBadCodes$Town;" } : Jvm.MethodName) prog_5_method_4_code (2 : Nat) (Option.some (Jvm.ClassFile.FieldType.object "BadCodes$Town"))) ∈ lw_all := lw_g (lw_at lw_m4 137 rfl) rfl
theorem q969 : (Jvm.Cond.classLink "BadCodes$Office" (82 : Nat) "BadCodes$Town") ∈ lw_all := lw_g (lw_at lw_m4 138 rfl) rfl
theorem q970 : (Jvm.Cond.methodLink "BadCodes$Office" (88 : Nat) ({ cls := "BadCodes$Town", name := "number", desc := "()I" } : Jvm.MethodName)) ∈ lw_all := lw_g (lw_at lw_m4 139 rfl) rfl
theorem q1036 : (Jvm.Cond.selects "BadCodes$Office" ({ cls := "java/lang/Object", name := "getClass", desc := "()Ljava/lang/Class;" } : Jvm.MethodName) ({ cls := "java/lang/Object", name := "getClass", desc := "()Ljava/lang/Class;" } : Jvm.MethodName)) ∈ lw_all := lw_g (lw_at lw_m4 205 rfl) rfl
theorem q1071 : (Jvm.Cond.fieldLinkNest "BadCodes$Office" (189 : Nat) "BadCodes$Letter" "read" "[I" "BadCodes") ∈ lw_tbl := lw_at lw_m5 0 rfl
theorem q1075 : (Jvm.Cond.fieldLinkNest "BadCodes$Office" (125 : Nat) "BadCodes$Letter" "bundle" "I" "BadCodes") ∈ lw_tbl := lw_at lw_m5 4 rfl
theorem q1078 : (Jvm.Cond.fieldLinkNest "BadCodes$Office" (143 : Nat) "BadCodes$Letter" "state" "I" "BadCodes") ∈ lw_tbl := lw_at lw_m5 7 rfl
theorem q1081 : (Jvm.Cond.fieldLinkNest "BadCodes$Office" (186 : Nat) "BadCodes$Letter" "tries" "I" "BadCodes") ∈ lw_tbl := lw_at lw_m5 10 rfl
theorem q1084 : (Jvm.Cond.fieldLinkNest "BadCodes$Office" (180 : Nat) "BadCodes$Letter" "cause" "I" "BadCodes") ∈ lw_tbl := lw_at lw_m5 13 rfl
theorem q1087 : (Jvm.Cond.fieldLinkNest "BadCodes$Office" (175 : Nat) "BadCodes$Letter" "town" "I" "BadCodes") ∈ lw_tbl := lw_at lw_m5 16 rfl
theorem q1115 : (Jvm.Cond.instanceMethod ({ cls := "BadCodes$Office", name := "sortsAll", desc := "()I" } : Jvm.MethodName)) ∈ lw_all := lw_g (lw_at lw_m5 44 rfl) rfl
theorem q1116 : (Jvm.Cond.selects "BadCodes$Office" ({ cls := "BadCodes$Office", name := "sortsAll", desc := "()I" } : Jvm.MethodName) ({ cls := "BadCodes$Office", name := "sortsAll", desc := "()I" } : Jvm.MethodName)) ∈ lw_all := lw_g (lw_at lw_m5 45 rfl) rfl
theorem q1117 : (Jvm.Cond.code ({ cls := "BadCodes$Office", name := "sortsAll", desc := "()I" } : Jvm.MethodName) prog_5_method_22_code (3 : Nat) (Option.some Jvm.ClassFile.FieldType.int)) ∈ lw_all := lw_g (lw_at lw_m5 46 rfl) rfl
theorem q1118 : (Jvm.Cond.methodLink "BadCodes$Office" (91 : Nat) ({ cls := "BadCodes$Office", name := "letter", desc := "(I)LBadCodes$Letter;" } : Jvm.MethodName)) ∈ lw_all := lw_g (lw_at lw_m5 47 rfl) rfl
theorem q1119 : (Jvm.Cond.methodLink "BadCodes$Office" (183 : Nat) ({ cls := "BadCodes$Office", name := "sorts", desc := "(I)I" } : Jvm.MethodName)) ∈ lw_all := lw_g (lw_at lw_m5 48 rfl) rfl
theorem q1120 : (Jvm.Cond.instanceMethod ({ cls := "BadCodes$Office", name := "sorts", desc := "(I)I" } : Jvm.MethodName)) ∈ lw_all := lw_g (lw_at lw_m5 49 rfl) rfl
theorem q1121 : (Jvm.Cond.selects "BadCodes$Office" ({ cls := "BadCodes$Office", name := "sorts", desc := "(I)I" } : Jvm.MethodName) ({ cls := "BadCodes$Office", name := "sorts", desc := "(I)I" } : Jvm.MethodName)) ∈ lw_all := lw_g (lw_at lw_m5 50 rfl) rfl
theorem q1122 : (Jvm.Cond.codeWith ({ cls := "BadCodes$Office", name := "sorts", desc := "(I)I" } : Jvm.MethodName) prog_5_method_21_code (6 : Nat) (Option.some Jvm.ClassFile.FieldType.int) [((8 : Nat), (34 : Nat), (42 : Nat), (164 : Nat)), ((8 : Nat), (34 : Nat), (61 : Nat), (0 : Nat)), ((42 : Nat), (53 : Nat), (61 : Nat), (0 : Nat)), ((61 : Nat), (63 : Nat), (61 : Nat), (0 : Nat))]) ∈ lw_all := lw_g (lw_at lw_m5 51 rfl) rfl
theorem q1123 : (Jvm.Cond.classLink "BadCodes$Office" (164 : Nat) "BadCodes$Returned") ∈ lw_all := lw_g (lw_at lw_m5 52 rfl) rfl
theorem q1124 : (Jvm.Cond.methodLink "BadCodes$Office" (169 : Nat) ({ cls := "BadCodes$Office", name := "mustBeSorted", desc := "(I)I" } : Jvm.MethodName)) ∈ lw_all := lw_g (lw_at lw_m5 53 rfl) rfl
theorem q1125 : (Jvm.Cond.privateMethod ({ cls := "BadCodes$Office", name := "mustBeSorted", desc := "(I)I" } : Jvm.MethodName)) ∈ lw_tbl := lw_at lw_m5 54 rfl
theorem q1126 : (Jvm.Cond.instanceMethod ({ cls := "BadCodes$Office", name := "mustBeSorted", desc := "(I)I" } : Jvm.MethodName)) ∈ lw_all := lw_g (lw_at lw_m5 55 rfl) rfl
theorem q1127 : (Jvm.Cond.codeWith ({ cls := "BadCodes$Office", name := "mustBeSorted", desc := "(I)I" } : Jvm.MethodName) prog_5_method_18_code (3 : Nat) (Option.some Jvm.ClassFile.FieldType.int) [((0 : Nat), (19 : Nat), (20 : Nat), (149 : Nat)), ((0 : Nat), (19 : Nat), (20 : Nat), (152 : Nat))]) ∈ lw_all := lw_g (lw_at lw_m5 56 rfl) rfl
theorem q1128 : (Jvm.Cond.classLink "BadCodes$Office" (149 : Nat) "BadCodes$Undecided") ∈ lw_all := lw_g (lw_at lw_m5 57 rfl) rfl
theorem q1129 : (Jvm.Cond.classLink "BadCodes$Office" (152 : Nat) "BadCodes$ClosedRoute") ∈ lw_all := lw_g (lw_at lw_m5 58 rfl) rfl
theorem q1130 : (Jvm.Cond.methodLink "BadCodes$Office" (155 : Nat) ({ cls := "BadCodes$Office", name := "mustBeDecided", desc := "(I)I" } : Jvm.MethodName)) ∈ lw_all := lw_g (lw_at lw_m5 59 rfl) rfl
theorem q1131 : (Jvm.Cond.privateMethod ({ cls := "BadCodes$Office", name := "mustBeDecided", desc := "(I)I" } : Jvm.MethodName)) ∈ lw_tbl := lw_at lw_m5 60 rfl
theorem q1132 : (Jvm.Cond.instanceMethod ({ cls := "BadCodes$Office", name := "mustBeDecided", desc := "(I)I" } : Jvm.MethodName)) ∈ lw_all := lw_g (lw_at lw_m5 61 rfl) rfl
theorem q1133 : (Jvm.Cond.code ({ cls := "BadCodes$Office", name := "mustBeDecided", desc := "(I)I" } : Jvm.MethodName) prog_5_method_16_code (3 : Nat) (Option.some Jvm.ClassFile.FieldType.int)) ∈ lw_all := lw_g (lw_at lw_m5 62 rfl) rfl
theorem q1134 : (Jvm.Cond.methodLink "BadCodes$Office" (146 : Nat) ({ cls := "BadCodes$Office", name := "whyNot", desc := "(I)I" } : Jvm.MethodName)) ∈ lw_all := lw_g (lw_at lw_m5 63 rfl) rfl
theorem q1135 : (Jvm.Cond.instanceMethod ({ cls := "BadCodes$Office", name := "whyNot", desc := "(I)I" } : Jvm.MethodName)) ∈ lw_all := lw_g (lw_at lw_m5 64 rfl) rfl
theorem q1136 : (Jvm.Cond.selects "BadCodes$Office" ({ cls := "BadCodes$Office", name := "whyNot", desc := "(I)I" } : Jvm.MethodName) ({ cls := "BadCodes$Office", name := "whyNot", desc := "(I)I" } : Jvm.MethodName)) ∈ lw_all := lw_g (lw_at lw_m5 65 rfl) rfl
theorem q1137 : (Jvm.Cond.code ({ cls := "BadCodes$Office", name := "whyNot", desc := "(I)I" } : Jvm.MethodName) prog_5_method_14_code (2 : Nat) (Option.some Jvm.ClassFile.FieldType.int)) ∈ lw_all := lw_g (lw_at lw_m5 66 rfl) rfl
theorem q1138 : (Jvm.Cond.methodLink "BadCodes$Office" (118 : Nat) ({ cls := "BadCodes$Office", name := "isTooBad", desc := "(I)Z" } : Jvm.MethodName)) ∈ lw_all := lw_g (lw_at lw_m5 67 rfl) rfl
theorem q1139 : (Jvm.Cond.instanceMethod ({ cls := "BadCodes$Office", name := "isTooBad", desc := "(I)Z" } : Jvm.MethodName)) ∈ lw_all := lw_g (lw_at lw_m5 68 rfl) rfl
theorem q1140 : (Jvm.Cond.selects "BadCodes$Office" ({ cls := "BadCodes$Office", name := "isTooBad", desc := "(I)Z" } : Jvm.MethodName) ({ cls := "BadCodes$Office", name := "isTooBad", desc := "(I)Z" } : Jvm.MethodName)) ∈ lw_all := lw_g (lw_at lw_m5 69 rfl) rfl
theorem q1141 : (Jvm.Cond.code ({ cls := "BadCodes$Office", name := "isTooBad", desc := "(I)Z" } : Jvm.MethodName) prog_5_method_9_code (2 : Nat) (Option.some Jvm.ClassFile.FieldType.boolean)) ∈ lw_all := lw_g (lw_at lw_m5 70 rfl) rfl
theorem q1142 : (Jvm.Cond.methodLink "BadCodes$Office" (115 : Nat) ({ cls := "BadCodes$Letter", name := "unread", desc := "()I" } : Jvm.MethodName)) ∈ lw_all := lw_g (lw_at lw_m5 71 rfl) rfl
theorem q1149 : (Jvm.Cond.methodLink "BadCodes$Office" (122 : Nat) ({ cls := "BadCodes$Office", name := "bestMany", desc := "(I)I" } : Jvm.MethodName)) ∈ lw_all := lw_g (lw_at lw_m5 78 rfl) rfl
theorem q1150 : (Jvm.Cond.instanceMethod ({ cls := "BadCodes$Office", name := "bestMany", desc := "(I)I" } : Jvm.MethodName)) ∈ lw_all := lw_g (lw_at lw_m5 79 rfl) rfl
theorem q1151 : (Jvm.Cond.selects "BadCodes$Office" ({ cls := "BadCodes$Office", name := "bestMany", desc := "(I)I" } : Jvm.MethodName) ({ cls := "BadCodes$Office", name := "bestMany", desc := "(I)I" } : Jvm.MethodName)) ∈ lw_all := lw_g (lw_at lw_m5 80 rfl) rfl
theorem q1152 : (Jvm.Cond.code ({ cls := "BadCodes$Office", name := "bestMany", desc := "(I)I" } : Jvm.MethodName) prog_5_method_8_code (5 : Nat) (Option.some Jvm.ClassFile.FieldType.int)) ∈ lw_all := lw_g (lw_at lw_m5 81 rfl) rfl
theorem q1153 : (Jvm.Cond.methodLink "BadCodes$Office" (107 : Nat) ({ cls := "BadCodes$Office", name := "least", desc := "(I)I" } : Jvm.MethodName)) ∈ lw_all := lw_g (lw_at lw_m5 82 rfl) rfl
theorem q1154 : (Jvm.Cond.instanceMethod ({ cls := "BadCodes$Office", name := "least", desc := "(I)I" } : Jvm.MethodName)) ∈ lw_all := lw_g (lw_at lw_m5 83 rfl) rfl
theorem q1155 : (Jvm.Cond.selects "BadCodes$Office" ({ cls := "BadCodes$Office", name := "least", desc := "(I)I" } : Jvm.MethodName) ({ cls := "BadCodes$Office", name := "least", desc := "(I)I" } : Jvm.MethodName)) ∈ lw_all := lw_g (lw_at lw_m5 84 rfl) rfl
theorem q1156 : (Jvm.Cond.code ({ cls := "BadCodes$Office", name := "least", desc := "(I)I" } : Jvm.MethodName) prog_5_method_7_code (4 : Nat) (Option.some Jvm.ClassFile.FieldType.int)) ∈ lw_all := lw_g (lw_at lw_m5 85 rfl) rfl
theorem q1157 : (Jvm.Cond.methodLink "BadCodes$Office" (99 : Nat) ({ cls := "BadCodes$Office", name := "distance", desc := "(II)I" } : Jvm.MethodName)) ∈ lw_all := lw_g (lw_at lw_m5 86 rfl) rfl
theorem q1158 : (Jvm.Cond.instanceMethod ({ cls := "BadCodes$Office", name := "distance", desc := "(II)I" } : Jvm.MethodName)) ∈ lw_all := lw_g (lw_at lw_m5 87 rfl) rfl
theorem q1159 : (Jvm.Cond.selects "BadCodes$Office" ({ cls := "BadCodes$Office", name := "distance", desc := "(II)I" } : Jvm.MethodName) ({ cls := "BadCodes$Office", name := "distance", desc := "(II)I" } : Jvm.MethodName)) ∈ lw_all := lw_g (lw_at lw_m5 88 rfl) rfl
theorem q1160 : (Jvm.Cond.code ({ cls := "BadCodes$Office", name := "distance", desc := "(II)I" } : Jvm.MethodName) prog_5_method_6_code (3 : Nat) (Option.some Jvm.ClassFile.FieldType.int)) ∈ lw_all := lw_g (lw_at lw_m5 89 rfl) rfl
theorem q1161 : (Jvm.Cond.methodLink "BadCodes$Office" (95 : Nat) ({ cls := "BadCodes$Letter", name := "distance", desc := "(LBadCodes$Town;)I" } : Jvm.MethodName)) ∈ lw_all := lw_g (lw_at lw_m5 90 rfl) rfl
theorem q1178 : (Jvm.Cond.methodLink "BadCodes$Office" (102 : Nat) ({ cls := "java/lang/Math", name := "min", desc := "(II)I" } : Jvm.MethodName)) ∈ lw_all := lw_g (lw_at lw_m5 107 rfl) rfl
theorem q1179 : (Jvm.Cond.methodLinkNest "BadCodes$Office" (111 : Nat) ({ cls := "BadCodes", name := "one", desc := "(Z)I" } : Jvm.MethodName) "BadCodes") ∈ lw_tbl := lw_at lw_m5 108 rfl
theorem q1180 : (Jvm.Cond.methodLink "BadCodes$Office" (140 : Nat) ({ cls := "BadCodes$Office", name := "decided", desc := "(I)I" } : Jvm.MethodName)) ∈ lw_all := lw_g (lw_at lw_m5 109 rfl) rfl
theorem q1181 : (Jvm.Cond.instanceMethod ({ cls := "BadCodes$Office", name := "decided", desc := "(I)I" } : Jvm.MethodName)) ∈ lw_all := lw_g (lw_at lw_m5 110 rfl) rfl
theorem q1182 : (Jvm.Cond.selects "BadCodes$Office" ({ cls := "BadCodes$Office", name := "decided", desc := "(I)I" } : Jvm.MethodName) ({ cls := "BadCodes$Office", name := "decided", desc := "(I)I" } : Jvm.MethodName)) ∈ lw_all := lw_g (lw_at lw_m5 111 rfl) rfl
theorem q1183 : (Jvm.Cond.code ({ cls := "BadCodes$Office", name := "decided", desc := "(I)I" } : Jvm.MethodName) prog_5_method_13_code (2 : Nat) (Option.some Jvm.ClassFile.FieldType.int)) ∈ lw_all := lw_g (lw_at lw_m5 112 rfl) rfl
theorem q1184 : (Jvm.Cond.methodLink "BadCodes$Office" (128 : Nat) ({ cls := "BadCodes$Office", name := "byItself", desc := "(I)I" } : Jvm.MethodName)) ∈ lw_all := lw_g (lw_at lw_m5 113 rfl) rfl
theorem q1185 : (Jvm.Cond.instanceMethod ({ cls := "BadCodes$Office", name := "byItself", desc := "(I)I" } : Jvm.MethodName)) ∈ lw_all := lw_g (lw_at lw_m5 114 rfl) rfl
theorem q1186 : (Jvm.Cond.selects "BadCodes$Office" ({ cls := "BadCodes$Office", name := "byItself", desc := "(I)I" } : Jvm.MethodName) ({ cls := "BadCodes$Office", name := "byItself", desc := "(I)I" } : Jvm.MethodName)) ∈ lw_all := lw_g (lw_at lw_m5 115 rfl) rfl
theorem q1187 : (Jvm.Cond.code ({ cls := "BadCodes$Office", name := "byItself", desc := "(I)I" } : Jvm.MethodName) prog_5_method_10_code (4 : Nat) (Option.some Jvm.ClassFile.FieldType.int)) ∈ lw_all := lw_g (lw_at lw_m5 116 rfl) rfl
theorem q1188 : (Jvm.Cond.methodLink "BadCodes$Office" (137 : Nat) ({ cls := "BadCodes$Office", name := "byBundle", desc := "(I)I" } : Jvm.MethodName)) ∈ lw_all := lw_g (lw_at lw_m5 117 rfl) rfl
theorem q1189 : (Jvm.Cond.privateMethod ({ cls := "BadCodes$Office", name := "byBundle", desc := "(I)I" } : Jvm.MethodName)) ∈ lw_tbl := lw_at lw_m5 118 rfl
theorem q1190 : (Jvm.Cond.instanceMethod ({ cls := "BadCodes$Office", name := "byBundle", desc := "(I)I" } : Jvm.MethodName)) ∈ lw_all := lw_g (lw_at lw_m5 119 rfl) rfl
theorem q1191 : (Jvm.Cond.code ({ cls := "BadCodes$Office", name := "byBundle", desc := "(I)I" } : Jvm.MethodName) prog_5_method_12_code (7 : Nat) (Option.some Jvm.ClassFile.FieldType.int)) ∈ lw_all := lw_g (lw_at lw_m5 120 rfl) rfl
theorem q1192 : (Jvm.Cond.methodLink "BadCodes$Office" (134 : Nat) ({ cls := "BadCodes$Office", name := "otherSum", desc := "(I)I" } : Jvm.MethodName)) ∈ lw_all := lw_g (lw_at lw_m5 121 rfl) rfl
theorem q1193 : (Jvm.Cond.privateMethod ({ cls := "BadCodes$Office", name := "otherSum", desc := "(I)I" } : Jvm.MethodName)) ∈ lw_tbl := lw_at lw_m5 122 rfl
theorem q1194 : (Jvm.Cond.instanceMethod ({ cls := "BadCodes$Office", name := "otherSum", desc := "(I)I" } : Jvm.MethodName)) ∈ lw_all := lw_g (lw_at lw_m5 123 rfl) rfl
theorem q1195 : (Jvm.Cond.code ({ cls := "BadCodes$Office", name := "otherSum", desc := "(I)I" } : Jvm.MethodName) prog_5_method_11_code (5 : Nat) (Option.some Jvm.ClassFile.FieldType.int)) ∈ lw_all := lw_g (lw_at lw_m5 124 rfl) rfl
theorem q1196 : (Jvm.Cond.methodLink "BadCodes$Office" (131 : Nat) ({ cls := "BadCodes$Town", name := "sum", desc := "()I" } : Jvm.MethodName)) ∈ lw_all := lw_g (lw_at lw_m5 125 rfl) rfl
theorem q1209 : (Jvm.Cond.methodLink "BadCodes$Office" (151 : Nat) ({ cls := "BadCodes$Undecided", name := "<init>", desc := "(I)V" } : Jvm.MethodName)) ∈ lw_all := lw_g (lw_at lw_m5 138 rfl) rfl
theorem q1224 : (Jvm.Cond.methodLink "BadCodes$Office" (158 : Nat) ({ cls := "BadCodes$Town", name := "route", desc := "()I" } : Jvm.MethodName)) ∈ lw_all := lw_g (lw_at lw_m5 153 rfl) rfl
theorem q1228 : (Jvm.Cond.methodLink "BadCodes$Office" (161 : Nat) ({ cls := "BadCodes$Office", name := "mustBeOpen", desc := "(I)V" } : Jvm.MethodName)) ∈ lw_all := lw_g (lw_at lw_m5 157 rfl) rfl
theorem q1229 : (Jvm.Cond.privateMethod ({ cls := "BadCodes$Office", name := "mustBeOpen", desc := "(I)V" } : Jvm.MethodName)) ∈ lw_tbl := lw_at lw_m5 158 rfl
theorem q1230 : (Jvm.Cond.instanceMethod ({ cls := "BadCodes$Office", name := "mustBeOpen", desc := "(I)V" } : Jvm.MethodName)) ∈ lw_all := lw_g (lw_at lw_m5 159 rfl) rfl
theorem q1231 : (Jvm.Cond.code ({ cls := "BadCodes$Office", name := "mustBeOpen", desc := "(I)V" } : Jvm.MethodName) prog_5_method_17_code (2 : Nat) (Option.none : Option Jvm.ClassFile.FieldType)) ∈ lw_all := lw_g (lw_at lw_m5 160 rfl) rfl
theorem q1240 : (Jvm.Cond.methodLink "BadCodes$Office" (154 : Nat) ({ cls := "BadCodes$ClosedRoute", name := "<init>", desc := "()V" } : Jvm.MethodName)) ∈ lw_all := lw_g (lw_at lw_m5 169 rfl) rfl
theorem q1256 : (Jvm.Cond.methodLink "BadCodes$Office" (166 : Nat) ({ cls := "BadCodes$Returned", name := "<init>", desc := "(LBadCodes$Unsorted;)V" } : Jvm.MethodName)) ∈ lw_all := lw_g (lw_at lw_m5 185 rfl) rfl
theorem q1264 : (Jvm.Cond.methodLink "BadCodes$Office" (177 : Nat) ({ cls := "BadCodes$Office", name := "comesToBag", desc := "(I)V" } : Jvm.MethodName)) ∈ lw_all := lw_g (lw_at lw_m5 193 rfl) rfl
theorem q1265 : (Jvm.Cond.privateMethod ({ cls := "BadCodes$Office", name := "comesToBag", desc := "(I)V" } : Jvm.MethodName)) ∈ lw_tbl := lw_at lw_m5 194 rfl
theorem q1266 : (Jvm.Cond.instanceMethod ({ cls := "BadCodes$Office", name := "comesToBag", desc := "(I)V" } : Jvm.MethodName)) ∈ lw_all := lw_g (lw_at lw_m5 195 rfl) rfl
theorem q1267 : (Jvm.Cond.code ({ cls := "BadCodes$Office", name := "comesToBag", desc := "(I)V" } : Jvm.MethodName) prog_5_method_20_code (2 : Nat) (Option.none : Option Jvm.ClassFile.FieldType)) ∈ lw_all := lw_g (lw_at lw_m5 196 rfl) rfl
theorem q1268 : (Jvm.Cond.methodLink "BadCodes$Office" (172 : Nat) ({ cls := "BadCodes$Returned", name := "firstReason", desc := "()I" } : Jvm.MethodName)) ∈ lw_all := lw_g (lw_at lw_m5 197 rfl) rfl
theorem q1332 : (Jvm.Cond.instanceMethod ({ cls := "BadCodes$Office", name := "inState", desc := "(I)I" } : Jvm.MethodName)) ∈ lw_all := lw_g (lw_at lw_m6 21 rfl) rfl
theorem q1333 : (Jvm.Cond.selects "BadCodes$Office" ({ cls := "BadCodes$Office", name := "inState", desc := "(I)I" } : Jvm.MethodName) ({ cls := "BadCodes$Office", name := "inState", desc := "(I)I" } : Jvm.MethodName)) ∈ lw_all := lw_g (lw_at lw_m6 22 rfl) rfl
theorem q1334 : (Jvm.Cond.code ({ cls := "BadCodes$Office", name := "inState", desc := "(I)I" } : Jvm.MethodName) prog_5_method_15_code (4 : Nat) (Option.some Jvm.ClassFile.FieldType.int)) ∈ lw_all := lw_g (lw_at lw_m6 23 rfl) rfl
theorem q1353 : (Jvm.Cond.instanceMethod ({ cls := "BadCodes$Office", name := "sentAll", desc := "()I" } : Jvm.MethodName)) ∈ lw_all := lw_g (lw_at lw_m6 42 rfl) rfl
theorem q1354 : (Jvm.Cond.selects "BadCodes$Office" ({ cls := "BadCodes$Office", name := "sentAll", desc := "()I" } : Jvm.MethodName) ({ cls := "BadCodes$Office", name := "sentAll", desc := "()I" } : Jvm.MethodName)) ∈ lw_all := lw_g (lw_at lw_m6 43 rfl) rfl
theorem q1355 : (Jvm.Cond.code ({ cls := "BadCodes$Office", name := "sentAll", desc := "()I" } : Jvm.MethodName) prog_5_method_25_code (3 : Nat) (Option.some Jvm.ClassFile.FieldType.int)) ∈ lw_all := lw_g (lw_at lw_m6 44 rfl) rfl
theorem q1530 : (Jvm.Cond.instanceMethod ({ cls := "BadCodes$Office", name := "whyNotAgain", desc := "(I)I" } : Jvm.MethodName)) ∈ lw_all := lw_g (lw_at lw_m6 219 rfl) rfl
theorem q1531 : (Jvm.Cond.selects "BadCodes$Office" ({ cls := "BadCodes$Office", name := "whyNotAgain", desc := "(I)I" } : Jvm.MethodName) ({ cls := "BadCodes$Office", name := "whyNotAgain", desc := "(I)I" } : Jvm.MethodName)) ∈ lw_all := lw_g (lw_at lw_m6 220 rfl) rfl
theorem q1532 : (Jvm.Cond.code ({ cls := "BadCodes$Office", name := "whyNotAgain", desc := "(I)I" } : Jvm.MethodName) prog_5_method_23_code (2 : Nat) (Option.some Jvm.ClassFile.FieldType.int)) ∈ lw_all := lw_g (lw_at lw_m6 221 rfl) rfl
theorem q1654 : (Jvm.Cond.instanceMethod ({ cls := "BadCodes$Office", name := "<init>", desc := "(LBadCodes$Office;)V" } : Jvm.MethodName)) ∈ lw_all := lw_g (lw_at lw_m7 103 rfl) rfl
theorem q1655 : (Jvm.Cond.code ({ cls := "BadCodes$Office", name := "<init>", desc := "(LBadCodes$Office;)V" } : Jvm.MethodName) prog_5_method_2_code (3 : Nat) (Option.none : Option Jvm.ClassFile.FieldType)) ∈ lw_all := lw_g (lw_at lw_m7 104 rfl) rfl
theorem q1656 : (Jvm.Cond.methodLink "BadCodes$Office" (68 : Nat) ({ cls := "BadCodes$Letter", name := "copy", desc := "()LBadCodes$Letter;" } : Jvm.MethodName)) ∈ lw_all := lw_g (lw_at lw_m7 105 rfl) rfl
theorem q1663 : (Jvm.Cond.interfaceEntry "BadCodes$Office" (72 : Nat)) ∈ lw_tbl := lw_at lw_m7 112 rfl
theorem q1664 : (Jvm.Cond.methodLink "BadCodes$Office" (72 : Nat) ({ cls := "java/util/List", name := "add", desc := "(Ljava/lang/Object;)Z" } : Jvm.MethodName)) ∈ lw_all := lw_g (lw_at lw_m7 113 rfl) rfl
theorem q1665 : (Jvm.Cond.methodLink "BadCodes$Office" (76 : Nat) ({ cls := "java/lang/System", name := "arraycopy", desc := "(Ljava/lang/Object;ILjava/lang/Object;II)V" } : Jvm.MethodName)) ∈ lw_all := lw_g (lw_at lw_m7 114 rfl) rfl
theorem q1712 : (Jvm.Cond.instanceMethod ({ cls := "BadCodes$Office", name := "cause", desc := "(I)I" } : Jvm.MethodName)) ∈ lw_all := lw_g (lw_at lw_m7 161 rfl) rfl
theorem q1713 : (Jvm.Cond.selects "BadCodes$Office" ({ cls := "BadCodes$Office", name := "cause", desc := "(I)I" } : Jvm.MethodName) ({ cls := "BadCodes$Office", name := "cause", desc := "(I)I" } : Jvm.MethodName)) ∈ lw_all := lw_g (lw_at lw_m7 162 rfl) rfl
theorem q1714 : (Jvm.Cond.codeWith ({ cls := "BadCodes$Office", name := "cause", desc := "(I)I" } : Jvm.MethodName) prog_5_method_19_code (3 : Nat) (Option.some Jvm.ClassFile.FieldType.int) [((0 : Nat), (7 : Nat), (8 : Nat), (164 : Nat))]) ∈ lw_all := lw_g (lw_at lw_m7 163 rfl) rfl
theorem q1857 : (Jvm.Cond.instanceMethod ({ cls := "BadCodes$Office", name := "reads", desc := "(III)V" } : Jvm.MethodName)) ∈ lw_all := lw_g (lw_at lw_m8 66 rfl) rfl
theorem q1858 : (Jvm.Cond.selects "BadCodes$Office" ({ cls := "BadCodes$Office", name := "reads", desc := "(III)V" } : Jvm.MethodName) ({ cls := "BadCodes$Office", name := "reads", desc := "(III)V" } : Jvm.MethodName)) ∈ lw_all := lw_g (lw_at lw_m8 67 rfl) rfl
theorem q1859 : (Jvm.Cond.code ({ cls := "BadCodes$Office", name := "reads", desc := "(III)V" } : Jvm.MethodName) prog_5_method_24_code (5 : Nat) (Option.none : Option Jvm.ClassFile.FieldType)) ∈ lw_all := lw_g (lw_at lw_m8 68 rfl) rfl
theorem q2572 : (Jvm.Cond.castable "BadCodes$Office" "java/lang/Object") ∈ lw_tbl := lw_at lw_m11 61 rfl
theorem in_X5 : ∀ w ∈ wsX50, w ∈ lw_all := lw_in wsX50 [854, 856, 858, 860, 862, 864, 866, 868, 870, 872] (by decide +kernel) (by decide +kernel)
/-! BadCodes$Parser -/
set_option maxRecDepth 100000
def RX3 : String := "BadCodes$Parser"
def TX3 : u_T := fun k => match k with
  | 0 => ("BadCodes$Parser", "size", "I", true)
  | 1 => ("BadCodes$Parser", "from", "I", false)
  | 2 => ("BadCodes$Parser", "to", "I", false)
  | 3 => ("BadCodes$Parser", "value", "I", false)
  | 4 => ("BadCodes$Parser", "token", "LBadCodes$Token;", false)
  | 5 => ("BadCodes$Parser", "word", "Ljava/lang/String;", false)
  | 6 => ("BadCodes$Parser", "wasSorted", "Z", false)
  | 7 => ("BadCodes$Parser", "read", "LBadCodes$Office;", false)
  | _ => ("BadCodes$Parser", "this$0", "LBadCodes;", true)
def tyX3 : Nat → FieldType := fun k => match k with
  | 0 => .int
  | 1 => .int
  | 2 => .int
  | 3 => .int
  | 4 => .object "BadCodes$Token"
  | 5 => .object "java/lang/String"
  | 6 => .boolean
  | 7 => .object "BadCodes$Office"
  | _ => .object "BadCodes"
abbrev wsX30 : List Cond := u_ws RX3 TX3 9
theorem nmX3 : ∀ a, a < 9 → ∀ b, b < 9 → a ≠ b → (TX3 a).2.1 ≠ (TX3 b).2.1 := by decide +kernel
theorem tyX3_ok : ∀ k, k < 9 → parseFieldDescriptor (TX3 k).2.2.1 = some (tyX3 k) := by decide +kernel
abbrev cX3_init : ByteArray := prog_6_method_1_code
def yX3_init : MethodName := ⟨RX3, "<init>", "(LBadCodes;I)V"⟩
def dkwX3_init_1 : List UInt8 := [181, 0, 30, 43, 3, 181, 0, 34, 43, 3, 181, 0, 37, 43, 2, 181, 0, 40, 177]
abbrev dktX3_init_1 : List UInt8 := dkwX3_init_1 ++ []
def dkwX3_init_0 : List UInt8 := [42, 43, 181, 0, 3, 42, 183, 0, 9, 42, 178, 0, 15, 181, 0, 21, 42, 18, 24, 181, 0, 26, 42, 28]
abbrev dktX3_init_0 : List UInt8 := dkwX3_init_0 ++ dktX3_init_1
theorem dksX3_init_0 : cX3_init.data.toList.drop 0 = dktX3_init_0 := by decide +kernel
theorem dksX3_init_1 : cX3_init.data.toList.drop 24 = dktX3_init_1 := dk_seg dksX3_init_0 24 rfl rfl
theorem dX3_init_0 : decode cX3_init 0 = .ok (.aload_n 0, 1) := dk_42 (dk_at dksX3_init_0 0 rfl rfl)
theorem dX3_init_1 : decode cX3_init 1 = .ok (.aload_n 1, 1) := dk_43 (dk_at dksX3_init_0 1 rfl rfl)
theorem dX3_init_2 : decode cX3_init 2 = .ok (.putfield 3, 3) := dk_181 0 3 (dk_at dksX3_init_0 2 rfl rfl)
theorem dX3_init_5 : decode cX3_init 5 = .ok (.aload_n 0, 1) := dk_42 (dk_at dksX3_init_0 5 rfl rfl)
theorem dX3_init_6 : decode cX3_init 6 = .ok (.invokespecial 9, 3) := dk_183 0 9 (dk_at dksX3_init_0 6 rfl rfl)
theorem dX3_init_9 : decode cX3_init 9 = .ok (.aload_n 0, 1) := dk_42 (dk_at dksX3_init_0 9 rfl rfl)
theorem dX3_init_10 : decode cX3_init 10 = .ok (.getstatic 15, 3) := dk_178 0 15 (dk_at dksX3_init_0 10 rfl rfl)
theorem dX3_init_13 : decode cX3_init 13 = .ok (.putfield 21, 3) := dk_181 0 21 (dk_at dksX3_init_0 13 rfl rfl)
theorem dX3_init_16 : decode cX3_init 16 = .ok (.aload_n 0, 1) := dk_42 (dk_at dksX3_init_0 16 rfl rfl)
theorem dX3_init_17 : decode cX3_init 17 = .ok (.ldc 24, 2) := dk_18 24 (dk_at dksX3_init_0 17 rfl rfl)
theorem dX3_init_19 : decode cX3_init 19 = .ok (.putfield 26, 3) := dk_181 0 26 (dk_at dksX3_init_0 19 rfl rfl)
theorem dX3_init_22 : decode cX3_init 22 = .ok (.aload_n 0, 1) := dk_42 (dk_at dksX3_init_0 22 rfl rfl)
theorem dX3_init_23 : decode cX3_init 23 = .ok (.iload_n 2, 1) := dk_28 (dk_at dksX3_init_0 23 rfl rfl)
theorem dX3_init_24 : decode cX3_init 24 = .ok (.putfield 30, 3) := dk_181 0 30 (dk_at dksX3_init_1 0 rfl rfl)
theorem dX3_init_27 : decode cX3_init 27 = .ok (.aload_n 1, 1) := dk_43 (dk_at dksX3_init_1 3 rfl rfl)
theorem dX3_init_28 : decode cX3_init 28 = .ok (.iconst 0, 1) := dk_3 (dk_at dksX3_init_1 4 rfl rfl)
theorem dX3_init_29 : decode cX3_init 29 = .ok (.putfield 34, 3) := dk_181 0 34 (dk_at dksX3_init_1 5 rfl rfl)
theorem dX3_init_32 : decode cX3_init 32 = .ok (.aload_n 1, 1) := dk_43 (dk_at dksX3_init_1 8 rfl rfl)
theorem dX3_init_33 : decode cX3_init 33 = .ok (.iconst 0, 1) := dk_3 (dk_at dksX3_init_1 9 rfl rfl)
theorem dX3_init_34 : decode cX3_init 34 = .ok (.putfield 37, 3) := dk_181 0 37 (dk_at dksX3_init_1 10 rfl rfl)
theorem dX3_init_37 : decode cX3_init 37 = .ok (.aload_n 1, 1) := dk_43 (dk_at dksX3_init_1 13 rfl rfl)
theorem dX3_init_38 : decode cX3_init 38 = .ok (.iconst (-1), 1) := dk_2 (dk_at dksX3_init_1 14 rfl rfl)
theorem dX3_init_39 : decode cX3_init 39 = .ok (.putfield 40, 3) := dk_181 0 40 (dk_at dksX3_init_1 15 rfl rfl)
theorem dX3_init_42 : decode cX3_init 42 = .ok (.return_, 1) := dk_177 (dk_at dksX3_init_1 18 rfl rfl)
abbrev cX3_office : ByteArray := prog_6_method_15_code
def yX3_office : MethodName := ⟨RX3, "office", "()LBadCodes$Office;"⟩
def dkwX3_office_5 : List UInt8 := [180, 0, 115, 176]
abbrev dktX3_office_5 : List UInt8 := dkwX3_office_5 ++ []
def dkwX3_office_4 : List UInt8 := [180, 0, 115, 180, 0, 119, 185, 0, 209, 1, 0, 154, 0, 7, 4, 167, 0, 4, 3, 8, 182, 0, 108, 42]
abbrev dktX3_office_4 : List UInt8 := dkwX3_office_4 ++ dktX3_office_5
def dkwX3_office_3 : List UInt8 := [42, 42, 180, 0, 21, 178, 0, 74, 166, 0, 7, 4, 167, 0, 4, 3, 4, 182, 0, 108, 42, 42]
abbrev dktX3_office_3 : List UInt8 := dkwX3_office_3 ++ dktX3_office_4
def dkwX3_office_2 : List UInt8 := [181, 0, 115, 42, 180, 0, 21, 178, 0, 97, 166, 0, 14, 42, 182, 0, 112, 42, 182, 0, 206, 167, 255, 238]
abbrev dktX3_office_2 : List UInt8 := dkwX3_office_2 ++ dktX3_office_3
def dkwX3_office_1 : List UInt8 := [16, 8, 182, 0, 139, 60, 42, 187, 0, 120, 89, 27, 42, 4, 16, 9, 182, 0, 139, 183, 0, 205]
abbrev dktX3_office_1 : List UInt8 := dkwX3_office_1 ++ dktX3_office_2
def dkwX3_office_0 : List UInt8 := [42, 182, 0, 112, 42, 42, 180, 0, 26, 18, 203, 182, 0, 182, 4, 182, 0, 108, 42, 182, 0, 112, 42, 3]
abbrev dktX3_office_0 : List UInt8 := dkwX3_office_0 ++ dktX3_office_1
theorem dksX3_office_0 : cX3_office.data.toList.drop 0 = dktX3_office_0 := by decide +kernel
theorem dksX3_office_1 : cX3_office.data.toList.drop 24 = dktX3_office_1 := dk_seg dksX3_office_0 24 rfl rfl
theorem dksX3_office_2 : cX3_office.data.toList.drop 46 = dktX3_office_2 := dk_seg dksX3_office_1 22 rfl rfl
theorem dksX3_office_3 : cX3_office.data.toList.drop 70 = dktX3_office_3 := dk_seg dksX3_office_2 24 rfl rfl
theorem dksX3_office_4 : cX3_office.data.toList.drop 92 = dktX3_office_4 := dk_seg dksX3_office_3 22 rfl rfl
theorem dksX3_office_5 : cX3_office.data.toList.drop 116 = dktX3_office_5 := dk_seg dksX3_office_4 24 rfl rfl
theorem dX3_office_0 : decode cX3_office 0 = .ok (.aload_n 0, 1) := dk_42 (dk_at dksX3_office_0 0 rfl rfl)
theorem dX3_office_1 : decode cX3_office 1 = .ok (.invokevirtual 112, 3) := dk_182 0 112 (dk_at dksX3_office_0 1 rfl rfl)
theorem dX3_office_4 : decode cX3_office 4 = .ok (.aload_n 0, 1) := dk_42 (dk_at dksX3_office_0 4 rfl rfl)
theorem dX3_office_5 : decode cX3_office 5 = .ok (.aload_n 0, 1) := dk_42 (dk_at dksX3_office_0 5 rfl rfl)
theorem dX3_office_6 : decode cX3_office 6 = .ok (.getfield 26, 3) := dk_180 0 26 (dk_at dksX3_office_0 6 rfl rfl)
theorem dX3_office_9 : decode cX3_office 9 = .ok (.ldc 203, 2) := dk_18 203 (dk_at dksX3_office_0 9 rfl rfl)
theorem dX3_office_11 : decode cX3_office 11 = .ok (.invokevirtual 182, 3) := dk_182 0 182 (dk_at dksX3_office_0 11 rfl rfl)
theorem dX3_office_14 : decode cX3_office 14 = .ok (.iconst 1, 1) := dk_4 (dk_at dksX3_office_0 14 rfl rfl)
theorem dX3_office_15 : decode cX3_office 15 = .ok (.invokevirtual 108, 3) := dk_182 0 108 (dk_at dksX3_office_0 15 rfl rfl)
theorem dX3_office_18 : decode cX3_office 18 = .ok (.aload_n 0, 1) := dk_42 (dk_at dksX3_office_0 18 rfl rfl)
theorem dX3_office_19 : decode cX3_office 19 = .ok (.invokevirtual 112, 3) := dk_182 0 112 (dk_at dksX3_office_0 19 rfl rfl)
theorem dX3_office_22 : decode cX3_office 22 = .ok (.aload_n 0, 1) := dk_42 (dk_at dksX3_office_0 22 rfl rfl)
theorem dX3_office_23 : decode cX3_office 23 = .ok (.iconst 0, 1) := dk_3 (dk_at dksX3_office_0 23 rfl rfl)
theorem dX3_office_24 : decode cX3_office 24 = .ok (.bipush 8, 2) := dk_16 8 (dk_at dksX3_office_1 0 rfl rfl)
theorem dX3_office_26 : decode cX3_office 26 = .ok (.invokevirtual 139, 3) := dk_182 0 139 (dk_at dksX3_office_1 2 rfl rfl)
theorem dX3_office_29 : decode cX3_office 29 = .ok (.istore_n 1, 1) := dk_60 (dk_at dksX3_office_1 5 rfl rfl)
theorem dX3_office_30 : decode cX3_office 30 = .ok (.aload_n 0, 1) := dk_42 (dk_at dksX3_office_1 6 rfl rfl)
theorem dX3_office_31 : decode cX3_office 31 = .ok (.new 120, 3) := dk_187 0 120 (dk_at dksX3_office_1 7 rfl rfl)
theorem dX3_office_34 : decode cX3_office 34 = .ok (.dup, 1) := dk_89 (dk_at dksX3_office_1 10 rfl rfl)
theorem dX3_office_35 : decode cX3_office 35 = .ok (.iload_n 1, 1) := dk_27 (dk_at dksX3_office_1 11 rfl rfl)
theorem dX3_office_36 : decode cX3_office 36 = .ok (.aload_n 0, 1) := dk_42 (dk_at dksX3_office_1 12 rfl rfl)
theorem dX3_office_37 : decode cX3_office 37 = .ok (.iconst 1, 1) := dk_4 (dk_at dksX3_office_1 13 rfl rfl)
theorem dX3_office_38 : decode cX3_office 38 = .ok (.bipush 9, 2) := dk_16 9 (dk_at dksX3_office_1 14 rfl rfl)
theorem dX3_office_40 : decode cX3_office 40 = .ok (.invokevirtual 139, 3) := dk_182 0 139 (dk_at dksX3_office_1 16 rfl rfl)
theorem dX3_office_43 : decode cX3_office 43 = .ok (.invokespecial 205, 3) := dk_183 0 205 (dk_at dksX3_office_1 19 rfl rfl)
theorem dX3_office_46 : decode cX3_office 46 = .ok (.putfield 115, 3) := dk_181 0 115 (dk_at dksX3_office_2 0 rfl rfl)
theorem dX3_office_49 : decode cX3_office 49 = .ok (.aload_n 0, 1) := dk_42 (dk_at dksX3_office_2 3 rfl rfl)
theorem dX3_office_50 : decode cX3_office 50 = .ok (.getfield 21, 3) := dk_180 0 21 (dk_at dksX3_office_2 4 rfl rfl)
theorem dX3_office_53 : decode cX3_office 53 = .ok (.getstatic 97, 3) := dk_178 0 97 (dk_at dksX3_office_2 7 rfl rfl)
theorem dX3_office_56 : decode cX3_office 56 = .ok (.if_acmp .ne 14, 3) := dk_166 0 14 (dk_at dksX3_office_2 10 rfl rfl)
theorem dX3_office_59 : decode cX3_office 59 = .ok (.aload_n 0, 1) := dk_42 (dk_at dksX3_office_2 13 rfl rfl)
theorem dX3_office_60 : decode cX3_office 60 = .ok (.invokevirtual 112, 3) := dk_182 0 112 (dk_at dksX3_office_2 14 rfl rfl)
theorem dX3_office_63 : decode cX3_office 63 = .ok (.aload_n 0, 1) := dk_42 (dk_at dksX3_office_2 17 rfl rfl)
theorem dX3_office_64 : decode cX3_office 64 = .ok (.invokevirtual 206, 3) := dk_182 0 206 (dk_at dksX3_office_2 18 rfl rfl)
theorem dX3_office_67 : decode cX3_office 67 = .ok (.goto (-18), 3) := dk_167 255 238 (dk_at dksX3_office_2 21 rfl rfl)
theorem dX3_office_70 : decode cX3_office 70 = .ok (.aload_n 0, 1) := dk_42 (dk_at dksX3_office_3 0 rfl rfl)
theorem dX3_office_71 : decode cX3_office 71 = .ok (.aload_n 0, 1) := dk_42 (dk_at dksX3_office_3 1 rfl rfl)
theorem dX3_office_72 : decode cX3_office 72 = .ok (.getfield 21, 3) := dk_180 0 21 (dk_at dksX3_office_3 2 rfl rfl)
theorem dX3_office_75 : decode cX3_office 75 = .ok (.getstatic 74, 3) := dk_178 0 74 (dk_at dksX3_office_3 5 rfl rfl)
theorem dX3_office_78 : decode cX3_office 78 = .ok (.if_acmp .ne 7, 3) := dk_166 0 7 (dk_at dksX3_office_3 8 rfl rfl)
theorem dX3_office_81 : decode cX3_office 81 = .ok (.iconst 1, 1) := dk_4 (dk_at dksX3_office_3 11 rfl rfl)
theorem dX3_office_82 : decode cX3_office 82 = .ok (.goto 4, 3) := dk_167 0 4 (dk_at dksX3_office_3 12 rfl rfl)
theorem dX3_office_85 : decode cX3_office 85 = .ok (.iconst 0, 1) := dk_3 (dk_at dksX3_office_3 15 rfl rfl)
theorem dX3_office_86 : decode cX3_office 86 = .ok (.iconst 1, 1) := dk_4 (dk_at dksX3_office_3 16 rfl rfl)
theorem dX3_office_87 : decode cX3_office 87 = .ok (.invokevirtual 108, 3) := dk_182 0 108 (dk_at dksX3_office_3 17 rfl rfl)
theorem dX3_office_90 : decode cX3_office 90 = .ok (.aload_n 0, 1) := dk_42 (dk_at dksX3_office_3 20 rfl rfl)
theorem dX3_office_91 : decode cX3_office 91 = .ok (.aload_n 0, 1) := dk_42 (dk_at dksX3_office_3 21 rfl rfl)
theorem dX3_office_92 : decode cX3_office 92 = .ok (.getfield 115, 3) := dk_180 0 115 (dk_at dksX3_office_4 0 rfl rfl)
theorem dX3_office_95 : decode cX3_office 95 = .ok (.getfield 119, 3) := dk_180 0 119 (dk_at dksX3_office_4 3 rfl rfl)
theorem dX3_office_98 : decode cX3_office 98 = .ok (.invokeinterface 209 1, 5) := by decide +kernel
theorem dX3_office_103 : decode cX3_office 103 = .ok (.ifCond .ne 7, 3) := dk_154 0 7 (dk_at dksX3_office_4 11 rfl rfl)
theorem dX3_office_106 : decode cX3_office 106 = .ok (.iconst 1, 1) := dk_4 (dk_at dksX3_office_4 14 rfl rfl)
theorem dX3_office_107 : decode cX3_office 107 = .ok (.goto 4, 3) := dk_167 0 4 (dk_at dksX3_office_4 15 rfl rfl)
theorem dX3_office_110 : decode cX3_office 110 = .ok (.iconst 0, 1) := dk_3 (dk_at dksX3_office_4 18 rfl rfl)
theorem dX3_office_111 : decode cX3_office 111 = .ok (.iconst 5, 1) := dk_8 (dk_at dksX3_office_4 19 rfl rfl)
theorem dX3_office_112 : decode cX3_office 112 = .ok (.invokevirtual 108, 3) := dk_182 0 108 (dk_at dksX3_office_4 20 rfl rfl)
theorem dX3_office_115 : decode cX3_office 115 = .ok (.aload_n 0, 1) := dk_42 (dk_at dksX3_office_4 23 rfl rfl)
theorem dX3_office_116 : decode cX3_office 116 = .ok (.getfield 115, 3) := dk_180 0 115 (dk_at dksX3_office_5 0 rfl rfl)
theorem dX3_office_119 : decode cX3_office 119 = .ok (.areturn, 1) := dk_176 (dk_at dksX3_office_5 3 rfl rfl)
abbrev cX3_advance : ByteArray := prog_6_method_6_code
def yX3_advance : MethodName := ⟨RX3, "advance", "()V"⟩
def dkwX3_advance_1 : List UInt8 := [167, 255, 233, 42, 42, 180, 0, 58, 181, 0, 65, 42, 42, 182, 0, 100, 181, 0, 21, 177]
abbrev dktX3_advance_1 : List UInt8 := dkwX3_advance_1 ++ []
def dkwX3_advance_0 : List UInt8 := [42, 42, 180, 0, 58, 182, 0, 47, 16, 32, 160, 0, 16, 42, 89, 180, 0, 58, 4, 96, 181, 0, 58]
abbrev dktX3_advance_0 : List UInt8 := dkwX3_advance_0 ++ dktX3_advance_1
theorem dksX3_advance_0 : cX3_advance.data.toList.drop 0 = dktX3_advance_0 := by decide +kernel
theorem dksX3_advance_1 : cX3_advance.data.toList.drop 23 = dktX3_advance_1 := dk_seg dksX3_advance_0 23 rfl rfl
theorem dX3_advance_0 : decode cX3_advance 0 = .ok (.aload_n 0, 1) := dk_42 (dk_at dksX3_advance_0 0 rfl rfl)
theorem dX3_advance_1 : decode cX3_advance 1 = .ok (.aload_n 0, 1) := dk_42 (dk_at dksX3_advance_0 1 rfl rfl)
theorem dX3_advance_2 : decode cX3_advance 2 = .ok (.getfield 58, 3) := dk_180 0 58 (dk_at dksX3_advance_0 2 rfl rfl)
theorem dX3_advance_5 : decode cX3_advance 5 = .ok (.invokevirtual 47, 3) := dk_182 0 47 (dk_at dksX3_advance_0 5 rfl rfl)
theorem dX3_advance_8 : decode cX3_advance 8 = .ok (.bipush 32, 2) := dk_16 32 (dk_at dksX3_advance_0 8 rfl rfl)
theorem dX3_advance_10 : decode cX3_advance 10 = .ok (.if_icmp .ne 16, 3) := dk_160 0 16 (dk_at dksX3_advance_0 10 rfl rfl)
theorem dX3_advance_13 : decode cX3_advance 13 = .ok (.aload_n 0, 1) := dk_42 (dk_at dksX3_advance_0 13 rfl rfl)
theorem dX3_advance_14 : decode cX3_advance 14 = .ok (.dup, 1) := dk_89 (dk_at dksX3_advance_0 14 rfl rfl)
theorem dX3_advance_15 : decode cX3_advance 15 = .ok (.getfield 58, 3) := dk_180 0 58 (dk_at dksX3_advance_0 15 rfl rfl)
theorem dX3_advance_18 : decode cX3_advance 18 = .ok (.iconst 1, 1) := dk_4 (dk_at dksX3_advance_0 18 rfl rfl)
theorem dX3_advance_19 : decode cX3_advance 19 = .ok (.iadd, 1) := dk_96 (dk_at dksX3_advance_0 19 rfl rfl)
theorem dX3_advance_20 : decode cX3_advance 20 = .ok (.putfield 58, 3) := dk_181 0 58 (dk_at dksX3_advance_0 20 rfl rfl)
theorem dX3_advance_23 : decode cX3_advance 23 = .ok (.goto (-23), 3) := dk_167 255 233 (dk_at dksX3_advance_1 0 rfl rfl)
theorem dX3_advance_26 : decode cX3_advance 26 = .ok (.aload_n 0, 1) := dk_42 (dk_at dksX3_advance_1 3 rfl rfl)
theorem dX3_advance_27 : decode cX3_advance 27 = .ok (.aload_n 0, 1) := dk_42 (dk_at dksX3_advance_1 4 rfl rfl)
theorem dX3_advance_28 : decode cX3_advance 28 = .ok (.getfield 58, 3) := dk_180 0 58 (dk_at dksX3_advance_1 5 rfl rfl)
theorem dX3_advance_31 : decode cX3_advance 31 = .ok (.putfield 65, 3) := dk_181 0 65 (dk_at dksX3_advance_1 8 rfl rfl)
theorem dX3_advance_34 : decode cX3_advance 34 = .ok (.aload_n 0, 1) := dk_42 (dk_at dksX3_advance_1 11 rfl rfl)
theorem dX3_advance_35 : decode cX3_advance 35 = .ok (.aload_n 0, 1) := dk_42 (dk_at dksX3_advance_1 12 rfl rfl)
theorem dX3_advance_36 : decode cX3_advance 36 = .ok (.invokevirtual 100, 3) := dk_182 0 100 (dk_at dksX3_advance_1 13 rfl rfl)
theorem dX3_advance_39 : decode cX3_advance 39 = .ok (.putfield 21, 3) := dk_181 0 21 (dk_at dksX3_advance_1 16 rfl rfl)
theorem dX3_advance_42 : decode cX3_advance 42 = .ok (.return_, 1) := dk_177 (dk_at dksX3_advance_1 19 rfl rfl)
abbrev cX3_byteAt : ByteArray := prog_6_method_2_code
def yX3_byteAt : MethodName := ⟨RX3, "byteAt", "(I)I"⟩
def dkwX3_byteAt_1 : List UInt8 := [2, 172]
abbrev dktX3_byteAt_1 : List UInt8 := dkwX3_byteAt_1 ++ []
def dkwX3_byteAt_0 : List UInt8 := [27, 42, 180, 0, 30, 162, 0, 19, 42, 180, 0, 3, 180, 0, 43, 27, 51, 17, 0, 255, 126, 167, 0, 4]
abbrev dktX3_byteAt_0 : List UInt8 := dkwX3_byteAt_0 ++ dktX3_byteAt_1
theorem dksX3_byteAt_0 : cX3_byteAt.data.toList.drop 0 = dktX3_byteAt_0 := by decide +kernel
theorem dksX3_byteAt_1 : cX3_byteAt.data.toList.drop 24 = dktX3_byteAt_1 := dk_seg dksX3_byteAt_0 24 rfl rfl
theorem dX3_byteAt_0 : decode cX3_byteAt 0 = .ok (.iload_n 1, 1) := dk_27 (dk_at dksX3_byteAt_0 0 rfl rfl)
theorem dX3_byteAt_1 : decode cX3_byteAt 1 = .ok (.aload_n 0, 1) := dk_42 (dk_at dksX3_byteAt_0 1 rfl rfl)
theorem dX3_byteAt_2 : decode cX3_byteAt 2 = .ok (.getfield 30, 3) := dk_180 0 30 (dk_at dksX3_byteAt_0 2 rfl rfl)
theorem dX3_byteAt_5 : decode cX3_byteAt 5 = .ok (.if_icmp .ge 19, 3) := dk_162 0 19 (dk_at dksX3_byteAt_0 5 rfl rfl)
theorem dX3_byteAt_8 : decode cX3_byteAt 8 = .ok (.aload_n 0, 1) := dk_42 (dk_at dksX3_byteAt_0 8 rfl rfl)
theorem dX3_byteAt_9 : decode cX3_byteAt 9 = .ok (.getfield 3, 3) := dk_180 0 3 (dk_at dksX3_byteAt_0 9 rfl rfl)
theorem dX3_byteAt_12 : decode cX3_byteAt 12 = .ok (.getfield 43, 3) := dk_180 0 43 (dk_at dksX3_byteAt_0 12 rfl rfl)
theorem dX3_byteAt_15 : decode cX3_byteAt 15 = .ok (.iload_n 1, 1) := dk_27 (dk_at dksX3_byteAt_0 15 rfl rfl)
theorem dX3_byteAt_16 : decode cX3_byteAt 16 = .ok (.baload, 1) := dk_51 (dk_at dksX3_byteAt_0 16 rfl rfl)
theorem dX3_byteAt_17 : decode cX3_byteAt 17 = .ok (.sipush 255, 3) := dk_17 0 255 (dk_at dksX3_byteAt_0 17 rfl rfl)
theorem dX3_byteAt_20 : decode cX3_byteAt 20 = .ok (.iand, 1) := dk_126 (dk_at dksX3_byteAt_0 20 rfl rfl)
theorem dX3_byteAt_21 : decode cX3_byteAt 21 = .ok (.goto 4, 3) := dk_167 0 4 (dk_at dksX3_byteAt_0 21 rfl rfl)
theorem dX3_byteAt_24 : decode cX3_byteAt 24 = .ok (.iconst (-1), 1) := dk_2 (dk_at dksX3_byteAt_1 0 rfl rfl)
theorem dX3_byteAt_25 : decode cX3_byteAt 25 = .ok (.ireturn, 1) := dk_172 (dk_at dksX3_byteAt_1 1 rfl rfl)
abbrev cX3_scan : ByteArray := prog_6_method_5_code
def yX3_scan : MethodName := ⟨RX3, "scan", "()LBadCodes$Token;"⟩
def dkwX3_scan_7 : List UInt8 := [160, 0, 9, 178, 0, 97, 167, 0, 6, 178, 0, 15, 176]
abbrev dktX3_scan_7 : List UInt8 := dkwX3_scan_7 ++ []
def dkwX3_scan_6 : List UInt8 := [182, 0, 61, 153, 0, 8, 42, 182, 0, 93, 176, 42, 89, 180, 0, 58, 4, 96, 181, 0, 58, 27, 16, 59]
abbrev dktX3_scan_6 : List UInt8 := dkwX3_scan_6 ++ dktX3_scan_7
def dkwX3_scan_5 : List UInt8 := [164, 0, 7, 178, 0, 15, 176, 42, 44, 182, 0, 86, 181, 0, 26, 178, 0, 90, 176, 42, 42, 180, 0, 58]
abbrev dktX3_scan_5 : List UInt8 := dkwX3_scan_5 ++ dktX3_scan_6
def dkwX3_scan_4 : List UInt8 := [180, 0, 58, 4, 96, 181, 0, 58, 167, 255, 200, 42, 180, 0, 58, 42, 180, 0, 65, 100, 16, 6]
abbrev dktX3_scan_4 : List UInt8 := dkwX3_scan_4 ++ dktX3_scan_5
def dkwX3_scan_3 : List UInt8 := [100, 16, 6, 162, 0, 17, 44, 42, 42, 180, 0, 58, 182, 0, 47, 146, 182, 0, 82, 87, 42, 89]
abbrev dktX3_scan_3 : List UInt8 := dkwX3_scan_3 ++ dktX3_scan_4
def dkwX3_scan_2 : List UInt8 := [180, 0, 58, 182, 0, 47, 16, 97, 16, 122, 184, 0, 51, 153, 0, 44, 42, 180, 0, 58, 42, 180, 0, 65]
abbrev dktX3_scan_2 : List UInt8 := dkwX3_scan_2 ++ dktX3_scan_3
def dkwX3_scan_1 : List UInt8 := [16, 97, 16, 122, 184, 0, 51, 153, 0, 102, 187, 0, 77, 89, 16, 6, 183, 0, 79, 77, 42, 42]
abbrev dktX3_scan_1 : List UInt8 := dkwX3_scan_1 ++ dktX3_scan_2
def dkwX3_scan_0 : List UInt8 := [42, 18, 24, 181, 0, 26, 42, 42, 180, 0, 58, 182, 0, 47, 60, 27, 156, 0, 7, 178, 0, 74, 176, 27]
abbrev dktX3_scan_0 : List UInt8 := dkwX3_scan_0 ++ dktX3_scan_1
theorem dksX3_scan_0 : cX3_scan.data.toList.drop 0 = dktX3_scan_0 := by decide +kernel
theorem dksX3_scan_1 : cX3_scan.data.toList.drop 24 = dktX3_scan_1 := dk_seg dksX3_scan_0 24 rfl rfl
theorem dksX3_scan_2 : cX3_scan.data.toList.drop 46 = dktX3_scan_2 := dk_seg dksX3_scan_1 22 rfl rfl
theorem dksX3_scan_3 : cX3_scan.data.toList.drop 70 = dktX3_scan_3 := dk_seg dksX3_scan_2 24 rfl rfl
theorem dksX3_scan_4 : cX3_scan.data.toList.drop 92 = dktX3_scan_4 := dk_seg dksX3_scan_3 22 rfl rfl
theorem dksX3_scan_5 : cX3_scan.data.toList.drop 114 = dktX3_scan_5 := dk_seg dksX3_scan_4 22 rfl rfl
theorem dksX3_scan_6 : cX3_scan.data.toList.drop 138 = dktX3_scan_6 := dk_seg dksX3_scan_5 24 rfl rfl
theorem dksX3_scan_7 : cX3_scan.data.toList.drop 162 = dktX3_scan_7 := dk_seg dksX3_scan_6 24 rfl rfl
theorem dX3_scan_0 : decode cX3_scan 0 = .ok (.aload_n 0, 1) := dk_42 (dk_at dksX3_scan_0 0 rfl rfl)
theorem dX3_scan_1 : decode cX3_scan 1 = .ok (.ldc 24, 2) := dk_18 24 (dk_at dksX3_scan_0 1 rfl rfl)
theorem dX3_scan_3 : decode cX3_scan 3 = .ok (.putfield 26, 3) := dk_181 0 26 (dk_at dksX3_scan_0 3 rfl rfl)
theorem dX3_scan_6 : decode cX3_scan 6 = .ok (.aload_n 0, 1) := dk_42 (dk_at dksX3_scan_0 6 rfl rfl)
theorem dX3_scan_7 : decode cX3_scan 7 = .ok (.aload_n 0, 1) := dk_42 (dk_at dksX3_scan_0 7 rfl rfl)
theorem dX3_scan_8 : decode cX3_scan 8 = .ok (.getfield 58, 3) := dk_180 0 58 (dk_at dksX3_scan_0 8 rfl rfl)
theorem dX3_scan_11 : decode cX3_scan 11 = .ok (.invokevirtual 47, 3) := dk_182 0 47 (dk_at dksX3_scan_0 11 rfl rfl)
theorem dX3_scan_14 : decode cX3_scan 14 = .ok (.istore_n 1, 1) := dk_60 (dk_at dksX3_scan_0 14 rfl rfl)
theorem dX3_scan_15 : decode cX3_scan 15 = .ok (.iload_n 1, 1) := dk_27 (dk_at dksX3_scan_0 15 rfl rfl)
theorem dX3_scan_16 : decode cX3_scan 16 = .ok (.ifCond .ge 7, 3) := dk_156 0 7 (dk_at dksX3_scan_0 16 rfl rfl)
theorem dX3_scan_19 : decode cX3_scan 19 = .ok (.getstatic 74, 3) := dk_178 0 74 (dk_at dksX3_scan_0 19 rfl rfl)
theorem dX3_scan_22 : decode cX3_scan 22 = .ok (.areturn, 1) := dk_176 (dk_at dksX3_scan_0 22 rfl rfl)
theorem dX3_scan_23 : decode cX3_scan 23 = .ok (.iload_n 1, 1) := dk_27 (dk_at dksX3_scan_0 23 rfl rfl)
theorem dX3_scan_24 : decode cX3_scan 24 = .ok (.bipush 97, 2) := dk_16 97 (dk_at dksX3_scan_1 0 rfl rfl)
theorem dX3_scan_26 : decode cX3_scan 26 = .ok (.bipush 122, 2) := dk_16 122 (dk_at dksX3_scan_1 2 rfl rfl)
theorem dX3_scan_28 : decode cX3_scan 28 = .ok (.invokestatic 51, 3) := dk_184 0 51 (dk_at dksX3_scan_1 4 rfl rfl)
theorem dX3_scan_31 : decode cX3_scan 31 = .ok (.ifCond .eq 102, 3) := dk_153 0 102 (dk_at dksX3_scan_1 7 rfl rfl)
theorem dX3_scan_34 : decode cX3_scan 34 = .ok (.new 77, 3) := dk_187 0 77 (dk_at dksX3_scan_1 10 rfl rfl)
theorem dX3_scan_37 : decode cX3_scan 37 = .ok (.dup, 1) := dk_89 (dk_at dksX3_scan_1 13 rfl rfl)
theorem dX3_scan_38 : decode cX3_scan 38 = .ok (.bipush 6, 2) := dk_16 6 (dk_at dksX3_scan_1 14 rfl rfl)
theorem dX3_scan_40 : decode cX3_scan 40 = .ok (.invokespecial 79, 3) := dk_183 0 79 (dk_at dksX3_scan_1 16 rfl rfl)
theorem dX3_scan_43 : decode cX3_scan 43 = .ok (.astore_n 2, 1) := dk_77 (dk_at dksX3_scan_1 19 rfl rfl)
theorem dX3_scan_44 : decode cX3_scan 44 = .ok (.aload_n 0, 1) := dk_42 (dk_at dksX3_scan_1 20 rfl rfl)
theorem dX3_scan_45 : decode cX3_scan 45 = .ok (.aload_n 0, 1) := dk_42 (dk_at dksX3_scan_1 21 rfl rfl)
theorem dX3_scan_46 : decode cX3_scan 46 = .ok (.getfield 58, 3) := dk_180 0 58 (dk_at dksX3_scan_2 0 rfl rfl)
theorem dX3_scan_49 : decode cX3_scan 49 = .ok (.invokevirtual 47, 3) := dk_182 0 47 (dk_at dksX3_scan_2 3 rfl rfl)
theorem dX3_scan_52 : decode cX3_scan 52 = .ok (.bipush 97, 2) := dk_16 97 (dk_at dksX3_scan_2 6 rfl rfl)
theorem dX3_scan_54 : decode cX3_scan 54 = .ok (.bipush 122, 2) := dk_16 122 (dk_at dksX3_scan_2 8 rfl rfl)
theorem dX3_scan_56 : decode cX3_scan 56 = .ok (.invokestatic 51, 3) := dk_184 0 51 (dk_at dksX3_scan_2 10 rfl rfl)
theorem dX3_scan_59 : decode cX3_scan 59 = .ok (.ifCond .eq 44, 3) := dk_153 0 44 (dk_at dksX3_scan_2 13 rfl rfl)
theorem dX3_scan_62 : decode cX3_scan 62 = .ok (.aload_n 0, 1) := dk_42 (dk_at dksX3_scan_2 16 rfl rfl)
theorem dX3_scan_63 : decode cX3_scan 63 = .ok (.getfield 58, 3) := dk_180 0 58 (dk_at dksX3_scan_2 17 rfl rfl)
theorem dX3_scan_66 : decode cX3_scan 66 = .ok (.aload_n 0, 1) := dk_42 (dk_at dksX3_scan_2 20 rfl rfl)
theorem dX3_scan_67 : decode cX3_scan 67 = .ok (.getfield 65, 3) := dk_180 0 65 (dk_at dksX3_scan_2 21 rfl rfl)
theorem dX3_scan_70 : decode cX3_scan 70 = .ok (.isub, 1) := dk_100 (dk_at dksX3_scan_3 0 rfl rfl)
theorem dX3_scan_71 : decode cX3_scan 71 = .ok (.bipush 6, 2) := dk_16 6 (dk_at dksX3_scan_3 1 rfl rfl)
theorem dX3_scan_73 : decode cX3_scan 73 = .ok (.if_icmp .ge 17, 3) := dk_162 0 17 (dk_at dksX3_scan_3 3 rfl rfl)
theorem dX3_scan_76 : decode cX3_scan 76 = .ok (.aload_n 2, 1) := dk_44 (dk_at dksX3_scan_3 6 rfl rfl)
theorem dX3_scan_77 : decode cX3_scan 77 = .ok (.aload_n 0, 1) := dk_42 (dk_at dksX3_scan_3 7 rfl rfl)
theorem dX3_scan_78 : decode cX3_scan 78 = .ok (.aload_n 0, 1) := dk_42 (dk_at dksX3_scan_3 8 rfl rfl)
theorem dX3_scan_79 : decode cX3_scan 79 = .ok (.getfield 58, 3) := dk_180 0 58 (dk_at dksX3_scan_3 9 rfl rfl)
theorem dX3_scan_82 : decode cX3_scan 82 = .ok (.invokevirtual 47, 3) := dk_182 0 47 (dk_at dksX3_scan_3 12 rfl rfl)
theorem dX3_scan_85 : decode cX3_scan 85 = .ok (.i2c, 1) := dk_146 (dk_at dksX3_scan_3 15 rfl rfl)
theorem dX3_scan_86 : decode cX3_scan 86 = .ok (.invokevirtual 82, 3) := dk_182 0 82 (dk_at dksX3_scan_3 16 rfl rfl)
theorem dX3_scan_89 : decode cX3_scan 89 = .ok (.pop, 1) := dk_87 (dk_at dksX3_scan_3 19 rfl rfl)
theorem dX3_scan_90 : decode cX3_scan 90 = .ok (.aload_n 0, 1) := dk_42 (dk_at dksX3_scan_3 20 rfl rfl)
theorem dX3_scan_91 : decode cX3_scan 91 = .ok (.dup, 1) := dk_89 (dk_at dksX3_scan_3 21 rfl rfl)
theorem dX3_scan_92 : decode cX3_scan 92 = .ok (.getfield 58, 3) := dk_180 0 58 (dk_at dksX3_scan_4 0 rfl rfl)
theorem dX3_scan_95 : decode cX3_scan 95 = .ok (.iconst 1, 1) := dk_4 (dk_at dksX3_scan_4 3 rfl rfl)
theorem dX3_scan_96 : decode cX3_scan 96 = .ok (.iadd, 1) := dk_96 (dk_at dksX3_scan_4 4 rfl rfl)
theorem dX3_scan_97 : decode cX3_scan 97 = .ok (.putfield 58, 3) := dk_181 0 58 (dk_at dksX3_scan_4 5 rfl rfl)
theorem dX3_scan_100 : decode cX3_scan 100 = .ok (.goto (-56), 3) := dk_167 255 200 (dk_at dksX3_scan_4 8 rfl rfl)
theorem dX3_scan_103 : decode cX3_scan 103 = .ok (.aload_n 0, 1) := dk_42 (dk_at dksX3_scan_4 11 rfl rfl)
theorem dX3_scan_104 : decode cX3_scan 104 = .ok (.getfield 58, 3) := dk_180 0 58 (dk_at dksX3_scan_4 12 rfl rfl)
theorem dX3_scan_107 : decode cX3_scan 107 = .ok (.aload_n 0, 1) := dk_42 (dk_at dksX3_scan_4 15 rfl rfl)
theorem dX3_scan_108 : decode cX3_scan 108 = .ok (.getfield 65, 3) := dk_180 0 65 (dk_at dksX3_scan_4 16 rfl rfl)
theorem dX3_scan_111 : decode cX3_scan 111 = .ok (.isub, 1) := dk_100 (dk_at dksX3_scan_4 19 rfl rfl)
theorem dX3_scan_112 : decode cX3_scan 112 = .ok (.bipush 6, 2) := dk_16 6 (dk_at dksX3_scan_4 20 rfl rfl)
theorem dX3_scan_114 : decode cX3_scan 114 = .ok (.if_icmp .le 7, 3) := dk_164 0 7 (dk_at dksX3_scan_5 0 rfl rfl)
theorem dX3_scan_117 : decode cX3_scan 117 = .ok (.getstatic 15, 3) := dk_178 0 15 (dk_at dksX3_scan_5 3 rfl rfl)
theorem dX3_scan_120 : decode cX3_scan 120 = .ok (.areturn, 1) := dk_176 (dk_at dksX3_scan_5 6 rfl rfl)
theorem dX3_scan_121 : decode cX3_scan 121 = .ok (.aload_n 0, 1) := dk_42 (dk_at dksX3_scan_5 7 rfl rfl)
theorem dX3_scan_122 : decode cX3_scan 122 = .ok (.aload_n 2, 1) := dk_44 (dk_at dksX3_scan_5 8 rfl rfl)
theorem dX3_scan_123 : decode cX3_scan 123 = .ok (.invokevirtual 86, 3) := dk_182 0 86 (dk_at dksX3_scan_5 9 rfl rfl)
theorem dX3_scan_126 : decode cX3_scan 126 = .ok (.putfield 26, 3) := dk_181 0 26 (dk_at dksX3_scan_5 12 rfl rfl)
theorem dX3_scan_129 : decode cX3_scan 129 = .ok (.getstatic 90, 3) := dk_178 0 90 (dk_at dksX3_scan_5 15 rfl rfl)
theorem dX3_scan_132 : decode cX3_scan 132 = .ok (.areturn, 1) := dk_176 (dk_at dksX3_scan_5 18 rfl rfl)
theorem dX3_scan_133 : decode cX3_scan 133 = .ok (.aload_n 0, 1) := dk_42 (dk_at dksX3_scan_5 19 rfl rfl)
theorem dX3_scan_134 : decode cX3_scan 134 = .ok (.aload_n 0, 1) := dk_42 (dk_at dksX3_scan_5 20 rfl rfl)
theorem dX3_scan_135 : decode cX3_scan 135 = .ok (.getfield 58, 3) := dk_180 0 58 (dk_at dksX3_scan_5 21 rfl rfl)
theorem dX3_scan_138 : decode cX3_scan 138 = .ok (.invokevirtual 61, 3) := dk_182 0 61 (dk_at dksX3_scan_6 0 rfl rfl)
theorem dX3_scan_141 : decode cX3_scan 141 = .ok (.ifCond .eq 8, 3) := dk_153 0 8 (dk_at dksX3_scan_6 3 rfl rfl)
theorem dX3_scan_144 : decode cX3_scan 144 = .ok (.aload_n 0, 1) := dk_42 (dk_at dksX3_scan_6 6 rfl rfl)
theorem dX3_scan_145 : decode cX3_scan 145 = .ok (.invokevirtual 93, 3) := dk_182 0 93 (dk_at dksX3_scan_6 7 rfl rfl)
theorem dX3_scan_148 : decode cX3_scan 148 = .ok (.areturn, 1) := dk_176 (dk_at dksX3_scan_6 10 rfl rfl)
theorem dX3_scan_149 : decode cX3_scan 149 = .ok (.aload_n 0, 1) := dk_42 (dk_at dksX3_scan_6 11 rfl rfl)
theorem dX3_scan_150 : decode cX3_scan 150 = .ok (.dup, 1) := dk_89 (dk_at dksX3_scan_6 12 rfl rfl)
theorem dX3_scan_151 : decode cX3_scan 151 = .ok (.getfield 58, 3) := dk_180 0 58 (dk_at dksX3_scan_6 13 rfl rfl)
theorem dX3_scan_154 : decode cX3_scan 154 = .ok (.iconst 1, 1) := dk_4 (dk_at dksX3_scan_6 16 rfl rfl)
theorem dX3_scan_155 : decode cX3_scan 155 = .ok (.iadd, 1) := dk_96 (dk_at dksX3_scan_6 17 rfl rfl)
theorem dX3_scan_156 : decode cX3_scan 156 = .ok (.putfield 58, 3) := dk_181 0 58 (dk_at dksX3_scan_6 18 rfl rfl)
theorem dX3_scan_159 : decode cX3_scan 159 = .ok (.iload_n 1, 1) := dk_27 (dk_at dksX3_scan_6 21 rfl rfl)
theorem dX3_scan_160 : decode cX3_scan 160 = .ok (.bipush 59, 2) := dk_16 59 (dk_at dksX3_scan_6 22 rfl rfl)
theorem dX3_scan_162 : decode cX3_scan 162 = .ok (.if_icmp .ne 9, 3) := dk_160 0 9 (dk_at dksX3_scan_7 0 rfl rfl)
theorem dX3_scan_165 : decode cX3_scan 165 = .ok (.getstatic 97, 3) := dk_178 0 97 (dk_at dksX3_scan_7 3 rfl rfl)
theorem dX3_scan_168 : decode cX3_scan 168 = .ok (.goto 6, 3) := dk_167 0 6 (dk_at dksX3_scan_7 6 rfl rfl)
theorem dX3_scan_171 : decode cX3_scan 171 = .ok (.getstatic 15, 3) := dk_178 0 15 (dk_at dksX3_scan_7 9 rfl rfl)
theorem dX3_scan_174 : decode cX3_scan 174 = .ok (.areturn, 1) := dk_176 (dk_at dksX3_scan_7 12 rfl rfl)
abbrev cX3_isRun : ByteArray := prog_6_method_3_code
def yX3_isRun : MethodName := ⟨RX3, "isRun", "(I)Z"⟩
def dkwX3_isRun_1 : List UInt8 := [160, 0, 7, 4, 167, 0, 4, 3, 172]
abbrev dktX3_isRun_1 : List UInt8 := dkwX3_isRun_1 ++ []
def dkwX3_isRun_0 : List UInt8 := [42, 27, 182, 0, 47, 16, 48, 16, 57, 184, 0, 51, 154, 0, 13, 42, 27, 182, 0, 47, 16, 63]
abbrev dktX3_isRun_0 : List UInt8 := dkwX3_isRun_0 ++ dktX3_isRun_1
theorem dksX3_isRun_0 : cX3_isRun.data.toList.drop 0 = dktX3_isRun_0 := by decide +kernel
theorem dksX3_isRun_1 : cX3_isRun.data.toList.drop 22 = dktX3_isRun_1 := dk_seg dksX3_isRun_0 22 rfl rfl
theorem dX3_isRun_0 : decode cX3_isRun 0 = .ok (.aload_n 0, 1) := dk_42 (dk_at dksX3_isRun_0 0 rfl rfl)
theorem dX3_isRun_1 : decode cX3_isRun 1 = .ok (.iload_n 1, 1) := dk_27 (dk_at dksX3_isRun_0 1 rfl rfl)
theorem dX3_isRun_2 : decode cX3_isRun 2 = .ok (.invokevirtual 47, 3) := dk_182 0 47 (dk_at dksX3_isRun_0 2 rfl rfl)
theorem dX3_isRun_5 : decode cX3_isRun 5 = .ok (.bipush 48, 2) := dk_16 48 (dk_at dksX3_isRun_0 5 rfl rfl)
theorem dX3_isRun_7 : decode cX3_isRun 7 = .ok (.bipush 57, 2) := dk_16 57 (dk_at dksX3_isRun_0 7 rfl rfl)
theorem dX3_isRun_9 : decode cX3_isRun 9 = .ok (.invokestatic 51, 3) := dk_184 0 51 (dk_at dksX3_isRun_0 9 rfl rfl)
theorem dX3_isRun_12 : decode cX3_isRun 12 = .ok (.ifCond .ne 13, 3) := dk_154 0 13 (dk_at dksX3_isRun_0 12 rfl rfl)
theorem dX3_isRun_15 : decode cX3_isRun 15 = .ok (.aload_n 0, 1) := dk_42 (dk_at dksX3_isRun_0 15 rfl rfl)
theorem dX3_isRun_16 : decode cX3_isRun 16 = .ok (.iload_n 1, 1) := dk_27 (dk_at dksX3_isRun_0 16 rfl rfl)
theorem dX3_isRun_17 : decode cX3_isRun 17 = .ok (.invokevirtual 47, 3) := dk_182 0 47 (dk_at dksX3_isRun_0 17 rfl rfl)
theorem dX3_isRun_20 : decode cX3_isRun 20 = .ok (.bipush 63, 2) := dk_16 63 (dk_at dksX3_isRun_0 20 rfl rfl)
theorem dX3_isRun_22 : decode cX3_isRun 22 = .ok (.if_icmp .ne 7, 3) := dk_160 0 7 (dk_at dksX3_isRun_1 0 rfl rfl)
theorem dX3_isRun_25 : decode cX3_isRun 25 = .ok (.iconst 1, 1) := dk_4 (dk_at dksX3_isRun_1 3 rfl rfl)
theorem dX3_isRun_26 : decode cX3_isRun 26 = .ok (.goto 4, 3) := dk_167 0 4 (dk_at dksX3_isRun_1 4 rfl rfl)
theorem dX3_isRun_29 : decode cX3_isRun 29 = .ok (.iconst 0, 1) := dk_3 (dk_at dksX3_isRun_1 7 rfl rfl)
theorem dX3_isRun_30 : decode cX3_isRun 30 = .ok (.ireturn, 1) := dk_172 (dk_at dksX3_isRun_1 8 rfl rfl)
abbrev cX3_scanRun : ByteArray := prog_6_method_4_code
def yX3_scanRun : MethodName := ⟨RX3, "scanRun", "()LBadCodes$Token;"⟩
def dkwX3_scanRun_5 : List UInt8 := [153, 0, 9, 178, 0, 71, 167, 0, 6, 178, 0, 15, 176]
abbrev dktX3_scanRun_5 : List UInt8 := dkwX3_scanRun_5 ++ []
def dkwX3_scanRun_4 : List UInt8 := [100, 8, 160, 0, 7, 178, 0, 68, 176, 42, 180, 0, 58, 42, 180, 0, 65, 100, 8, 162, 0, 13, 27]
abbrev dktX3_scanRun_4 : List UInt8 := dkwX3_scanRun_4 ++ dktX3_scanRun_5
def dkwX3_scanRun_3 : List UInt8 := [181, 0, 55, 42, 89, 180, 0, 58, 4, 96, 181, 0, 58, 167, 255, 178, 42, 180, 0, 58, 42, 180, 0, 65]
abbrev dktX3_scanRun_3 : List UInt8 := dkwX3_scanRun_3 ++ dktX3_scanRun_4
def dkwX3_scanRun_2 : List UInt8 := [7, 162, 0, 26, 42, 16, 10, 42, 180, 0, 55, 104, 42, 42, 180, 0, 58, 182, 0, 47, 96, 16, 48, 100]
abbrev dktX3_scanRun_2 : List UInt8 := dkwX3_scanRun_2 ++ dktX3_scanRun_3
def dkwX3_scanRun_1 : List UInt8 := [182, 0, 47, 16, 63, 159, 0, 7, 4, 167, 0, 4, 3, 126, 60, 42, 180, 0, 58, 42, 180, 0, 65, 100]
abbrev dktX3_scanRun_1 : List UInt8 := dkwX3_scanRun_1 ++ dktX3_scanRun_2
def dkwX3_scanRun_0 : List UInt8 := [4, 60, 42, 3, 181, 0, 55, 42, 42, 180, 0, 58, 182, 0, 61, 153, 0, 73, 27, 42, 42, 180, 0, 58]
abbrev dktX3_scanRun_0 : List UInt8 := dkwX3_scanRun_0 ++ dktX3_scanRun_1
theorem dksX3_scanRun_0 : cX3_scanRun.data.toList.drop 0 = dktX3_scanRun_0 := by decide +kernel
theorem dksX3_scanRun_1 : cX3_scanRun.data.toList.drop 24 = dktX3_scanRun_1 := dk_seg dksX3_scanRun_0 24 rfl rfl
theorem dksX3_scanRun_2 : cX3_scanRun.data.toList.drop 48 = dktX3_scanRun_2 := dk_seg dksX3_scanRun_1 24 rfl rfl
theorem dksX3_scanRun_3 : cX3_scanRun.data.toList.drop 72 = dktX3_scanRun_3 := dk_seg dksX3_scanRun_2 24 rfl rfl
theorem dksX3_scanRun_4 : cX3_scanRun.data.toList.drop 96 = dktX3_scanRun_4 := dk_seg dksX3_scanRun_3 24 rfl rfl
theorem dksX3_scanRun_5 : cX3_scanRun.data.toList.drop 119 = dktX3_scanRun_5 := dk_seg dksX3_scanRun_4 23 rfl rfl
theorem dX3_scanRun_0 : decode cX3_scanRun 0 = .ok (.iconst 1, 1) := dk_4 (dk_at dksX3_scanRun_0 0 rfl rfl)
theorem dX3_scanRun_1 : decode cX3_scanRun 1 = .ok (.istore_n 1, 1) := dk_60 (dk_at dksX3_scanRun_0 1 rfl rfl)
theorem dX3_scanRun_2 : decode cX3_scanRun 2 = .ok (.aload_n 0, 1) := dk_42 (dk_at dksX3_scanRun_0 2 rfl rfl)
theorem dX3_scanRun_3 : decode cX3_scanRun 3 = .ok (.iconst 0, 1) := dk_3 (dk_at dksX3_scanRun_0 3 rfl rfl)
theorem dX3_scanRun_4 : decode cX3_scanRun 4 = .ok (.putfield 55, 3) := dk_181 0 55 (dk_at dksX3_scanRun_0 4 rfl rfl)
theorem dX3_scanRun_7 : decode cX3_scanRun 7 = .ok (.aload_n 0, 1) := dk_42 (dk_at dksX3_scanRun_0 7 rfl rfl)
theorem dX3_scanRun_8 : decode cX3_scanRun 8 = .ok (.aload_n 0, 1) := dk_42 (dk_at dksX3_scanRun_0 8 rfl rfl)
theorem dX3_scanRun_9 : decode cX3_scanRun 9 = .ok (.getfield 58, 3) := dk_180 0 58 (dk_at dksX3_scanRun_0 9 rfl rfl)
theorem dX3_scanRun_12 : decode cX3_scanRun 12 = .ok (.invokevirtual 61, 3) := dk_182 0 61 (dk_at dksX3_scanRun_0 12 rfl rfl)
theorem dX3_scanRun_15 : decode cX3_scanRun 15 = .ok (.ifCond .eq 73, 3) := dk_153 0 73 (dk_at dksX3_scanRun_0 15 rfl rfl)
theorem dX3_scanRun_18 : decode cX3_scanRun 18 = .ok (.iload_n 1, 1) := dk_27 (dk_at dksX3_scanRun_0 18 rfl rfl)
theorem dX3_scanRun_19 : decode cX3_scanRun 19 = .ok (.aload_n 0, 1) := dk_42 (dk_at dksX3_scanRun_0 19 rfl rfl)
theorem dX3_scanRun_20 : decode cX3_scanRun 20 = .ok (.aload_n 0, 1) := dk_42 (dk_at dksX3_scanRun_0 20 rfl rfl)
theorem dX3_scanRun_21 : decode cX3_scanRun 21 = .ok (.getfield 58, 3) := dk_180 0 58 (dk_at dksX3_scanRun_0 21 rfl rfl)
theorem dX3_scanRun_24 : decode cX3_scanRun 24 = .ok (.invokevirtual 47, 3) := dk_182 0 47 (dk_at dksX3_scanRun_1 0 rfl rfl)
theorem dX3_scanRun_27 : decode cX3_scanRun 27 = .ok (.bipush 63, 2) := dk_16 63 (dk_at dksX3_scanRun_1 3 rfl rfl)
theorem dX3_scanRun_29 : decode cX3_scanRun 29 = .ok (.if_icmp .eq 7, 3) := dk_159 0 7 (dk_at dksX3_scanRun_1 5 rfl rfl)
theorem dX3_scanRun_32 : decode cX3_scanRun 32 = .ok (.iconst 1, 1) := dk_4 (dk_at dksX3_scanRun_1 8 rfl rfl)
theorem dX3_scanRun_33 : decode cX3_scanRun 33 = .ok (.goto 4, 3) := dk_167 0 4 (dk_at dksX3_scanRun_1 9 rfl rfl)
theorem dX3_scanRun_36 : decode cX3_scanRun 36 = .ok (.iconst 0, 1) := dk_3 (dk_at dksX3_scanRun_1 12 rfl rfl)
theorem dX3_scanRun_37 : decode cX3_scanRun 37 = .ok (.iand, 1) := dk_126 (dk_at dksX3_scanRun_1 13 rfl rfl)
theorem dX3_scanRun_38 : decode cX3_scanRun 38 = .ok (.istore_n 1, 1) := dk_60 (dk_at dksX3_scanRun_1 14 rfl rfl)
theorem dX3_scanRun_39 : decode cX3_scanRun 39 = .ok (.aload_n 0, 1) := dk_42 (dk_at dksX3_scanRun_1 15 rfl rfl)
theorem dX3_scanRun_40 : decode cX3_scanRun 40 = .ok (.getfield 58, 3) := dk_180 0 58 (dk_at dksX3_scanRun_1 16 rfl rfl)
theorem dX3_scanRun_43 : decode cX3_scanRun 43 = .ok (.aload_n 0, 1) := dk_42 (dk_at dksX3_scanRun_1 19 rfl rfl)
theorem dX3_scanRun_44 : decode cX3_scanRun 44 = .ok (.getfield 65, 3) := dk_180 0 65 (dk_at dksX3_scanRun_1 20 rfl rfl)
theorem dX3_scanRun_47 : decode cX3_scanRun 47 = .ok (.isub, 1) := dk_100 (dk_at dksX3_scanRun_1 23 rfl rfl)
theorem dX3_scanRun_48 : decode cX3_scanRun 48 = .ok (.iconst 4, 1) := dk_7 (dk_at dksX3_scanRun_2 0 rfl rfl)
theorem dX3_scanRun_49 : decode cX3_scanRun 49 = .ok (.if_icmp .ge 26, 3) := dk_162 0 26 (dk_at dksX3_scanRun_2 1 rfl rfl)
theorem dX3_scanRun_52 : decode cX3_scanRun 52 = .ok (.aload_n 0, 1) := dk_42 (dk_at dksX3_scanRun_2 4 rfl rfl)
theorem dX3_scanRun_53 : decode cX3_scanRun 53 = .ok (.bipush 10, 2) := dk_16 10 (dk_at dksX3_scanRun_2 5 rfl rfl)
theorem dX3_scanRun_55 : decode cX3_scanRun 55 = .ok (.aload_n 0, 1) := dk_42 (dk_at dksX3_scanRun_2 7 rfl rfl)
theorem dX3_scanRun_56 : decode cX3_scanRun 56 = .ok (.getfield 55, 3) := dk_180 0 55 (dk_at dksX3_scanRun_2 8 rfl rfl)
theorem dX3_scanRun_59 : decode cX3_scanRun 59 = .ok (.imul, 1) := dk_104 (dk_at dksX3_scanRun_2 11 rfl rfl)
theorem dX3_scanRun_60 : decode cX3_scanRun 60 = .ok (.aload_n 0, 1) := dk_42 (dk_at dksX3_scanRun_2 12 rfl rfl)
theorem dX3_scanRun_61 : decode cX3_scanRun 61 = .ok (.aload_n 0, 1) := dk_42 (dk_at dksX3_scanRun_2 13 rfl rfl)
theorem dX3_scanRun_62 : decode cX3_scanRun 62 = .ok (.getfield 58, 3) := dk_180 0 58 (dk_at dksX3_scanRun_2 14 rfl rfl)
theorem dX3_scanRun_65 : decode cX3_scanRun 65 = .ok (.invokevirtual 47, 3) := dk_182 0 47 (dk_at dksX3_scanRun_2 17 rfl rfl)
theorem dX3_scanRun_68 : decode cX3_scanRun 68 = .ok (.iadd, 1) := dk_96 (dk_at dksX3_scanRun_2 20 rfl rfl)
theorem dX3_scanRun_69 : decode cX3_scanRun 69 = .ok (.bipush 48, 2) := dk_16 48 (dk_at dksX3_scanRun_2 21 rfl rfl)
theorem dX3_scanRun_71 : decode cX3_scanRun 71 = .ok (.isub, 1) := dk_100 (dk_at dksX3_scanRun_2 23 rfl rfl)
theorem dX3_scanRun_72 : decode cX3_scanRun 72 = .ok (.putfield 55, 3) := dk_181 0 55 (dk_at dksX3_scanRun_3 0 rfl rfl)
theorem dX3_scanRun_75 : decode cX3_scanRun 75 = .ok (.aload_n 0, 1) := dk_42 (dk_at dksX3_scanRun_3 3 rfl rfl)
theorem dX3_scanRun_76 : decode cX3_scanRun 76 = .ok (.dup, 1) := dk_89 (dk_at dksX3_scanRun_3 4 rfl rfl)
theorem dX3_scanRun_77 : decode cX3_scanRun 77 = .ok (.getfield 58, 3) := dk_180 0 58 (dk_at dksX3_scanRun_3 5 rfl rfl)
theorem dX3_scanRun_80 : decode cX3_scanRun 80 = .ok (.iconst 1, 1) := dk_4 (dk_at dksX3_scanRun_3 8 rfl rfl)
theorem dX3_scanRun_81 : decode cX3_scanRun 81 = .ok (.iadd, 1) := dk_96 (dk_at dksX3_scanRun_3 9 rfl rfl)
theorem dX3_scanRun_82 : decode cX3_scanRun 82 = .ok (.putfield 58, 3) := dk_181 0 58 (dk_at dksX3_scanRun_3 10 rfl rfl)
theorem dX3_scanRun_85 : decode cX3_scanRun 85 = .ok (.goto (-78), 3) := dk_167 255 178 (dk_at dksX3_scanRun_3 13 rfl rfl)
theorem dX3_scanRun_88 : decode cX3_scanRun 88 = .ok (.aload_n 0, 1) := dk_42 (dk_at dksX3_scanRun_3 16 rfl rfl)
theorem dX3_scanRun_89 : decode cX3_scanRun 89 = .ok (.getfield 58, 3) := dk_180 0 58 (dk_at dksX3_scanRun_3 17 rfl rfl)
theorem dX3_scanRun_92 : decode cX3_scanRun 92 = .ok (.aload_n 0, 1) := dk_42 (dk_at dksX3_scanRun_3 20 rfl rfl)
theorem dX3_scanRun_93 : decode cX3_scanRun 93 = .ok (.getfield 65, 3) := dk_180 0 65 (dk_at dksX3_scanRun_3 21 rfl rfl)
theorem dX3_scanRun_96 : decode cX3_scanRun 96 = .ok (.isub, 1) := dk_100 (dk_at dksX3_scanRun_4 0 rfl rfl)
theorem dX3_scanRun_97 : decode cX3_scanRun 97 = .ok (.iconst 5, 1) := dk_8 (dk_at dksX3_scanRun_4 1 rfl rfl)
theorem dX3_scanRun_98 : decode cX3_scanRun 98 = .ok (.if_icmp .ne 7, 3) := dk_160 0 7 (dk_at dksX3_scanRun_4 2 rfl rfl)
theorem dX3_scanRun_101 : decode cX3_scanRun 101 = .ok (.getstatic 68, 3) := dk_178 0 68 (dk_at dksX3_scanRun_4 5 rfl rfl)
theorem dX3_scanRun_104 : decode cX3_scanRun 104 = .ok (.areturn, 1) := dk_176 (dk_at dksX3_scanRun_4 8 rfl rfl)
theorem dX3_scanRun_105 : decode cX3_scanRun 105 = .ok (.aload_n 0, 1) := dk_42 (dk_at dksX3_scanRun_4 9 rfl rfl)
theorem dX3_scanRun_106 : decode cX3_scanRun 106 = .ok (.getfield 58, 3) := dk_180 0 58 (dk_at dksX3_scanRun_4 10 rfl rfl)
theorem dX3_scanRun_109 : decode cX3_scanRun 109 = .ok (.aload_n 0, 1) := dk_42 (dk_at dksX3_scanRun_4 13 rfl rfl)
theorem dX3_scanRun_110 : decode cX3_scanRun 110 = .ok (.getfield 65, 3) := dk_180 0 65 (dk_at dksX3_scanRun_4 14 rfl rfl)
theorem dX3_scanRun_113 : decode cX3_scanRun 113 = .ok (.isub, 1) := dk_100 (dk_at dksX3_scanRun_4 17 rfl rfl)
theorem dX3_scanRun_114 : decode cX3_scanRun 114 = .ok (.iconst 5, 1) := dk_8 (dk_at dksX3_scanRun_4 18 rfl rfl)
theorem dX3_scanRun_115 : decode cX3_scanRun 115 = .ok (.if_icmp .ge 13, 3) := dk_162 0 13 (dk_at dksX3_scanRun_4 19 rfl rfl)
theorem dX3_scanRun_118 : decode cX3_scanRun 118 = .ok (.iload_n 1, 1) := dk_27 (dk_at dksX3_scanRun_4 22 rfl rfl)
theorem dX3_scanRun_119 : decode cX3_scanRun 119 = .ok (.ifCond .eq 9, 3) := dk_153 0 9 (dk_at dksX3_scanRun_5 0 rfl rfl)
theorem dX3_scanRun_122 : decode cX3_scanRun 122 = .ok (.getstatic 71, 3) := dk_178 0 71 (dk_at dksX3_scanRun_5 3 rfl rfl)
theorem dX3_scanRun_125 : decode cX3_scanRun 125 = .ok (.goto 6, 3) := dk_167 0 6 (dk_at dksX3_scanRun_5 6 rfl rfl)
theorem dX3_scanRun_128 : decode cX3_scanRun 128 = .ok (.getstatic 15, 3) := dk_178 0 15 (dk_at dksX3_scanRun_5 9 rfl rfl)
theorem dX3_scanRun_131 : decode cX3_scanRun 131 = .ok (.areturn, 1) := dk_176 (dk_at dksX3_scanRun_5 12 rfl rfl)
abbrev cX3_require : ByteArray := prog_6_method_7_code
def yX3_require : MethodName := ⟨RX3, "require", "(ZI)V"⟩
def dkwX3_require_0 : List UInt8 := [27, 154, 0, 16, 187, 0, 103, 89, 28, 42, 180, 0, 65, 183, 0, 105, 191, 177]
abbrev dktX3_require_0 : List UInt8 := dkwX3_require_0 ++ []
theorem dksX3_require_0 : cX3_require.data.toList.drop 0 = dktX3_require_0 := by decide +kernel
theorem dX3_require_0 : decode cX3_require 0 = .ok (.iload_n 1, 1) := dk_27 (dk_at dksX3_require_0 0 rfl rfl)
theorem dX3_require_1 : decode cX3_require 1 = .ok (.ifCond .ne 16, 3) := dk_154 0 16 (dk_at dksX3_require_0 1 rfl rfl)
theorem dX3_require_4 : decode cX3_require 4 = .ok (.new 103, 3) := dk_187 0 103 (dk_at dksX3_require_0 4 rfl rfl)
theorem dX3_require_7 : decode cX3_require 7 = .ok (.dup, 1) := dk_89 (dk_at dksX3_require_0 7 rfl rfl)
theorem dX3_require_8 : decode cX3_require 8 = .ok (.iload_n 2, 1) := dk_28 (dk_at dksX3_require_0 8 rfl rfl)
theorem dX3_require_9 : decode cX3_require 9 = .ok (.aload_n 0, 1) := dk_42 (dk_at dksX3_require_0 9 rfl rfl)
theorem dX3_require_10 : decode cX3_require 10 = .ok (.getfield 65, 3) := dk_180 0 65 (dk_at dksX3_require_0 10 rfl rfl)
theorem dX3_require_13 : decode cX3_require 13 = .ok (.invokespecial 105, 3) := dk_183 0 105 (dk_at dksX3_require_0 13 rfl rfl)
theorem dX3_require_16 : decode cX3_require 16 = .ok (.athrow, 1) := dk_191 (dk_at dksX3_require_0 16 rfl rfl)
theorem dX3_require_17 : decode cX3_require 17 = .ok (.return_, 1) := dk_177 (dk_at dksX3_require_0 17 rfl rfl)
abbrev cX3_number : ByteArray := prog_6_method_8_code
def yX3_number : MethodName := ⟨RX3, "number", "(II)I"⟩
def dkwX3_number_1 : List UInt8 := [180, 0, 55, 27, 28, 184, 0, 51, 5, 182, 0, 108, 42, 180, 0, 55, 62, 42, 182, 0, 112, 29, 172]
abbrev dktX3_number_1 : List UInt8 := dkwX3_number_1 ++ []
def dkwX3_number_0 : List UInt8 := [42, 42, 180, 0, 21, 178, 0, 71, 166, 0, 7, 4, 167, 0, 4, 3, 4, 182, 0, 108, 42, 42]
abbrev dktX3_number_0 : List UInt8 := dkwX3_number_0 ++ dktX3_number_1
theorem dksX3_number_0 : cX3_number.data.toList.drop 0 = dktX3_number_0 := by decide +kernel
theorem dksX3_number_1 : cX3_number.data.toList.drop 22 = dktX3_number_1 := dk_seg dksX3_number_0 22 rfl rfl
theorem dX3_number_0 : decode cX3_number 0 = .ok (.aload_n 0, 1) := dk_42 (dk_at dksX3_number_0 0 rfl rfl)
theorem dX3_number_1 : decode cX3_number 1 = .ok (.aload_n 0, 1) := dk_42 (dk_at dksX3_number_0 1 rfl rfl)
theorem dX3_number_2 : decode cX3_number 2 = .ok (.getfield 21, 3) := dk_180 0 21 (dk_at dksX3_number_0 2 rfl rfl)
theorem dX3_number_5 : decode cX3_number 5 = .ok (.getstatic 71, 3) := dk_178 0 71 (dk_at dksX3_number_0 5 rfl rfl)
theorem dX3_number_8 : decode cX3_number 8 = .ok (.if_acmp .ne 7, 3) := dk_166 0 7 (dk_at dksX3_number_0 8 rfl rfl)
theorem dX3_number_11 : decode cX3_number 11 = .ok (.iconst 1, 1) := dk_4 (dk_at dksX3_number_0 11 rfl rfl)
theorem dX3_number_12 : decode cX3_number 12 = .ok (.goto 4, 3) := dk_167 0 4 (dk_at dksX3_number_0 12 rfl rfl)
theorem dX3_number_15 : decode cX3_number 15 = .ok (.iconst 0, 1) := dk_3 (dk_at dksX3_number_0 15 rfl rfl)
theorem dX3_number_16 : decode cX3_number 16 = .ok (.iconst 1, 1) := dk_4 (dk_at dksX3_number_0 16 rfl rfl)
theorem dX3_number_17 : decode cX3_number 17 = .ok (.invokevirtual 108, 3) := dk_182 0 108 (dk_at dksX3_number_0 17 rfl rfl)
theorem dX3_number_20 : decode cX3_number 20 = .ok (.aload_n 0, 1) := dk_42 (dk_at dksX3_number_0 20 rfl rfl)
theorem dX3_number_21 : decode cX3_number 21 = .ok (.aload_n 0, 1) := dk_42 (dk_at dksX3_number_0 21 rfl rfl)
theorem dX3_number_22 : decode cX3_number 22 = .ok (.getfield 55, 3) := dk_180 0 55 (dk_at dksX3_number_1 0 rfl rfl)
theorem dX3_number_25 : decode cX3_number 25 = .ok (.iload_n 1, 1) := dk_27 (dk_at dksX3_number_1 3 rfl rfl)
theorem dX3_number_26 : decode cX3_number 26 = .ok (.iload_n 2, 1) := dk_28 (dk_at dksX3_number_1 4 rfl rfl)
theorem dX3_number_27 : decode cX3_number 27 = .ok (.invokestatic 51, 3) := dk_184 0 51 (dk_at dksX3_number_1 5 rfl rfl)
theorem dX3_number_30 : decode cX3_number 30 = .ok (.iconst 2, 1) := dk_5 (dk_at dksX3_number_1 8 rfl rfl)
theorem dX3_number_31 : decode cX3_number 31 = .ok (.invokevirtual 108, 3) := dk_182 0 108 (dk_at dksX3_number_1 9 rfl rfl)
theorem dX3_number_34 : decode cX3_number 34 = .ok (.aload_n 0, 1) := dk_42 (dk_at dksX3_number_1 12 rfl rfl)
theorem dX3_number_35 : decode cX3_number 35 = .ok (.getfield 55, 3) := dk_180 0 55 (dk_at dksX3_number_1 13 rfl rfl)
theorem dX3_number_38 : decode cX3_number 38 = .ok (.istore_n 3, 1) := dk_62 (dk_at dksX3_number_1 16 rfl rfl)
theorem dX3_number_39 : decode cX3_number 39 = .ok (.aload_n 0, 1) := dk_42 (dk_at dksX3_number_1 17 rfl rfl)
theorem dX3_number_40 : decode cX3_number 40 = .ok (.invokevirtual 112, 3) := dk_182 0 112 (dk_at dksX3_number_1 18 rfl rfl)
theorem dX3_number_43 : decode cX3_number 43 = .ok (.iload_n 3, 1) := dk_29 (dk_at dksX3_number_1 21 rfl rfl)
theorem dX3_number_44 : decode cX3_number 44 = .ok (.ireturn, 1) := dk_172 (dk_at dksX3_number_1 22 rfl rfl)
abbrev cX3_line : ByteArray := prog_6_method_14_code
def yX3_line : MethodName := ⟨RX3, "line", "()V"⟩
def dkwX3_line_8 : List UInt8 := [183, 0, 105, 191, 177]
abbrev dktX3_line_8 : List UInt8 := dkwX3_line_8 ++ []
def dkwX3_line_7 : List UInt8 := [182, 0, 199, 167, 0, 23, 42, 182, 0, 201, 167, 0, 16, 187, 0, 103, 89, 4, 42, 180, 0, 65]
abbrev dktX3_line_7 : List UInt8 := dkwX3_line_7 ++ dktX3_line_8
def dkwX3_line_6 : List UInt8 := [42, 182, 0, 193, 167, 0, 44, 42, 182, 0, 195, 167, 0, 37, 42, 182, 0, 197, 167, 0, 30, 42]
abbrev dktX3_line_6 : List UInt8 := dkwX3_line_6 ++ dktX3_line_7
def dkwX3_line_5 : List UInt8 := [170, 0, 0, 0, 0, 0, 0, 71, 0, 0, 0, 0, 0, 0, 0, 4, 0, 0, 0, 36, 0, 0, 0, 43, 0, 0, 0, 50, 0, 0, 0, 57, 0, 0, 0, 64]
abbrev dktX3_line_5 : List UInt8 := dkwX3_line_5 ++ dktX3_line_6
def dkwX3_line_4 : List UInt8 := [153, 0, 19, 6, 61, 167, 0, 14, 43, 18, 191, 182, 0, 182, 153, 0, 5, 7, 61, 28]
abbrev dktX3_line_4 : List UInt8 := dkwX3_line_4 ++ dktX3_line_5
def dkwX3_line_3 : List UInt8 := [61, 167, 0, 42, 43, 18, 187, 182, 0, 182, 153, 0, 33, 5, 61, 167, 0, 28, 43, 18, 189, 182, 0, 182]
abbrev dktX3_line_3 : List UInt8 := dkwX3_line_3 ++ dktX3_line_4
def dkwX3_line_2 : List UInt8 := [43, 18, 180, 182, 0, 182, 153, 0, 61, 3, 61, 167, 0, 56, 43, 18, 185, 182, 0, 182, 153, 0, 47, 4]
abbrev dktX3_line_2 : List UInt8 := dkwX3_line_2 ++ dktX3_line_3
def dkwX3_line_1 : List UInt8 := [171, 0, 0, 0, 116, 0, 0, 0, 5, 190, 17, 36, 38, 0, 0, 0, 63, 0, 1, 190, 75, 0, 0, 0, 77, 0, 53, 245, 158, 0, 0, 0, 105, 0, 54, 106, 146, 0, 0, 0, 49, 5, 165, 221, 248, 0, 0, 0, 91]
abbrev dktX3_line_1 : List UInt8 := dkwX3_line_1 ++ dktX3_line_2
def dkwX3_line_0 : List UInt8 := [42, 180, 0, 26, 76, 2, 61, 43, 182, 0, 175]
abbrev dktX3_line_0 : List UInt8 := dkwX3_line_0 ++ dktX3_line_1
theorem dksX3_line_0 : cX3_line.data.toList.drop 0 = dktX3_line_0 := by decide +kernel
theorem dksX3_line_1 : cX3_line.data.toList.drop 11 = dktX3_line_1 := dk_seg dksX3_line_0 11 rfl rfl
theorem dksX3_line_2 : cX3_line.data.toList.drop 60 = dktX3_line_2 := dk_seg dksX3_line_1 49 rfl rfl
theorem dksX3_line_3 : cX3_line.data.toList.drop 84 = dktX3_line_3 := dk_seg dksX3_line_2 24 rfl rfl
theorem dksX3_line_4 : cX3_line.data.toList.drop 108 = dktX3_line_4 := dk_seg dksX3_line_3 24 rfl rfl
theorem dksX3_line_5 : cX3_line.data.toList.drop 128 = dktX3_line_5 := dk_seg dksX3_line_4 20 rfl rfl
theorem dksX3_line_6 : cX3_line.data.toList.drop 164 = dktX3_line_6 := dk_seg dksX3_line_5 36 rfl rfl
theorem dksX3_line_7 : cX3_line.data.toList.drop 186 = dktX3_line_7 := dk_seg dksX3_line_6 22 rfl rfl
theorem dksX3_line_8 : cX3_line.data.toList.drop 208 = dktX3_line_8 := dk_seg dksX3_line_7 22 rfl rfl
theorem dX3_line_0 : decode cX3_line 0 = .ok (.aload_n 0, 1) := dk_42 (dk_at dksX3_line_0 0 rfl rfl)
theorem dX3_line_1 : decode cX3_line 1 = .ok (.getfield 26, 3) := dk_180 0 26 (dk_at dksX3_line_0 1 rfl rfl)
theorem dX3_line_4 : decode cX3_line 4 = .ok (.astore_n 1, 1) := dk_76 (dk_at dksX3_line_0 4 rfl rfl)
theorem dX3_line_5 : decode cX3_line 5 = .ok (.iconst (-1), 1) := dk_2 (dk_at dksX3_line_0 5 rfl rfl)
theorem dX3_line_6 : decode cX3_line 6 = .ok (.istore_n 2, 1) := dk_61 (dk_at dksX3_line_0 6 rfl rfl)
theorem dX3_line_7 : decode cX3_line 7 = .ok (.aload_n 1, 1) := dk_43 (dk_at dksX3_line_0 7 rfl rfl)
theorem dX3_line_8 : decode cX3_line 8 = .ok (.invokevirtual 175, 3) := dk_182 0 175 (dk_at dksX3_line_0 8 rfl rfl)
theorem dX3_line_11 : decode cX3_line 11 = .ok (.lookupswitch 116 #[(-1106172890, 63), (114251, 77), (3536286, 105), (3566226, 49), (94756344, 91)], 49) := by decide +kernel
theorem dX3_line_60 : decode cX3_line 60 = .ok (.aload_n 1, 1) := dk_43 (dk_at dksX3_line_2 0 rfl rfl)
theorem dX3_line_61 : decode cX3_line 61 = .ok (.ldc 180, 2) := dk_18 180 (dk_at dksX3_line_2 1 rfl rfl)
theorem dX3_line_63 : decode cX3_line 63 = .ok (.invokevirtual 182, 3) := dk_182 0 182 (dk_at dksX3_line_2 3 rfl rfl)
theorem dX3_line_66 : decode cX3_line 66 = .ok (.ifCond .eq 61, 3) := dk_153 0 61 (dk_at dksX3_line_2 6 rfl rfl)
theorem dX3_line_69 : decode cX3_line 69 = .ok (.iconst 0, 1) := dk_3 (dk_at dksX3_line_2 9 rfl rfl)
theorem dX3_line_70 : decode cX3_line 70 = .ok (.istore_n 2, 1) := dk_61 (dk_at dksX3_line_2 10 rfl rfl)
theorem dX3_line_71 : decode cX3_line 71 = .ok (.goto 56, 3) := dk_167 0 56 (dk_at dksX3_line_2 11 rfl rfl)
theorem dX3_line_74 : decode cX3_line 74 = .ok (.aload_n 1, 1) := dk_43 (dk_at dksX3_line_2 14 rfl rfl)
theorem dX3_line_75 : decode cX3_line 75 = .ok (.ldc 185, 2) := dk_18 185 (dk_at dksX3_line_2 15 rfl rfl)
theorem dX3_line_77 : decode cX3_line 77 = .ok (.invokevirtual 182, 3) := dk_182 0 182 (dk_at dksX3_line_2 17 rfl rfl)
theorem dX3_line_80 : decode cX3_line 80 = .ok (.ifCond .eq 47, 3) := dk_153 0 47 (dk_at dksX3_line_2 20 rfl rfl)
theorem dX3_line_83 : decode cX3_line 83 = .ok (.iconst 1, 1) := dk_4 (dk_at dksX3_line_2 23 rfl rfl)
theorem dX3_line_84 : decode cX3_line 84 = .ok (.istore_n 2, 1) := dk_61 (dk_at dksX3_line_3 0 rfl rfl)
theorem dX3_line_85 : decode cX3_line 85 = .ok (.goto 42, 3) := dk_167 0 42 (dk_at dksX3_line_3 1 rfl rfl)
theorem dX3_line_88 : decode cX3_line 88 = .ok (.aload_n 1, 1) := dk_43 (dk_at dksX3_line_3 4 rfl rfl)
theorem dX3_line_89 : decode cX3_line 89 = .ok (.ldc 187, 2) := dk_18 187 (dk_at dksX3_line_3 5 rfl rfl)
theorem dX3_line_91 : decode cX3_line 91 = .ok (.invokevirtual 182, 3) := dk_182 0 182 (dk_at dksX3_line_3 7 rfl rfl)
theorem dX3_line_94 : decode cX3_line 94 = .ok (.ifCond .eq 33, 3) := dk_153 0 33 (dk_at dksX3_line_3 10 rfl rfl)
theorem dX3_line_97 : decode cX3_line 97 = .ok (.iconst 2, 1) := dk_5 (dk_at dksX3_line_3 13 rfl rfl)
theorem dX3_line_98 : decode cX3_line 98 = .ok (.istore_n 2, 1) := dk_61 (dk_at dksX3_line_3 14 rfl rfl)
theorem dX3_line_99 : decode cX3_line 99 = .ok (.goto 28, 3) := dk_167 0 28 (dk_at dksX3_line_3 15 rfl rfl)
theorem dX3_line_102 : decode cX3_line 102 = .ok (.aload_n 1, 1) := dk_43 (dk_at dksX3_line_3 18 rfl rfl)
theorem dX3_line_103 : decode cX3_line 103 = .ok (.ldc 189, 2) := dk_18 189 (dk_at dksX3_line_3 19 rfl rfl)
theorem dX3_line_105 : decode cX3_line 105 = .ok (.invokevirtual 182, 3) := dk_182 0 182 (dk_at dksX3_line_3 21 rfl rfl)
theorem dX3_line_108 : decode cX3_line 108 = .ok (.ifCond .eq 19, 3) := dk_153 0 19 (dk_at dksX3_line_4 0 rfl rfl)
theorem dX3_line_111 : decode cX3_line 111 = .ok (.iconst 3, 1) := dk_6 (dk_at dksX3_line_4 3 rfl rfl)
theorem dX3_line_112 : decode cX3_line 112 = .ok (.istore_n 2, 1) := dk_61 (dk_at dksX3_line_4 4 rfl rfl)
theorem dX3_line_113 : decode cX3_line 113 = .ok (.goto 14, 3) := dk_167 0 14 (dk_at dksX3_line_4 5 rfl rfl)
theorem dX3_line_116 : decode cX3_line 116 = .ok (.aload_n 1, 1) := dk_43 (dk_at dksX3_line_4 8 rfl rfl)
theorem dX3_line_117 : decode cX3_line 117 = .ok (.ldc 191, 2) := dk_18 191 (dk_at dksX3_line_4 9 rfl rfl)
theorem dX3_line_119 : decode cX3_line 119 = .ok (.invokevirtual 182, 3) := dk_182 0 182 (dk_at dksX3_line_4 11 rfl rfl)
theorem dX3_line_122 : decode cX3_line 122 = .ok (.ifCond .eq 5, 3) := dk_153 0 5 (dk_at dksX3_line_4 14 rfl rfl)
theorem dX3_line_125 : decode cX3_line 125 = .ok (.iconst 4, 1) := dk_7 (dk_at dksX3_line_4 17 rfl rfl)
theorem dX3_line_126 : decode cX3_line 126 = .ok (.istore_n 2, 1) := dk_61 (dk_at dksX3_line_4 18 rfl rfl)
theorem dX3_line_127 : decode cX3_line 127 = .ok (.iload_n 2, 1) := dk_28 (dk_at dksX3_line_4 19 rfl rfl)
theorem dX3_line_128 : decode cX3_line 128 = .ok (.tableswitch 71 0 4 #[36, 43, 50, 57, 64], 36) := by decide +kernel
theorem dX3_line_164 : decode cX3_line 164 = .ok (.aload_n 0, 1) := dk_42 (dk_at dksX3_line_6 0 rfl rfl)
theorem dX3_line_165 : decode cX3_line 165 = .ok (.invokevirtual 193, 3) := dk_182 0 193 (dk_at dksX3_line_6 1 rfl rfl)
theorem dX3_line_168 : decode cX3_line 168 = .ok (.goto 44, 3) := dk_167 0 44 (dk_at dksX3_line_6 4 rfl rfl)
theorem dX3_line_171 : decode cX3_line 171 = .ok (.aload_n 0, 1) := dk_42 (dk_at dksX3_line_6 7 rfl rfl)
theorem dX3_line_172 : decode cX3_line 172 = .ok (.invokevirtual 195, 3) := dk_182 0 195 (dk_at dksX3_line_6 8 rfl rfl)
theorem dX3_line_175 : decode cX3_line 175 = .ok (.goto 37, 3) := dk_167 0 37 (dk_at dksX3_line_6 11 rfl rfl)
theorem dX3_line_178 : decode cX3_line 178 = .ok (.aload_n 0, 1) := dk_42 (dk_at dksX3_line_6 14 rfl rfl)
theorem dX3_line_179 : decode cX3_line 179 = .ok (.invokevirtual 197, 3) := dk_182 0 197 (dk_at dksX3_line_6 15 rfl rfl)
theorem dX3_line_182 : decode cX3_line 182 = .ok (.goto 30, 3) := dk_167 0 30 (dk_at dksX3_line_6 18 rfl rfl)
theorem dX3_line_185 : decode cX3_line 185 = .ok (.aload_n 0, 1) := dk_42 (dk_at dksX3_line_6 21 rfl rfl)
theorem dX3_line_186 : decode cX3_line 186 = .ok (.invokevirtual 199, 3) := dk_182 0 199 (dk_at dksX3_line_7 0 rfl rfl)
theorem dX3_line_189 : decode cX3_line 189 = .ok (.goto 23, 3) := dk_167 0 23 (dk_at dksX3_line_7 3 rfl rfl)
theorem dX3_line_192 : decode cX3_line 192 = .ok (.aload_n 0, 1) := dk_42 (dk_at dksX3_line_7 6 rfl rfl)
theorem dX3_line_193 : decode cX3_line 193 = .ok (.invokevirtual 201, 3) := dk_182 0 201 (dk_at dksX3_line_7 7 rfl rfl)
theorem dX3_line_196 : decode cX3_line 196 = .ok (.goto 16, 3) := dk_167 0 16 (dk_at dksX3_line_7 10 rfl rfl)
theorem dX3_line_199 : decode cX3_line 199 = .ok (.new 103, 3) := dk_187 0 103 (dk_at dksX3_line_7 13 rfl rfl)
theorem dX3_line_202 : decode cX3_line 202 = .ok (.dup, 1) := dk_89 (dk_at dksX3_line_7 16 rfl rfl)
theorem dX3_line_203 : decode cX3_line 203 = .ok (.iconst 1, 1) := dk_4 (dk_at dksX3_line_7 17 rfl rfl)
theorem dX3_line_204 : decode cX3_line 204 = .ok (.aload_n 0, 1) := dk_42 (dk_at dksX3_line_7 18 rfl rfl)
theorem dX3_line_205 : decode cX3_line 205 = .ok (.getfield 65, 3) := dk_180 0 65 (dk_at dksX3_line_7 19 rfl rfl)
theorem dX3_line_208 : decode cX3_line 208 = .ok (.invokespecial 105, 3) := dk_183 0 105 (dk_at dksX3_line_8 0 rfl rfl)
theorem dX3_line_211 : decode cX3_line 211 = .ok (.athrow, 1) := dk_191 (dk_at dksX3_line_8 3 rfl rfl)
theorem dX3_line_212 : decode cX3_line 212 = .ok (.return_, 1) := dk_177 (dk_at dksX3_line_8 4 rfl rfl)
abbrev cX3_town : ByteArray := prog_6_method_9_code
def yX3_town : MethodName := ⟨RX3, "town", "()V"⟩
def dkwX3_town_5 : List UInt8 := [185, 0, 149, 2, 0, 87, 177]
abbrev dktX3_town_5 : List UInt8 := dkwX3_town_5 ++ []
def dkwX3_town_4 : List UInt8 := [180, 0, 115, 180, 0, 119, 187, 0, 137, 89, 27, 42, 3, 8, 182, 0, 139, 27, 184, 0, 143, 183, 0, 146]
abbrev dktX3_town_4 : List UInt8 := dkwX3_town_4 ++ dktX3_town_5
def dkwX3_town_3 : List UInt8 := [2, 160, 0, 7, 4, 167, 0, 4, 3, 6, 182, 0, 108, 42, 180, 0, 55, 60, 42, 182, 0, 112, 42]
abbrev dktX3_town_3 : List UInt8 := dkwX3_town_3 ++ dktX3_town_4
def dkwX3_town_2 : List UInt8 := [166, 0, 7, 4, 167, 0, 4, 3, 4, 182, 0, 108, 42, 42, 180, 0, 115, 42, 180, 0, 55, 182, 0, 134]
abbrev dktX3_town_2 : List UInt8 := dkwX3_town_2 ++ dktX3_town_3
def dkwX3_town_1 : List UInt8 := [154, 0, 7, 4, 167, 0, 4, 3, 7, 182, 0, 108, 42, 182, 0, 112, 42, 42, 180, 0, 21, 178, 0, 71]
abbrev dktX3_town_1 : List UInt8 := dkwX3_town_1 ++ dktX3_town_2
def dkwX3_town_0 : List UInt8 := [42, 42, 180, 0, 115, 180, 0, 119, 185, 0, 125, 1, 0, 16, 12, 162, 0, 14, 42, 180, 0, 130]
abbrev dktX3_town_0 : List UInt8 := dkwX3_town_0 ++ dktX3_town_1
theorem dksX3_town_0 : cX3_town.data.toList.drop 0 = dktX3_town_0 := by decide +kernel
theorem dksX3_town_1 : cX3_town.data.toList.drop 22 = dktX3_town_1 := dk_seg dksX3_town_0 22 rfl rfl
theorem dksX3_town_2 : cX3_town.data.toList.drop 46 = dktX3_town_2 := dk_seg dksX3_town_1 24 rfl rfl
theorem dksX3_town_3 : cX3_town.data.toList.drop 70 = dktX3_town_3 := dk_seg dksX3_town_2 24 rfl rfl
theorem dksX3_town_4 : cX3_town.data.toList.drop 93 = dktX3_town_4 := dk_seg dksX3_town_3 23 rfl rfl
theorem dksX3_town_5 : cX3_town.data.toList.drop 117 = dktX3_town_5 := dk_seg dksX3_town_4 24 rfl rfl
theorem dX3_town_0 : decode cX3_town 0 = .ok (.aload_n 0, 1) := dk_42 (dk_at dksX3_town_0 0 rfl rfl)
theorem dX3_town_1 : decode cX3_town 1 = .ok (.aload_n 0, 1) := dk_42 (dk_at dksX3_town_0 1 rfl rfl)
theorem dX3_town_2 : decode cX3_town 2 = .ok (.getfield 115, 3) := dk_180 0 115 (dk_at dksX3_town_0 2 rfl rfl)
theorem dX3_town_5 : decode cX3_town 5 = .ok (.getfield 119, 3) := dk_180 0 119 (dk_at dksX3_town_0 5 rfl rfl)
theorem dX3_town_8 : decode cX3_town 8 = .ok (.invokeinterface 125 1, 5) := by decide +kernel
theorem dX3_town_13 : decode cX3_town 13 = .ok (.bipush 12, 2) := dk_16 12 (dk_at dksX3_town_0 13 rfl rfl)
theorem dX3_town_15 : decode cX3_town 15 = .ok (.if_icmp .ge 14, 3) := dk_162 0 14 (dk_at dksX3_town_0 15 rfl rfl)
theorem dX3_town_18 : decode cX3_town 18 = .ok (.aload_n 0, 1) := dk_42 (dk_at dksX3_town_0 18 rfl rfl)
theorem dX3_town_19 : decode cX3_town 19 = .ok (.getfield 130, 3) := dk_180 0 130 (dk_at dksX3_town_0 19 rfl rfl)
theorem dX3_town_22 : decode cX3_town 22 = .ok (.ifCond .ne 7, 3) := dk_154 0 7 (dk_at dksX3_town_1 0 rfl rfl)
theorem dX3_town_25 : decode cX3_town 25 = .ok (.iconst 1, 1) := dk_4 (dk_at dksX3_town_1 3 rfl rfl)
theorem dX3_town_26 : decode cX3_town 26 = .ok (.goto 4, 3) := dk_167 0 4 (dk_at dksX3_town_1 4 rfl rfl)
theorem dX3_town_29 : decode cX3_town 29 = .ok (.iconst 0, 1) := dk_3 (dk_at dksX3_town_1 7 rfl rfl)
theorem dX3_town_30 : decode cX3_town 30 = .ok (.iconst 4, 1) := dk_7 (dk_at dksX3_town_1 8 rfl rfl)
theorem dX3_town_31 : decode cX3_town 31 = .ok (.invokevirtual 108, 3) := dk_182 0 108 (dk_at dksX3_town_1 9 rfl rfl)
theorem dX3_town_34 : decode cX3_town 34 = .ok (.aload_n 0, 1) := dk_42 (dk_at dksX3_town_1 12 rfl rfl)
theorem dX3_town_35 : decode cX3_town 35 = .ok (.invokevirtual 112, 3) := dk_182 0 112 (dk_at dksX3_town_1 13 rfl rfl)
theorem dX3_town_38 : decode cX3_town 38 = .ok (.aload_n 0, 1) := dk_42 (dk_at dksX3_town_1 16 rfl rfl)
theorem dX3_town_39 : decode cX3_town 39 = .ok (.aload_n 0, 1) := dk_42 (dk_at dksX3_town_1 17 rfl rfl)
theorem dX3_town_40 : decode cX3_town 40 = .ok (.getfield 21, 3) := dk_180 0 21 (dk_at dksX3_town_1 18 rfl rfl)
theorem dX3_town_43 : decode cX3_town 43 = .ok (.getstatic 71, 3) := dk_178 0 71 (dk_at dksX3_town_1 21 rfl rfl)
theorem dX3_town_46 : decode cX3_town 46 = .ok (.if_acmp .ne 7, 3) := dk_166 0 7 (dk_at dksX3_town_2 0 rfl rfl)
theorem dX3_town_49 : decode cX3_town 49 = .ok (.iconst 1, 1) := dk_4 (dk_at dksX3_town_2 3 rfl rfl)
theorem dX3_town_50 : decode cX3_town 50 = .ok (.goto 4, 3) := dk_167 0 4 (dk_at dksX3_town_2 4 rfl rfl)
theorem dX3_town_53 : decode cX3_town 53 = .ok (.iconst 0, 1) := dk_3 (dk_at dksX3_town_2 7 rfl rfl)
theorem dX3_town_54 : decode cX3_town 54 = .ok (.iconst 1, 1) := dk_4 (dk_at dksX3_town_2 8 rfl rfl)
theorem dX3_town_55 : decode cX3_town 55 = .ok (.invokevirtual 108, 3) := dk_182 0 108 (dk_at dksX3_town_2 9 rfl rfl)
theorem dX3_town_58 : decode cX3_town 58 = .ok (.aload_n 0, 1) := dk_42 (dk_at dksX3_town_2 12 rfl rfl)
theorem dX3_town_59 : decode cX3_town 59 = .ok (.aload_n 0, 1) := dk_42 (dk_at dksX3_town_2 13 rfl rfl)
theorem dX3_town_60 : decode cX3_town 60 = .ok (.getfield 115, 3) := dk_180 0 115 (dk_at dksX3_town_2 14 rfl rfl)
theorem dX3_town_63 : decode cX3_town 63 = .ok (.aload_n 0, 1) := dk_42 (dk_at dksX3_town_2 17 rfl rfl)
theorem dX3_town_64 : decode cX3_town 64 = .ok (.getfield 55, 3) := dk_180 0 55 (dk_at dksX3_town_2 18 rfl rfl)
theorem dX3_town_67 : decode cX3_town 67 = .ok (.invokevirtual 134, 3) := dk_182 0 134 (dk_at dksX3_town_2 21 rfl rfl)
theorem dX3_town_70 : decode cX3_town 70 = .ok (.iconst (-1), 1) := dk_2 (dk_at dksX3_town_3 0 rfl rfl)
theorem dX3_town_71 : decode cX3_town 71 = .ok (.if_icmp .ne 7, 3) := dk_160 0 7 (dk_at dksX3_town_3 1 rfl rfl)
theorem dX3_town_74 : decode cX3_town 74 = .ok (.iconst 1, 1) := dk_4 (dk_at dksX3_town_3 4 rfl rfl)
theorem dX3_town_75 : decode cX3_town 75 = .ok (.goto 4, 3) := dk_167 0 4 (dk_at dksX3_town_3 5 rfl rfl)
theorem dX3_town_78 : decode cX3_town 78 = .ok (.iconst 0, 1) := dk_3 (dk_at dksX3_town_3 8 rfl rfl)
theorem dX3_town_79 : decode cX3_town 79 = .ok (.iconst 3, 1) := dk_6 (dk_at dksX3_town_3 9 rfl rfl)
theorem dX3_town_80 : decode cX3_town 80 = .ok (.invokevirtual 108, 3) := dk_182 0 108 (dk_at dksX3_town_3 10 rfl rfl)
theorem dX3_town_83 : decode cX3_town 83 = .ok (.aload_n 0, 1) := dk_42 (dk_at dksX3_town_3 13 rfl rfl)
theorem dX3_town_84 : decode cX3_town 84 = .ok (.getfield 55, 3) := dk_180 0 55 (dk_at dksX3_town_3 14 rfl rfl)
theorem dX3_town_87 : decode cX3_town 87 = .ok (.istore_n 1, 1) := dk_60 (dk_at dksX3_town_3 17 rfl rfl)
theorem dX3_town_88 : decode cX3_town 88 = .ok (.aload_n 0, 1) := dk_42 (dk_at dksX3_town_3 18 rfl rfl)
theorem dX3_town_89 : decode cX3_town 89 = .ok (.invokevirtual 112, 3) := dk_182 0 112 (dk_at dksX3_town_3 19 rfl rfl)
theorem dX3_town_92 : decode cX3_town 92 = .ok (.aload_n 0, 1) := dk_42 (dk_at dksX3_town_3 22 rfl rfl)
theorem dX3_town_93 : decode cX3_town 93 = .ok (.getfield 115, 3) := dk_180 0 115 (dk_at dksX3_town_4 0 rfl rfl)
theorem dX3_town_96 : decode cX3_town 96 = .ok (.getfield 119, 3) := dk_180 0 119 (dk_at dksX3_town_4 3 rfl rfl)
theorem dX3_town_99 : decode cX3_town 99 = .ok (.new 137, 3) := dk_187 0 137 (dk_at dksX3_town_4 6 rfl rfl)
theorem dX3_town_102 : decode cX3_town 102 = .ok (.dup, 1) := dk_89 (dk_at dksX3_town_4 9 rfl rfl)
theorem dX3_town_103 : decode cX3_town 103 = .ok (.iload_n 1, 1) := dk_27 (dk_at dksX3_town_4 10 rfl rfl)
theorem dX3_town_104 : decode cX3_town 104 = .ok (.aload_n 0, 1) := dk_42 (dk_at dksX3_town_4 11 rfl rfl)
theorem dX3_town_105 : decode cX3_town 105 = .ok (.iconst 0, 1) := dk_3 (dk_at dksX3_town_4 12 rfl rfl)
theorem dX3_town_106 : decode cX3_town 106 = .ok (.iconst 5, 1) := dk_8 (dk_at dksX3_town_4 13 rfl rfl)
theorem dX3_town_107 : decode cX3_town 107 = .ok (.invokevirtual 139, 3) := dk_182 0 139 (dk_at dksX3_town_4 14 rfl rfl)
theorem dX3_town_110 : decode cX3_town 110 = .ok (.iload_n 1, 1) := dk_27 (dk_at dksX3_town_4 17 rfl rfl)
theorem dX3_town_111 : decode cX3_town 111 = .ok (.invokestatic 143, 3) := dk_184 0 143 (dk_at dksX3_town_4 18 rfl rfl)
theorem dX3_town_114 : decode cX3_town 114 = .ok (.invokespecial 146, 3) := dk_183 0 146 (dk_at dksX3_town_4 21 rfl rfl)
theorem dX3_town_117 : decode cX3_town 117 = .ok (.invokeinterface 149 2, 5) := by decide +kernel
theorem dX3_town_122 : decode cX3_town 122 = .ok (.pop, 1) := dk_87 (dk_at dksX3_town_5 5 rfl rfl)
theorem dX3_town_123 : decode cX3_town 123 = .ok (.return_, 1) := dk_177 (dk_at dksX3_town_5 6 rfl rfl)
abbrev cX3_letter : ByteArray := prog_6_method_10_code
def yX3_letter : MethodName := ⟨RX3, "letter", "()V"⟩
def dkwX3_letter_5 : List UInt8 := [182, 0, 139, 181, 0, 162, 42, 180, 0, 115, 180, 0, 153, 43, 185, 0, 149, 2, 0, 87, 177]
abbrev dktX3_letter_5 : List UInt8 := dkwX3_letter_5 ++ []
def dkwX3_letter_4 : List UInt8 := [96, 182, 0, 47, 16, 48, 100, 79, 132, 2, 1, 167, 255, 210, 42, 182, 0, 112, 43, 42, 3, 8]
abbrev dktX3_letter_4 : List UInt8 := dkwX3_letter_4 ++ dktX3_letter_5
def dkwX3_letter_3 : List UInt8 := [42, 180, 0, 65, 28, 96, 182, 0, 47, 16, 63, 160, 0, 7, 2, 167, 0, 16, 42, 42, 180, 0, 65, 28]
abbrev dktX3_letter_3 : List UInt8 := dkwX3_letter_3 ++ dktX3_letter_4
def dkwX3_letter_2 : List UInt8 := [182, 0, 108, 187, 0, 156, 89, 183, 0, 158, 76, 3, 61, 28, 8, 162, 0, 47, 43, 180, 0, 159, 28, 42]
abbrev dktX3_letter_2 : List UInt8 := dkwX3_letter_2 ++ dktX3_letter_3
def dkwX3_letter_1 : List UInt8 := [182, 0, 108, 42, 182, 0, 112, 42, 42, 180, 0, 21, 178, 0, 68, 166, 0, 7, 4, 167, 0, 4, 3, 4]
abbrev dktX3_letter_1 : List UInt8 := dkwX3_letter_1 ++ dktX3_letter_2
def dkwX3_letter_0 : List UInt8 := [42, 42, 180, 0, 115, 180, 0, 153, 185, 0, 125, 1, 0, 16, 24, 162, 0, 7, 4, 167, 0, 4, 3, 7]
abbrev dktX3_letter_0 : List UInt8 := dkwX3_letter_0 ++ dktX3_letter_1
theorem dksX3_letter_0 : cX3_letter.data.toList.drop 0 = dktX3_letter_0 := by decide +kernel
theorem dksX3_letter_1 : cX3_letter.data.toList.drop 24 = dktX3_letter_1 := dk_seg dksX3_letter_0 24 rfl rfl
theorem dksX3_letter_2 : cX3_letter.data.toList.drop 48 = dktX3_letter_2 := dk_seg dksX3_letter_1 24 rfl rfl
theorem dksX3_letter_3 : cX3_letter.data.toList.drop 72 = dktX3_letter_3 := dk_seg dksX3_letter_2 24 rfl rfl
theorem dksX3_letter_4 : cX3_letter.data.toList.drop 96 = dktX3_letter_4 := dk_seg dksX3_letter_3 24 rfl rfl
theorem dksX3_letter_5 : cX3_letter.data.toList.drop 118 = dktX3_letter_5 := dk_seg dksX3_letter_4 22 rfl rfl
theorem dX3_letter_0 : decode cX3_letter 0 = .ok (.aload_n 0, 1) := dk_42 (dk_at dksX3_letter_0 0 rfl rfl)
theorem dX3_letter_1 : decode cX3_letter 1 = .ok (.aload_n 0, 1) := dk_42 (dk_at dksX3_letter_0 1 rfl rfl)
theorem dX3_letter_2 : decode cX3_letter 2 = .ok (.getfield 115, 3) := dk_180 0 115 (dk_at dksX3_letter_0 2 rfl rfl)
theorem dX3_letter_5 : decode cX3_letter 5 = .ok (.getfield 153, 3) := dk_180 0 153 (dk_at dksX3_letter_0 5 rfl rfl)
theorem dX3_letter_8 : decode cX3_letter 8 = .ok (.invokeinterface 125 1, 5) := by decide +kernel
theorem dX3_letter_13 : decode cX3_letter 13 = .ok (.bipush 24, 2) := dk_16 24 (dk_at dksX3_letter_0 13 rfl rfl)
theorem dX3_letter_15 : decode cX3_letter 15 = .ok (.if_icmp .ge 7, 3) := dk_162 0 7 (dk_at dksX3_letter_0 15 rfl rfl)
theorem dX3_letter_18 : decode cX3_letter 18 = .ok (.iconst 1, 1) := dk_4 (dk_at dksX3_letter_0 18 rfl rfl)
theorem dX3_letter_19 : decode cX3_letter 19 = .ok (.goto 4, 3) := dk_167 0 4 (dk_at dksX3_letter_0 19 rfl rfl)
theorem dX3_letter_22 : decode cX3_letter 22 = .ok (.iconst 0, 1) := dk_3 (dk_at dksX3_letter_0 22 rfl rfl)
theorem dX3_letter_23 : decode cX3_letter 23 = .ok (.iconst 4, 1) := dk_7 (dk_at dksX3_letter_0 23 rfl rfl)
theorem dX3_letter_24 : decode cX3_letter 24 = .ok (.invokevirtual 108, 3) := dk_182 0 108 (dk_at dksX3_letter_1 0 rfl rfl)
theorem dX3_letter_27 : decode cX3_letter 27 = .ok (.aload_n 0, 1) := dk_42 (dk_at dksX3_letter_1 3 rfl rfl)
theorem dX3_letter_28 : decode cX3_letter 28 = .ok (.invokevirtual 112, 3) := dk_182 0 112 (dk_at dksX3_letter_1 4 rfl rfl)
theorem dX3_letter_31 : decode cX3_letter 31 = .ok (.aload_n 0, 1) := dk_42 (dk_at dksX3_letter_1 7 rfl rfl)
theorem dX3_letter_32 : decode cX3_letter 32 = .ok (.aload_n 0, 1) := dk_42 (dk_at dksX3_letter_1 8 rfl rfl)
theorem dX3_letter_33 : decode cX3_letter 33 = .ok (.getfield 21, 3) := dk_180 0 21 (dk_at dksX3_letter_1 9 rfl rfl)
theorem dX3_letter_36 : decode cX3_letter 36 = .ok (.getstatic 68, 3) := dk_178 0 68 (dk_at dksX3_letter_1 12 rfl rfl)
theorem dX3_letter_39 : decode cX3_letter 39 = .ok (.if_acmp .ne 7, 3) := dk_166 0 7 (dk_at dksX3_letter_1 15 rfl rfl)
theorem dX3_letter_42 : decode cX3_letter 42 = .ok (.iconst 1, 1) := dk_4 (dk_at dksX3_letter_1 18 rfl rfl)
theorem dX3_letter_43 : decode cX3_letter 43 = .ok (.goto 4, 3) := dk_167 0 4 (dk_at dksX3_letter_1 19 rfl rfl)
theorem dX3_letter_46 : decode cX3_letter 46 = .ok (.iconst 0, 1) := dk_3 (dk_at dksX3_letter_1 22 rfl rfl)
theorem dX3_letter_47 : decode cX3_letter 47 = .ok (.iconst 1, 1) := dk_4 (dk_at dksX3_letter_1 23 rfl rfl)
theorem dX3_letter_48 : decode cX3_letter 48 = .ok (.invokevirtual 108, 3) := dk_182 0 108 (dk_at dksX3_letter_2 0 rfl rfl)
theorem dX3_letter_51 : decode cX3_letter 51 = .ok (.new 156, 3) := dk_187 0 156 (dk_at dksX3_letter_2 3 rfl rfl)
theorem dX3_letter_54 : decode cX3_letter 54 = .ok (.dup, 1) := dk_89 (dk_at dksX3_letter_2 6 rfl rfl)
theorem dX3_letter_55 : decode cX3_letter 55 = .ok (.invokespecial 158, 3) := dk_183 0 158 (dk_at dksX3_letter_2 7 rfl rfl)
theorem dX3_letter_58 : decode cX3_letter 58 = .ok (.astore_n 1, 1) := dk_76 (dk_at dksX3_letter_2 10 rfl rfl)
theorem dX3_letter_59 : decode cX3_letter 59 = .ok (.iconst 0, 1) := dk_3 (dk_at dksX3_letter_2 11 rfl rfl)
theorem dX3_letter_60 : decode cX3_letter 60 = .ok (.istore_n 2, 1) := dk_61 (dk_at dksX3_letter_2 12 rfl rfl)
theorem dX3_letter_61 : decode cX3_letter 61 = .ok (.iload_n 2, 1) := dk_28 (dk_at dksX3_letter_2 13 rfl rfl)
theorem dX3_letter_62 : decode cX3_letter 62 = .ok (.iconst 5, 1) := dk_8 (dk_at dksX3_letter_2 14 rfl rfl)
theorem dX3_letter_63 : decode cX3_letter 63 = .ok (.if_icmp .ge 47, 3) := dk_162 0 47 (dk_at dksX3_letter_2 15 rfl rfl)
theorem dX3_letter_66 : decode cX3_letter 66 = .ok (.aload_n 1, 1) := dk_43 (dk_at dksX3_letter_2 18 rfl rfl)
theorem dX3_letter_67 : decode cX3_letter 67 = .ok (.getfield 159, 3) := dk_180 0 159 (dk_at dksX3_letter_2 19 rfl rfl)
theorem dX3_letter_70 : decode cX3_letter 70 = .ok (.iload_n 2, 1) := dk_28 (dk_at dksX3_letter_2 22 rfl rfl)
theorem dX3_letter_71 : decode cX3_letter 71 = .ok (.aload_n 0, 1) := dk_42 (dk_at dksX3_letter_2 23 rfl rfl)
theorem dX3_letter_72 : decode cX3_letter 72 = .ok (.aload_n 0, 1) := dk_42 (dk_at dksX3_letter_3 0 rfl rfl)
theorem dX3_letter_73 : decode cX3_letter 73 = .ok (.getfield 65, 3) := dk_180 0 65 (dk_at dksX3_letter_3 1 rfl rfl)
theorem dX3_letter_76 : decode cX3_letter 76 = .ok (.iload_n 2, 1) := dk_28 (dk_at dksX3_letter_3 4 rfl rfl)
theorem dX3_letter_77 : decode cX3_letter 77 = .ok (.iadd, 1) := dk_96 (dk_at dksX3_letter_3 5 rfl rfl)
theorem dX3_letter_78 : decode cX3_letter 78 = .ok (.invokevirtual 47, 3) := dk_182 0 47 (dk_at dksX3_letter_3 6 rfl rfl)
theorem dX3_letter_81 : decode cX3_letter 81 = .ok (.bipush 63, 2) := dk_16 63 (dk_at dksX3_letter_3 9 rfl rfl)
theorem dX3_letter_83 : decode cX3_letter 83 = .ok (.if_icmp .ne 7, 3) := dk_160 0 7 (dk_at dksX3_letter_3 11 rfl rfl)
theorem dX3_letter_86 : decode cX3_letter 86 = .ok (.iconst (-1), 1) := dk_2 (dk_at dksX3_letter_3 14 rfl rfl)
theorem dX3_letter_87 : decode cX3_letter 87 = .ok (.goto 16, 3) := dk_167 0 16 (dk_at dksX3_letter_3 15 rfl rfl)
theorem dX3_letter_90 : decode cX3_letter 90 = .ok (.aload_n 0, 1) := dk_42 (dk_at dksX3_letter_3 18 rfl rfl)
theorem dX3_letter_91 : decode cX3_letter 91 = .ok (.aload_n 0, 1) := dk_42 (dk_at dksX3_letter_3 19 rfl rfl)
theorem dX3_letter_92 : decode cX3_letter 92 = .ok (.getfield 65, 3) := dk_180 0 65 (dk_at dksX3_letter_3 20 rfl rfl)
theorem dX3_letter_95 : decode cX3_letter 95 = .ok (.iload_n 2, 1) := dk_28 (dk_at dksX3_letter_3 23 rfl rfl)
theorem dX3_letter_96 : decode cX3_letter 96 = .ok (.iadd, 1) := dk_96 (dk_at dksX3_letter_4 0 rfl rfl)
theorem dX3_letter_97 : decode cX3_letter 97 = .ok (.invokevirtual 47, 3) := dk_182 0 47 (dk_at dksX3_letter_4 1 rfl rfl)
theorem dX3_letter_100 : decode cX3_letter 100 = .ok (.bipush 48, 2) := dk_16 48 (dk_at dksX3_letter_4 4 rfl rfl)
theorem dX3_letter_102 : decode cX3_letter 102 = .ok (.isub, 1) := dk_100 (dk_at dksX3_letter_4 6 rfl rfl)
theorem dX3_letter_103 : decode cX3_letter 103 = .ok (.iastore, 1) := dk_79 (dk_at dksX3_letter_4 7 rfl rfl)
theorem dX3_letter_104 : decode cX3_letter 104 = .ok (.iinc 2 1, 3) := dk_132 2 1 (dk_at dksX3_letter_4 8 rfl rfl)
theorem dX3_letter_107 : decode cX3_letter 107 = .ok (.goto (-46), 3) := dk_167 255 210 (dk_at dksX3_letter_4 11 rfl rfl)
theorem dX3_letter_110 : decode cX3_letter 110 = .ok (.aload_n 0, 1) := dk_42 (dk_at dksX3_letter_4 14 rfl rfl)
theorem dX3_letter_111 : decode cX3_letter 111 = .ok (.invokevirtual 112, 3) := dk_182 0 112 (dk_at dksX3_letter_4 15 rfl rfl)
theorem dX3_letter_114 : decode cX3_letter 114 = .ok (.aload_n 1, 1) := dk_43 (dk_at dksX3_letter_4 18 rfl rfl)
theorem dX3_letter_115 : decode cX3_letter 115 = .ok (.aload_n 0, 1) := dk_42 (dk_at dksX3_letter_4 19 rfl rfl)
theorem dX3_letter_116 : decode cX3_letter 116 = .ok (.iconst 0, 1) := dk_3 (dk_at dksX3_letter_4 20 rfl rfl)
theorem dX3_letter_117 : decode cX3_letter 117 = .ok (.iconst 5, 1) := dk_8 (dk_at dksX3_letter_4 21 rfl rfl)
theorem dX3_letter_118 : decode cX3_letter 118 = .ok (.invokevirtual 139, 3) := dk_182 0 139 (dk_at dksX3_letter_5 0 rfl rfl)
theorem dX3_letter_121 : decode cX3_letter 121 = .ok (.putfield 162, 3) := dk_181 0 162 (dk_at dksX3_letter_5 3 rfl rfl)
theorem dX3_letter_124 : decode cX3_letter 124 = .ok (.aload_n 0, 1) := dk_42 (dk_at dksX3_letter_5 6 rfl rfl)
theorem dX3_letter_125 : decode cX3_letter 125 = .ok (.getfield 115, 3) := dk_180 0 115 (dk_at dksX3_letter_5 7 rfl rfl)
theorem dX3_letter_128 : decode cX3_letter 128 = .ok (.getfield 153, 3) := dk_180 0 153 (dk_at dksX3_letter_5 10 rfl rfl)
theorem dX3_letter_131 : decode cX3_letter 131 = .ok (.aload_n 1, 1) := dk_43 (dk_at dksX3_letter_5 13 rfl rfl)
theorem dX3_letter_132 : decode cX3_letter 132 = .ok (.invokeinterface 149 2, 5) := by decide +kernel
theorem dX3_letter_137 : decode cX3_letter 137 = .ok (.pop, 1) := dk_87 (dk_at dksX3_letter_5 19 rfl rfl)
theorem dX3_letter_138 : decode cX3_letter 138 = .ok (.return_, 1) := dk_177 (dk_at dksX3_letter_5 20 rfl rfl)
abbrev cX3_sum : ByteArray := prog_6_method_11_code
def yX3_sum : MethodName := ⟨RX3, "sum", "()V"⟩
def dkwX3_sum_1 : List UInt8 := [182, 0, 139, 79, 177]
abbrev dktX3_sum_1 : List UInt8 := dkwX3_sum_1 ++ []
def dkwX3_sum_0 : List UInt8 := [42, 182, 0, 112, 42, 3, 8, 182, 0, 139, 60, 42, 180, 0, 115, 180, 0, 165, 27, 42, 3, 16, 9]
abbrev dktX3_sum_0 : List UInt8 := dkwX3_sum_0 ++ dktX3_sum_1
theorem dksX3_sum_0 : cX3_sum.data.toList.drop 0 = dktX3_sum_0 := by decide +kernel
theorem dksX3_sum_1 : cX3_sum.data.toList.drop 23 = dktX3_sum_1 := dk_seg dksX3_sum_0 23 rfl rfl
theorem dX3_sum_0 : decode cX3_sum 0 = .ok (.aload_n 0, 1) := dk_42 (dk_at dksX3_sum_0 0 rfl rfl)
theorem dX3_sum_1 : decode cX3_sum 1 = .ok (.invokevirtual 112, 3) := dk_182 0 112 (dk_at dksX3_sum_0 1 rfl rfl)
theorem dX3_sum_4 : decode cX3_sum 4 = .ok (.aload_n 0, 1) := dk_42 (dk_at dksX3_sum_0 4 rfl rfl)
theorem dX3_sum_5 : decode cX3_sum 5 = .ok (.iconst 0, 1) := dk_3 (dk_at dksX3_sum_0 5 rfl rfl)
theorem dX3_sum_6 : decode cX3_sum 6 = .ok (.iconst 5, 1) := dk_8 (dk_at dksX3_sum_0 6 rfl rfl)
theorem dX3_sum_7 : decode cX3_sum 7 = .ok (.invokevirtual 139, 3) := dk_182 0 139 (dk_at dksX3_sum_0 7 rfl rfl)
theorem dX3_sum_10 : decode cX3_sum 10 = .ok (.istore_n 1, 1) := dk_60 (dk_at dksX3_sum_0 10 rfl rfl)
theorem dX3_sum_11 : decode cX3_sum 11 = .ok (.aload_n 0, 1) := dk_42 (dk_at dksX3_sum_0 11 rfl rfl)
theorem dX3_sum_12 : decode cX3_sum 12 = .ok (.getfield 115, 3) := dk_180 0 115 (dk_at dksX3_sum_0 12 rfl rfl)
theorem dX3_sum_15 : decode cX3_sum 15 = .ok (.getfield 165, 3) := dk_180 0 165 (dk_at dksX3_sum_0 15 rfl rfl)
theorem dX3_sum_18 : decode cX3_sum 18 = .ok (.iload_n 1, 1) := dk_27 (dk_at dksX3_sum_0 18 rfl rfl)
theorem dX3_sum_19 : decode cX3_sum 19 = .ok (.aload_n 0, 1) := dk_42 (dk_at dksX3_sum_0 19 rfl rfl)
theorem dX3_sum_20 : decode cX3_sum 20 = .ok (.iconst 0, 1) := dk_3 (dk_at dksX3_sum_0 20 rfl rfl)
theorem dX3_sum_21 : decode cX3_sum 21 = .ok (.bipush 9, 2) := dk_16 9 (dk_at dksX3_sum_0 21 rfl rfl)
theorem dX3_sum_23 : decode cX3_sum 23 = .ok (.invokevirtual 139, 3) := dk_182 0 139 (dk_at dksX3_sum_1 0 rfl rfl)
theorem dX3_sum_26 : decode cX3_sum 26 = .ok (.iastore, 1) := dk_79 (dk_at dksX3_sum_1 3 rfl rfl)
theorem dX3_sum_27 : decode cX3_sum 27 = .ok (.return_, 1) := dk_177 (dk_at dksX3_sum_1 4 rfl rfl)
abbrev cX3_close : ByteArray := prog_6_method_12_code
def yX3_close : MethodName := ⟨RX3, "close", "()V"⟩
def dkwX3_close_0 : List UInt8 := [42, 182, 0, 112, 42, 180, 0, 115, 180, 0, 168, 42, 3, 8, 182, 0, 139, 4, 84, 177]
abbrev dktX3_close_0 : List UInt8 := dkwX3_close_0 ++ []
theorem dksX3_close_0 : cX3_close.data.toList.drop 0 = dktX3_close_0 := by decide +kernel
theorem dX3_close_0 : decode cX3_close 0 = .ok (.aload_n 0, 1) := dk_42 (dk_at dksX3_close_0 0 rfl rfl)
theorem dX3_close_1 : decode cX3_close 1 = .ok (.invokevirtual 112, 3) := dk_182 0 112 (dk_at dksX3_close_0 1 rfl rfl)
theorem dX3_close_4 : decode cX3_close 4 = .ok (.aload_n 0, 1) := dk_42 (dk_at dksX3_close_0 4 rfl rfl)
theorem dX3_close_5 : decode cX3_close 5 = .ok (.getfield 115, 3) := dk_180 0 115 (dk_at dksX3_close_0 5 rfl rfl)
theorem dX3_close_8 : decode cX3_close 8 = .ok (.getfield 168, 3) := dk_180 0 168 (dk_at dksX3_close_0 8 rfl rfl)
theorem dX3_close_11 : decode cX3_close 11 = .ok (.aload_n 0, 1) := dk_42 (dk_at dksX3_close_0 11 rfl rfl)
theorem dX3_close_12 : decode cX3_close 12 = .ok (.iconst 0, 1) := dk_3 (dk_at dksX3_close_0 12 rfl rfl)
theorem dX3_close_13 : decode cX3_close 13 = .ok (.iconst 5, 1) := dk_8 (dk_at dksX3_close_0 13 rfl rfl)
theorem dX3_close_14 : decode cX3_close 14 = .ok (.invokevirtual 139, 3) := dk_182 0 139 (dk_at dksX3_close_0 14 rfl rfl)
theorem dX3_close_17 : decode cX3_close 17 = .ok (.iconst 1, 1) := dk_4 (dk_at dksX3_close_0 17 rfl rfl)
theorem dX3_close_18 : decode cX3_close 18 = .ok (.bastore, 1) := dk_84 (dk_at dksX3_close_0 18 rfl rfl)
theorem dX3_close_19 : decode cX3_close 19 = .ok (.return_, 1) := dk_177 (dk_at dksX3_close_0 19 rfl rfl)
abbrev cX3_sort : ByteArray := prog_6_method_13_code
def yX3_sort : MethodName := ⟨RX3, "sort", "()V"⟩
def dkwX3_sort_0 : List UInt8 := [42, 4, 181, 0, 130, 42, 180, 0, 115, 182, 0, 172, 60, 42, 182, 0, 112, 177]
abbrev dktX3_sort_0 : List UInt8 := dkwX3_sort_0 ++ []
theorem dksX3_sort_0 : cX3_sort.data.toList.drop 0 = dktX3_sort_0 := by decide +kernel
theorem dX3_sort_0 : decode cX3_sort 0 = .ok (.aload_n 0, 1) := dk_42 (dk_at dksX3_sort_0 0 rfl rfl)
theorem dX3_sort_1 : decode cX3_sort 1 = .ok (.iconst 1, 1) := dk_4 (dk_at dksX3_sort_0 1 rfl rfl)
theorem dX3_sort_2 : decode cX3_sort 2 = .ok (.putfield 130, 3) := dk_181 0 130 (dk_at dksX3_sort_0 2 rfl rfl)
theorem dX3_sort_5 : decode cX3_sort 5 = .ok (.aload_n 0, 1) := dk_42 (dk_at dksX3_sort_0 5 rfl rfl)
theorem dX3_sort_6 : decode cX3_sort 6 = .ok (.getfield 115, 3) := dk_180 0 115 (dk_at dksX3_sort_0 6 rfl rfl)
theorem dX3_sort_9 : decode cX3_sort 9 = .ok (.invokevirtual 172, 3) := dk_182 0 172 (dk_at dksX3_sort_0 9 rfl rfl)
theorem dX3_sort_12 : decode cX3_sort 12 = .ok (.istore_n 1, 1) := dk_60 (dk_at dksX3_sort_0 12 rfl rfl)
theorem dX3_sort_13 : decode cX3_sort 13 = .ok (.aload_n 0, 1) := dk_42 (dk_at dksX3_sort_0 13 rfl rfl)
theorem dX3_sort_14 : decode cX3_sort 14 = .ok (.invokevirtual 112, 3) := dk_182 0 112 (dk_at dksX3_sort_0 14 rfl rfl)
theorem dX3_sort_17 : decode cX3_sort 17 = .ok (.return_, 1) := dk_177 (dk_at dksX3_sort_0 17 rfl rfl)
theorem q124 : (Jvm.Cond.initialized "BadCodes$Parser") ∈ lw_all := lw_g (lw_at lw_m1 13 rfl) rfl
theorem q212 : (Jvm.Cond.fieldLinkNest "BadCodes$Parser" (43 : Nat) "BadCodes" "buffer" "[B" "BadCodes") ∈ lw_tbl := lw_at lw_m1 101 rfl
theorem q214 : (Jvm.Cond.fieldLinkNest "BadCodes$Parser" (34 : Nat) "BadCodes" "buffered" "I" "BadCodes") ∈ lw_tbl := lw_at lw_m1 103 rfl
theorem q216 : (Jvm.Cond.fieldLinkNest "BadCodes$Parser" (37 : Nat) "BadCodes" "parseError" "I" "BadCodes") ∈ lw_tbl := lw_at lw_m1 105 rfl
theorem q218 : (Jvm.Cond.fieldLinkNest "BadCodes$Parser" (40 : Nat) "BadCodes" "errorPosition" "I" "BadCodes") ∈ lw_tbl := lw_at lw_m1 107 rfl
theorem q399 : (Jvm.Cond.instantiable "BadCodes$Parser" (9 : Nat)) ∈ lw_all := lw_g (lw_at lw_m2 48 rfl) rfl
theorem q401 : (Jvm.Cond.instanceMethod ({ cls := "BadCodes$Parser", name := "<init>", desc := "(LBadCodes;I)V" } : Jvm.MethodName)) ∈ lw_all := lw_g (lw_at lw_m2 50 rfl) rfl
theorem q402 : (Jvm.Cond.code ({ cls := "BadCodes$Parser", name := "<init>", desc := "(LBadCodes;I)V" } : Jvm.MethodName) prog_6_method_1_code (3 : Nat) (Option.none : Option Jvm.ClassFile.FieldType)) ∈ lw_all := lw_g (lw_at lw_m2 51 rfl) rfl
theorem q403 : (Jvm.Cond.methodLink "BadCodes$Parser" (9 : Nat) ({ cls := "java/lang/Object", name := "<init>", desc := "()V" } : Jvm.MethodName)) ∈ lw_all := lw_g (lw_at lw_m2 52 rfl) rfl
theorem q404 : (Jvm.Cond.fieldLink "BadCodes$Parser" (15 : Nat) "BadCodes$Token" "INVALID" "LBadCodes$Token;") ∈ lw_all := lw_g (lw_at lw_m2 53 rfl) rfl
theorem q406 : (Jvm.Cond.stringRef "BadCodes$Parser" (24 : Nat) "") ∈ lw_tbl := lw_at lw_m2 55 rfl
theorem q407 : (Jvm.Cond.fieldLink "BadCodes$Parser" (30 : Nat) "BadCodes$Parser" "size" "I") ∈ lw_all := lw_g (lw_at lw_m2 56 rfl) rfl
theorem q408 : (Jvm.Cond.fieldLink "BadCodes$Parser" (65 : Nat) "BadCodes$Parser" "from" "I") ∈ lw_all := lw_g (lw_at lw_m2 57 rfl) rfl
theorem q409 : (Jvm.Cond.fieldLink "BadCodes$Parser" (58 : Nat) "BadCodes$Parser" "to" "I") ∈ lw_all := lw_g (lw_at lw_m2 58 rfl) rfl
theorem q410 : (Jvm.Cond.fieldLink "BadCodes$Parser" (55 : Nat) "BadCodes$Parser" "value" "I") ∈ lw_all := lw_g (lw_at lw_m2 59 rfl) rfl
theorem q411 : (Jvm.Cond.fieldLink "BadCodes$Parser" (21 : Nat) "BadCodes$Parser" "token" "LBadCodes$Token;") ∈ lw_all := lw_g (lw_at lw_m2 60 rfl) rfl
theorem q412 : (Jvm.Cond.fieldLink "BadCodes$Parser" (26 : Nat) "BadCodes$Parser" "word" "Ljava/lang/String;") ∈ lw_all := lw_g (lw_at lw_m2 61 rfl) rfl
theorem q413 : (Jvm.Cond.fieldLink "BadCodes$Parser" (130 : Nat) "BadCodes$Parser" "wasSorted" "Z") ∈ lw_all := lw_g (lw_at lw_m2 62 rfl) rfl
theorem q414 : (Jvm.Cond.fieldLink "BadCodes$Parser" (115 : Nat) "BadCodes$Parser" "read" "LBadCodes$Office;") ∈ lw_all := lw_g (lw_at lw_m2 63 rfl) rfl
theorem q415 : (Jvm.Cond.fieldLink "BadCodes$Parser" (3 : Nat) "BadCodes$Parser" "this$0" "LBadCodes;") ∈ lw_all := lw_g (lw_at lw_m2 64 rfl) rfl
theorem q416 : (Jvm.Cond.laysFinal "BadCodes$Parser" "BadCodes$Parser" "size" "I") ∈ lw_all := lw_g (lw_at lw_m2 65 rfl) rfl
theorem q417 : (Jvm.Cond.soleField "BadCodes$Parser" "size") ∈ lw_all := lw_g (lw_at lw_m2 66 rfl) rfl
theorem q418 : (Jvm.Cond.lays "BadCodes$Parser" "BadCodes$Parser" "from" "I") ∈ lw_all := lw_g (lw_at lw_m2 67 rfl) rfl
theorem q419 : (Jvm.Cond.soleField "BadCodes$Parser" "from") ∈ lw_all := lw_g (lw_at lw_m2 68 rfl) rfl
theorem q420 : (Jvm.Cond.lays "BadCodes$Parser" "BadCodes$Parser" "to" "I") ∈ lw_all := lw_g (lw_at lw_m2 69 rfl) rfl
theorem q421 : (Jvm.Cond.soleField "BadCodes$Parser" "to") ∈ lw_all := lw_g (lw_at lw_m2 70 rfl) rfl
theorem q422 : (Jvm.Cond.lays "BadCodes$Parser" "BadCodes$Parser" "value" "I") ∈ lw_all := lw_g (lw_at lw_m2 71 rfl) rfl
theorem q423 : (Jvm.Cond.soleField "BadCodes$Parser" "value") ∈ lw_all := lw_g (lw_at lw_m2 72 rfl) rfl
theorem q424 : (Jvm.Cond.lays "BadCodes$Parser" "BadCodes$Parser" "token" "LBadCodes$Token;") ∈ lw_all := lw_g (lw_at lw_m2 73 rfl) rfl
theorem q425 : (Jvm.Cond.soleField "BadCodes$Parser" "token") ∈ lw_all := lw_g (lw_at lw_m2 74 rfl) rfl
theorem q426 : (Jvm.Cond.lays "BadCodes$Parser" "BadCodes$Parser" "word" "Ljava/lang/String;") ∈ lw_all := lw_g (lw_at lw_m2 75 rfl) rfl
theorem q427 : (Jvm.Cond.soleField "BadCodes$Parser" "word") ∈ lw_all := lw_g (lw_at lw_m2 76 rfl) rfl
theorem q428 : (Jvm.Cond.lays "BadCodes$Parser" "BadCodes$Parser" "wasSorted" "Z") ∈ lw_all := lw_g (lw_at lw_m2 77 rfl) rfl
theorem q429 : (Jvm.Cond.soleField "BadCodes$Parser" "wasSorted") ∈ lw_all := lw_g (lw_at lw_m2 78 rfl) rfl
theorem q430 : (Jvm.Cond.lays "BadCodes$Parser" "BadCodes$Parser" "read" "LBadCodes$Office;") ∈ lw_all := lw_g (lw_at lw_m2 79 rfl) rfl
theorem q431 : (Jvm.Cond.soleField "BadCodes$Parser" "read") ∈ lw_all := lw_g (lw_at lw_m2 80 rfl) rfl
theorem q432 : (Jvm.Cond.laysFinal "BadCodes$Parser" "BadCodes$Parser" "this$0" "LBadCodes;") ∈ lw_all := lw_g (lw_at lw_m2 81 rfl) rfl
theorem q433 : (Jvm.Cond.soleField "BadCodes$Parser" "this$0") ∈ lw_all := lw_g (lw_at lw_m2 82 rfl) rfl
theorem q434 : (Jvm.Cond.superclass "BadCodes$Parser" "java/lang/Object") ∈ lw_all := lw_g (lw_at lw_m2 83 rfl) rfl
theorem q436 : (Jvm.Cond.instanceMethod ({ cls := "BadCodes$Parser", name := "office", desc := "()LBadCodes$Office;" } : Jvm.MethodName)) ∈ lw_all := lw_g (lw_at lw_m2 85 rfl) rfl
theorem q437 : (Jvm.Cond.selects "BadCodes$Parser" ({ cls := "BadCodes$Parser", name := "office", desc := "()LBadCodes$Office;" } : Jvm.MethodName) ({ cls := "BadCodes$Parser", name := "office", desc := "()LBadCodes$Office;" } : Jvm.MethodName)) ∈ lw_all := lw_g (lw_at lw_m2 86 rfl) rfl
theorem q438 : (Jvm.Cond.code ({ cls := "BadCodes$Parser", name := "office", desc := "()LBadCodes$Office;" } : Jvm.MethodName) prog_6_method_15_code (2 : Nat) (Option.some (Jvm.ClassFile.FieldType.object "BadCodes$Office"))) ∈ lw_all := lw_g (lw_at lw_m2 87 rfl) rfl
theorem q439 : (Jvm.Cond.methodLink "BadCodes$Parser" (112 : Nat) ({ cls := "BadCodes$Parser", name := "advance", desc := "()V" } : Jvm.MethodName)) ∈ lw_all := lw_g (lw_at lw_m2 88 rfl) rfl
theorem q440 : (Jvm.Cond.privateMethod ({ cls := "BadCodes$Parser", name := "advance", desc := "()V" } : Jvm.MethodName)) ∈ lw_tbl := lw_at lw_m2 89 rfl
theorem q441 : (Jvm.Cond.instanceMethod ({ cls := "BadCodes$Parser", name := "advance", desc := "()V" } : Jvm.MethodName)) ∈ lw_all := lw_g (lw_at lw_m2 90 rfl) rfl
theorem q442 : (Jvm.Cond.code ({ cls := "BadCodes$Parser", name := "advance", desc := "()V" } : Jvm.MethodName) prog_6_method_6_code (1 : Nat) (Option.none : Option Jvm.ClassFile.FieldType)) ∈ lw_all := lw_g (lw_at lw_m2 91 rfl) rfl
theorem q443 : (Jvm.Cond.methodLink "BadCodes$Parser" (47 : Nat) ({ cls := "BadCodes$Parser", name := "byteAt", desc := "(I)I" } : Jvm.MethodName)) ∈ lw_all := lw_g (lw_at lw_m2 92 rfl) rfl
theorem q444 : (Jvm.Cond.privateMethod ({ cls := "BadCodes$Parser", name := "byteAt", desc := "(I)I" } : Jvm.MethodName)) ∈ lw_tbl := lw_at lw_m2 93 rfl
theorem q445 : (Jvm.Cond.instanceMethod ({ cls := "BadCodes$Parser", name := "byteAt", desc := "(I)I" } : Jvm.MethodName)) ∈ lw_all := lw_g (lw_at lw_m2 94 rfl) rfl
theorem q446 : (Jvm.Cond.code ({ cls := "BadCodes$Parser", name := "byteAt", desc := "(I)I" } : Jvm.MethodName) prog_6_method_2_code (2 : Nat) (Option.some Jvm.ClassFile.FieldType.int)) ∈ lw_all := lw_g (lw_at lw_m2 95 rfl) rfl
theorem q447 : (Jvm.Cond.methodLink "BadCodes$Parser" (100 : Nat) ({ cls := "BadCodes$Parser", name := "scan", desc := "()LBadCodes$Token;" } : Jvm.MethodName)) ∈ lw_all := lw_g (lw_at lw_m2 96 rfl) rfl
theorem q448 : (Jvm.Cond.privateMethod ({ cls := "BadCodes$Parser", name := "scan", desc := "()LBadCodes$Token;" } : Jvm.MethodName)) ∈ lw_tbl := lw_at lw_m2 97 rfl
theorem q449 : (Jvm.Cond.instanceMethod ({ cls := "BadCodes$Parser", name := "scan", desc := "()LBadCodes$Token;" } : Jvm.MethodName)) ∈ lw_all := lw_g (lw_at lw_m2 98 rfl) rfl
theorem q450 : (Jvm.Cond.code ({ cls := "BadCodes$Parser", name := "scan", desc := "()LBadCodes$Token;" } : Jvm.MethodName) prog_6_method_5_code (3 : Nat) (Option.some (Jvm.ClassFile.FieldType.object "BadCodes$Token"))) ∈ lw_all := lw_g (lw_at lw_m2 99 rfl) rfl
theorem q451 : (Jvm.Cond.fieldLink "BadCodes$Parser" (74 : Nat) "BadCodes$Token" "END" "LBadCodes$Token;") ∈ lw_all := lw_g (lw_at lw_m2 100 rfl) rfl
theorem q453 : (Jvm.Cond.methodLinkNest "BadCodes$Parser" (51 : Nat) ({ cls := "BadCodes", name := "in", desc := "(III)Z" } : Jvm.MethodName) "BadCodes") ∈ lw_tbl := lw_at lw_m2 102 rfl
theorem q454 : (Jvm.Cond.classLink "BadCodes$Parser" (77 : Nat) "java/lang/StringBuilder") ∈ lw_all := lw_g (lw_at lw_m2 103 rfl) rfl
theorem q456 : (Jvm.Cond.methodLink "BadCodes$Parser" (79 : Nat) ({ cls := "java/lang/StringBuilder", name := "<init>", desc := "(I)V" } : Jvm.MethodName)) ∈ lw_all := lw_g (lw_at lw_m2 105 rfl) rfl
theorem q485 : (Jvm.Cond.methodLink "BadCodes$Parser" (82 : Nat) ({ cls := "java/lang/StringBuilder", name := "append", desc := "(C)Ljava/lang/StringBuilder;" } : Jvm.MethodName)) ∈ lw_all := lw_g (lw_at lw_m2 134 rfl) rfl
theorem q578 : (Jvm.Cond.methodLink "BadCodes$Parser" (86 : Nat) ({ cls := "java/lang/StringBuilder", name := "toString", desc := "()Ljava/lang/String;" } : Jvm.MethodName)) ∈ lw_all := lw_g (lw_at lw_m2 227 rfl) rfl
theorem q728 : (Jvm.Cond.fieldLink "BadCodes$Parser" (90 : Nat) "BadCodes$Token" "WORD" "LBadCodes$Token;") ∈ lw_all := lw_g (lw_at lw_m3 137 rfl) rfl
theorem q730 : (Jvm.Cond.methodLink "BadCodes$Parser" (61 : Nat) ({ cls := "BadCodes$Parser", name := "isRun", desc := "(I)Z" } : Jvm.MethodName)) ∈ lw_all := lw_g (lw_at lw_m3 139 rfl) rfl
theorem q731 : (Jvm.Cond.privateMethod ({ cls := "BadCodes$Parser", name := "isRun", desc := "(I)Z" } : Jvm.MethodName)) ∈ lw_tbl := lw_at lw_m3 140 rfl
theorem q732 : (Jvm.Cond.instanceMethod ({ cls := "BadCodes$Parser", name := "isRun", desc := "(I)Z" } : Jvm.MethodName)) ∈ lw_all := lw_g (lw_at lw_m3 141 rfl) rfl
theorem q733 : (Jvm.Cond.code ({ cls := "BadCodes$Parser", name := "isRun", desc := "(I)Z" } : Jvm.MethodName) prog_6_method_3_code (2 : Nat) (Option.some Jvm.ClassFile.FieldType.boolean)) ∈ lw_all := lw_g (lw_at lw_m3 142 rfl) rfl
theorem q734 : (Jvm.Cond.methodLink "BadCodes$Parser" (93 : Nat) ({ cls := "BadCodes$Parser", name := "scanRun", desc := "()LBadCodes$Token;" } : Jvm.MethodName)) ∈ lw_all := lw_g (lw_at lw_m3 143 rfl) rfl
theorem q735 : (Jvm.Cond.privateMethod ({ cls := "BadCodes$Parser", name := "scanRun", desc := "()LBadCodes$Token;" } : Jvm.MethodName)) ∈ lw_tbl := lw_at lw_m3 144 rfl
theorem q736 : (Jvm.Cond.instanceMethod ({ cls := "BadCodes$Parser", name := "scanRun", desc := "()LBadCodes$Token;" } : Jvm.MethodName)) ∈ lw_all := lw_g (lw_at lw_m3 145 rfl) rfl
theorem q737 : (Jvm.Cond.code ({ cls := "BadCodes$Parser", name := "scanRun", desc := "()LBadCodes$Token;" } : Jvm.MethodName) prog_6_method_4_code (2 : Nat) (Option.some (Jvm.ClassFile.FieldType.object "BadCodes$Token"))) ∈ lw_all := lw_g (lw_at lw_m3 146 rfl) rfl
theorem q738 : (Jvm.Cond.fieldLink "BadCodes$Parser" (68 : Nat) "BadCodes$Token" "READING" "LBadCodes$Token;") ∈ lw_all := lw_g (lw_at lw_m3 147 rfl) rfl
theorem q740 : (Jvm.Cond.fieldLink "BadCodes$Parser" (71 : Nat) "BadCodes$Token" "NUMBER" "LBadCodes$Token;") ∈ lw_all := lw_g (lw_at lw_m3 149 rfl) rfl
theorem q742 : (Jvm.Cond.fieldLink "BadCodes$Parser" (97 : Nat) "BadCodes$Token" "LINE_END" "LBadCodes$Token;") ∈ lw_all := lw_g (lw_at lw_m3 151 rfl) rfl
theorem q744 : (Jvm.Cond.stringRef "BadCodes$Parser" (203 : Nat) "office") ∈ lw_tbl := lw_at lw_m3 153 rfl
theorem q745 : (Jvm.Cond.methodLink "BadCodes$Parser" (182 : Nat) ({ cls := "java/lang/String", name := "equals", desc := "(Ljava/lang/Object;)Z" } : Jvm.MethodName)) ∈ lw_all := lw_g (lw_at lw_m3 154 rfl) rfl
theorem q753 : (Jvm.Cond.methodLink "BadCodes$Parser" (108 : Nat) ({ cls := "BadCodes$Parser", name := "require", desc := "(ZI)V" } : Jvm.MethodName)) ∈ lw_all := lw_g (lw_at lw_m3 162 rfl) rfl
theorem q754 : (Jvm.Cond.privateMethod ({ cls := "BadCodes$Parser", name := "require", desc := "(ZI)V" } : Jvm.MethodName)) ∈ lw_tbl := lw_at lw_m3 163 rfl
theorem q755 : (Jvm.Cond.instanceMethod ({ cls := "BadCodes$Parser", name := "require", desc := "(ZI)V" } : Jvm.MethodName)) ∈ lw_all := lw_g (lw_at lw_m3 164 rfl) rfl
theorem q756 : (Jvm.Cond.code ({ cls := "BadCodes$Parser", name := "require", desc := "(ZI)V" } : Jvm.MethodName) prog_6_method_7_code (3 : Nat) (Option.none : Option Jvm.ClassFile.FieldType)) ∈ lw_all := lw_g (lw_at lw_m3 165 rfl) rfl
theorem q757 : (Jvm.Cond.classLink "BadCodes$Parser" (103 : Nat) "BadCodes$FormatException") ∈ lw_all := lw_g (lw_at lw_m3 166 rfl) rfl
theorem q766 : (Jvm.Cond.methodLink "BadCodes$Parser" (105 : Nat) ({ cls := "BadCodes$FormatException", name := "<init>", desc := "(II)V" } : Jvm.MethodName)) ∈ lw_all := lw_g (lw_at lw_m3 175 rfl) rfl
theorem q785 : (Jvm.Cond.methodLink "BadCodes$Parser" (139 : Nat) ({ cls := "BadCodes$Parser", name := "number", desc := "(II)I" } : Jvm.MethodName)) ∈ lw_all := lw_g (lw_at lw_m3 194 rfl) rfl
theorem q786 : (Jvm.Cond.privateMethod ({ cls := "BadCodes$Parser", name := "number", desc := "(II)I" } : Jvm.MethodName)) ∈ lw_tbl := lw_at lw_m3 195 rfl
theorem q787 : (Jvm.Cond.instanceMethod ({ cls := "BadCodes$Parser", name := "number", desc := "(II)I" } : Jvm.MethodName)) ∈ lw_all := lw_g (lw_at lw_m3 196 rfl) rfl
theorem q788 : (Jvm.Cond.code ({ cls := "BadCodes$Parser", name := "number", desc := "(II)I" } : Jvm.MethodName) prog_6_method_8_code (4 : Nat) (Option.some Jvm.ClassFile.FieldType.int)) ∈ lw_all := lw_g (lw_at lw_m3 197 rfl) rfl
theorem q789 : (Jvm.Cond.classLink "BadCodes$Parser" (120 : Nat) "BadCodes$Office") ∈ lw_all := lw_g (lw_at lw_m3 198 rfl) rfl
theorem q791 : (Jvm.Cond.methodLink "BadCodes$Parser" (205 : Nat) ({ cls := "BadCodes$Office", name := "<init>", desc := "(II)V" } : Jvm.MethodName)) ∈ lw_all := lw_g (lw_at lw_m3 200 rfl) rfl
theorem q831 : (Jvm.Cond.fieldLinkNest "BadCodes$Parser" (119 : Nat) "BadCodes$Office" "towns" "Ljava/util/List;" "BadCodes") ∈ lw_tbl := lw_at lw_m4 0 rfl
theorem q834 : (Jvm.Cond.fieldLinkNest "BadCodes$Parser" (153 : Nat) "BadCodes$Office" "letters" "Ljava/util/List;" "BadCodes") ∈ lw_tbl := lw_at lw_m4 3 rfl
theorem q837 : (Jvm.Cond.fieldLinkNest "BadCodes$Parser" (165 : Nat) "BadCodes$Office" "sums" "[I" "BadCodes") ∈ lw_tbl := lw_at lw_m4 6 rfl
theorem q846 : (Jvm.Cond.fieldLinkNest "BadCodes$Parser" (168 : Nat) "BadCodes$Office" "isClosed" "[Z" "BadCodes") ∈ lw_tbl := lw_at lw_m4 15 rfl
theorem q876 : (Jvm.Cond.methodLink "BadCodes$Parser" (206 : Nat) ({ cls := "BadCodes$Parser", name := "line", desc := "()V" } : Jvm.MethodName)) ∈ lw_all := lw_g (lw_at lw_m4 45 rfl) rfl
theorem q877 : (Jvm.Cond.privateMethod ({ cls := "BadCodes$Parser", name := "line", desc := "()V" } : Jvm.MethodName)) ∈ lw_tbl := lw_at lw_m4 46 rfl
theorem q878 : (Jvm.Cond.instanceMethod ({ cls := "BadCodes$Parser", name := "line", desc := "()V" } : Jvm.MethodName)) ∈ lw_all := lw_g (lw_at lw_m4 47 rfl) rfl
theorem q879 : (Jvm.Cond.code ({ cls := "BadCodes$Parser", name := "line", desc := "()V" } : Jvm.MethodName) prog_6_method_14_code (3 : Nat) (Option.none : Option Jvm.ClassFile.FieldType)) ∈ lw_all := lw_g (lw_at lw_m4 48 rfl) rfl
theorem q880 : (Jvm.Cond.methodLink "BadCodes$Parser" (175 : Nat) ({ cls := "java/lang/String", name := "hashCode", desc := "()I" } : Jvm.MethodName)) ∈ lw_all := lw_g (lw_at lw_m4 49 rfl) rfl
theorem q941 : (Jvm.Cond.stringRef "BadCodes$Parser" (180 : Nat) "town") ∈ lw_tbl := lw_at lw_m4 110 rfl
theorem q942 : (Jvm.Cond.stringRef "BadCodes$Parser" (185 : Nat) "letter") ∈ lw_tbl := lw_at lw_m4 111 rfl
theorem q943 : (Jvm.Cond.stringRef "BadCodes$Parser" (187 : Nat) "sum") ∈ lw_tbl := lw_at lw_m4 112 rfl
theorem q944 : (Jvm.Cond.stringRef "BadCodes$Parser" (189 : Nat) "close") ∈ lw_tbl := lw_at lw_m4 113 rfl
theorem q945 : (Jvm.Cond.stringRef "BadCodes$Parser" (191 : Nat) "sort") ∈ lw_tbl := lw_at lw_m4 114 rfl
theorem q946 : (Jvm.Cond.methodLink "BadCodes$Parser" (193 : Nat) ({ cls := "BadCodes$Parser", name := "town", desc := "()V" } : Jvm.MethodName)) ∈ lw_all := lw_g (lw_at lw_m4 115 rfl) rfl
theorem q947 : (Jvm.Cond.privateMethod ({ cls := "BadCodes$Parser", name := "town", desc := "()V" } : Jvm.MethodName)) ∈ lw_tbl := lw_at lw_m4 116 rfl
theorem q948 : (Jvm.Cond.instanceMethod ({ cls := "BadCodes$Parser", name := "town", desc := "()V" } : Jvm.MethodName)) ∈ lw_all := lw_g (lw_at lw_m4 117 rfl) rfl
theorem q949 : (Jvm.Cond.code ({ cls := "BadCodes$Parser", name := "town", desc := "()V" } : Jvm.MethodName) prog_6_method_9_code (2 : Nat) (Option.none : Option Jvm.ClassFile.FieldType)) ∈ lw_all := lw_g (lw_at lw_m4 118 rfl) rfl
theorem q950 : (Jvm.Cond.interfaceEntry "BadCodes$Parser" (125 : Nat)) ∈ lw_tbl := lw_at lw_m4 119 rfl
theorem q951 : (Jvm.Cond.methodLink "BadCodes$Parser" (125 : Nat) ({ cls := "java/util/List", name := "size", desc := "()I" } : Jvm.MethodName)) ∈ lw_all := lw_g (lw_at lw_m4 120 rfl) rfl
theorem q959 : (Jvm.Cond.methodLink "BadCodes$Parser" (134 : Nat) ({ cls := "BadCodes$Office", name := "townWith", desc := "(I)I" } : Jvm.MethodName)) ∈ lw_all := lw_g (lw_at lw_m4 128 rfl) rfl
theorem q974 : (Jvm.Cond.classLink "BadCodes$Parser" (137 : Nat) "BadCodes$Town") ∈ lw_all := lw_g (lw_at lw_m4 143 rfl) rfl
theorem q976 : (Jvm.Cond.methodLinkNest "BadCodes$Parser" (143 : Nat) ({ cls := "BadCodes", name := "check", desc := "(I)I" } : Jvm.MethodName) "BadCodes") ∈ lw_tbl := lw_at lw_m4 145 rfl
theorem q985 : (Jvm.Cond.methodLinkNest "BadCodes$Parser" (146 : Nat) ({ cls := "BadCodes$Town", name := "<init>", desc := "(III)V" } : Jvm.MethodName) "BadCodes") ∈ lw_tbl := lw_at lw_m4 154 rfl
theorem q1002 : (Jvm.Cond.interfaceEntry "BadCodes$Parser" (149 : Nat)) ∈ lw_tbl := lw_at lw_m4 171 rfl
theorem q1003 : (Jvm.Cond.methodLink "BadCodes$Parser" (149 : Nat) ({ cls := "java/util/List", name := "add", desc := "(Ljava/lang/Object;)Z" } : Jvm.MethodName)) ∈ lw_all := lw_g (lw_at lw_m4 172 rfl) rfl
theorem q1037 : (Jvm.Cond.selects "BadCodes$Parser" ({ cls := "java/lang/Object", name := "getClass", desc := "()Ljava/lang/Class;" } : Jvm.MethodName) ({ cls := "java/lang/Object", name := "getClass", desc := "()Ljava/lang/Class;" } : Jvm.MethodName)) ∈ lw_all := lw_g (lw_at lw_m4 206 rfl) rfl
theorem q1059 : (Jvm.Cond.methodLink "BadCodes$Parser" (195 : Nat) ({ cls := "BadCodes$Parser", name := "letter", desc := "()V" } : Jvm.MethodName)) ∈ lw_all := lw_g (lw_at lw_m4 228 rfl) rfl
theorem q1060 : (Jvm.Cond.privateMethod ({ cls := "BadCodes$Parser", name := "letter", desc := "()V" } : Jvm.MethodName)) ∈ lw_tbl := lw_at lw_m4 229 rfl
theorem q1061 : (Jvm.Cond.instanceMethod ({ cls := "BadCodes$Parser", name := "letter", desc := "()V" } : Jvm.MethodName)) ∈ lw_all := lw_g (lw_at lw_m4 230 rfl) rfl
theorem q1062 : (Jvm.Cond.code ({ cls := "BadCodes$Parser", name := "letter", desc := "()V" } : Jvm.MethodName) prog_6_method_10_code (3 : Nat) (Option.none : Option Jvm.ClassFile.FieldType)) ∈ lw_all := lw_g (lw_at lw_m4 231 rfl) rfl
theorem q1063 : (Jvm.Cond.classLink "BadCodes$Parser" (156 : Nat) "BadCodes$Letter") ∈ lw_all := lw_g (lw_at lw_m4 232 rfl) rfl
theorem q1065 : (Jvm.Cond.methodLinkNest "BadCodes$Parser" (158 : Nat) ({ cls := "BadCodes$Letter", name := "<init>", desc := "()V" } : Jvm.MethodName) "BadCodes") ∈ lw_tbl := lw_at lw_m4 234 rfl
theorem q1070 : (Jvm.Cond.fieldLinkNest "BadCodes$Parser" (159 : Nat) "BadCodes$Letter" "read" "[I" "BadCodes") ∈ lw_tbl := lw_at lw_m4 239 rfl
theorem q1074 : (Jvm.Cond.fieldLinkNest "BadCodes$Parser" (162 : Nat) "BadCodes$Letter" "bundle" "I" "BadCodes") ∈ lw_tbl := lw_at lw_m5 3 rfl
theorem q1102 : (Jvm.Cond.methodLink "BadCodes$Parser" (197 : Nat) ({ cls := "BadCodes$Parser", name := "sum", desc := "()V" } : Jvm.MethodName)) ∈ lw_all := lw_g (lw_at lw_m5 31 rfl) rfl
theorem q1103 : (Jvm.Cond.privateMethod ({ cls := "BadCodes$Parser", name := "sum", desc := "()V" } : Jvm.MethodName)) ∈ lw_tbl := lw_at lw_m5 32 rfl
theorem q1104 : (Jvm.Cond.instanceMethod ({ cls := "BadCodes$Parser", name := "sum", desc := "()V" } : Jvm.MethodName)) ∈ lw_all := lw_g (lw_at lw_m5 33 rfl) rfl
theorem q1105 : (Jvm.Cond.code ({ cls := "BadCodes$Parser", name := "sum", desc := "()V" } : Jvm.MethodName) prog_6_method_11_code (2 : Nat) (Option.none : Option Jvm.ClassFile.FieldType)) ∈ lw_all := lw_g (lw_at lw_m5 34 rfl) rfl
theorem q1106 : (Jvm.Cond.methodLink "BadCodes$Parser" (199 : Nat) ({ cls := "BadCodes$Parser", name := "close", desc := "()V" } : Jvm.MethodName)) ∈ lw_all := lw_g (lw_at lw_m5 35 rfl) rfl
theorem q1107 : (Jvm.Cond.privateMethod ({ cls := "BadCodes$Parser", name := "close", desc := "()V" } : Jvm.MethodName)) ∈ lw_tbl := lw_at lw_m5 36 rfl
theorem q1108 : (Jvm.Cond.instanceMethod ({ cls := "BadCodes$Parser", name := "close", desc := "()V" } : Jvm.MethodName)) ∈ lw_all := lw_g (lw_at lw_m5 37 rfl) rfl
theorem q1109 : (Jvm.Cond.code ({ cls := "BadCodes$Parser", name := "close", desc := "()V" } : Jvm.MethodName) prog_6_method_12_code (1 : Nat) (Option.none : Option Jvm.ClassFile.FieldType)) ∈ lw_all := lw_g (lw_at lw_m5 38 rfl) rfl
theorem q1110 : (Jvm.Cond.methodLink "BadCodes$Parser" (201 : Nat) ({ cls := "BadCodes$Parser", name := "sort", desc := "()V" } : Jvm.MethodName)) ∈ lw_all := lw_g (lw_at lw_m5 39 rfl) rfl
theorem q1111 : (Jvm.Cond.privateMethod ({ cls := "BadCodes$Parser", name := "sort", desc := "()V" } : Jvm.MethodName)) ∈ lw_tbl := lw_at lw_m5 40 rfl
theorem q1112 : (Jvm.Cond.instanceMethod ({ cls := "BadCodes$Parser", name := "sort", desc := "()V" } : Jvm.MethodName)) ∈ lw_all := lw_g (lw_at lw_m5 41 rfl) rfl
theorem q1113 : (Jvm.Cond.code ({ cls := "BadCodes$Parser", name := "sort", desc := "()V" } : Jvm.MethodName) prog_6_method_13_code (2 : Nat) (Option.none : Option Jvm.ClassFile.FieldType)) ∈ lw_all := lw_g (lw_at lw_m5 42 rfl) rfl
theorem q1114 : (Jvm.Cond.methodLink "BadCodes$Parser" (172 : Nat) ({ cls := "BadCodes$Office", name := "sortsAll", desc := "()I" } : Jvm.MethodName)) ∈ lw_all := lw_g (lw_at lw_m5 43 rfl) rfl
theorem q1274 : (Jvm.Cond.interfaceEntry "BadCodes$Parser" (209 : Nat)) ∈ lw_tbl := lw_at lw_m5 203 rfl
theorem q1275 : (Jvm.Cond.methodLink "BadCodes$Parser" (209 : Nat) ({ cls := "java/util/List", name := "isEmpty", desc := "()Z" } : Jvm.MethodName)) ∈ lw_all := lw_g (lw_at lw_m5 204 rfl) rfl
theorem q2579 : (Jvm.Cond.castable "BadCodes$Parser" "java/lang/Object") ∈ lw_tbl := lw_at lw_m11 68 rfl
theorem in_X3 : ∀ w ∈ wsX30, w ∈ lw_all := lw_in wsX30 [416, 418, 420, 422, 424, 426, 428, 430, 432] (by decide +kernel) (by decide +kernel)
/-! BadCodes$Town -/
set_option maxRecDepth 100000
def RX6 : String := "BadCodes$Town"
def TX6 : u_T := fun k => match k with
  | 0 => ("BadCodes$Town", "number", "I", true)
  | 1 => ("BadCodes$Town", "route", "I", true)
  | _ => ("BadCodes$Town", "check", "I", true)
def tyX6 : Nat → FieldType := fun k => match k with
  | 0 => .int
  | 1 => .int
  | _ => .int
abbrev wsX60 : List Cond := u_ws RX6 TX6 3
theorem nmX6 : ∀ a, a < 3 → ∀ b, b < 3 → a ≠ b → (TX6 a).2.1 ≠ (TX6 b).2.1 := by decide +kernel
theorem tyX6_ok : ∀ k, k < 3 → parseFieldDescriptor (TX6 k).2.2.1 = some (tyX6 k) := by decide +kernel
abbrev cX6_number : ByteArray := prog_10_method_7_code
def yX6_number : MethodName := ⟨RX6, "number", "()I"⟩
theorem dX6_number_0 : decode cX6_number 0 = .ok (.aload_n 0, 1) := by decide +kernel
theorem dX6_number_1 : decode cX6_number 1 = .ok (.getfield 9, 3) := by decide +kernel
theorem dX6_number_4 : decode cX6_number 4 = .ok (.ireturn, 1) := by decide +kernel
abbrev cX6_init : ByteArray := prog_10_method_1_code
def yX6_init : MethodName := ⟨RX6, "<init>", "(III)V"⟩
def dkwX6_init_0 : List UInt8 := [42, 183, 0, 3, 42, 27, 181, 0, 9, 42, 28, 181, 0, 15, 42, 29, 181, 0, 18, 177]
abbrev dktX6_init_0 : List UInt8 := dkwX6_init_0 ++ []
theorem dksX6_init_0 : cX6_init.data.toList.drop 0 = dktX6_init_0 := by decide +kernel
theorem dX6_init_0 : decode cX6_init 0 = .ok (.aload_n 0, 1) := dk_42 (dk_at dksX6_init_0 0 rfl rfl)
theorem dX6_init_1 : decode cX6_init 1 = .ok (.invokespecial 3, 3) := dk_183 0 3 (dk_at dksX6_init_0 1 rfl rfl)
theorem dX6_init_4 : decode cX6_init 4 = .ok (.aload_n 0, 1) := dk_42 (dk_at dksX6_init_0 4 rfl rfl)
theorem dX6_init_5 : decode cX6_init 5 = .ok (.iload_n 1, 1) := dk_27 (dk_at dksX6_init_0 5 rfl rfl)
theorem dX6_init_6 : decode cX6_init 6 = .ok (.putfield 9, 3) := dk_181 0 9 (dk_at dksX6_init_0 6 rfl rfl)
theorem dX6_init_9 : decode cX6_init 9 = .ok (.aload_n 0, 1) := dk_42 (dk_at dksX6_init_0 9 rfl rfl)
theorem dX6_init_10 : decode cX6_init 10 = .ok (.iload_n 2, 1) := dk_28 (dk_at dksX6_init_0 10 rfl rfl)
theorem dX6_init_11 : decode cX6_init 11 = .ok (.putfield 15, 3) := dk_181 0 15 (dk_at dksX6_init_0 11 rfl rfl)
theorem dX6_init_14 : decode cX6_init 14 = .ok (.aload_n 0, 1) := dk_42 (dk_at dksX6_init_0 14 rfl rfl)
theorem dX6_init_15 : decode cX6_init 15 = .ok (.iload_n 3, 1) := dk_29 (dk_at dksX6_init_0 15 rfl rfl)
theorem dX6_init_16 : decode cX6_init 16 = .ok (.putfield 18, 3) := dk_181 0 18 (dk_at dksX6_init_0 16 rfl rfl)
theorem dX6_init_19 : decode cX6_init 19 = .ok (.return_, 1) := dk_177 (dk_at dksX6_init_0 19 rfl rfl)
abbrev cX6_digit : ByteArray := prog_10_method_2_code
def yX6_digit : MethodName := ⟨RX6, "digit", "(I)I"⟩
def dkwX6_digit_0 : List UInt8 := [27, 7, 160, 0, 10, 42, 180, 0, 18, 167, 0, 11, 42, 180, 0, 9, 27, 184, 0, 21, 172]
abbrev dktX6_digit_0 : List UInt8 := dkwX6_digit_0 ++ []
theorem dksX6_digit_0 : cX6_digit.data.toList.drop 0 = dktX6_digit_0 := by decide +kernel
theorem dX6_digit_0 : decode cX6_digit 0 = .ok (.iload_n 1, 1) := dk_27 (dk_at dksX6_digit_0 0 rfl rfl)
theorem dX6_digit_1 : decode cX6_digit 1 = .ok (.iconst 4, 1) := dk_7 (dk_at dksX6_digit_0 1 rfl rfl)
theorem dX6_digit_2 : decode cX6_digit 2 = .ok (.if_icmp .ne 10, 3) := dk_160 0 10 (dk_at dksX6_digit_0 2 rfl rfl)
theorem dX6_digit_5 : decode cX6_digit 5 = .ok (.aload_n 0, 1) := dk_42 (dk_at dksX6_digit_0 5 rfl rfl)
theorem dX6_digit_6 : decode cX6_digit 6 = .ok (.getfield 18, 3) := dk_180 0 18 (dk_at dksX6_digit_0 6 rfl rfl)
theorem dX6_digit_9 : decode cX6_digit 9 = .ok (.goto 11, 3) := dk_167 0 11 (dk_at dksX6_digit_0 9 rfl rfl)
theorem dX6_digit_12 : decode cX6_digit 12 = .ok (.aload_n 0, 1) := dk_42 (dk_at dksX6_digit_0 12 rfl rfl)
theorem dX6_digit_13 : decode cX6_digit 13 = .ok (.getfield 9, 3) := dk_180 0 9 (dk_at dksX6_digit_0 13 rfl rfl)
theorem dX6_digit_16 : decode cX6_digit 16 = .ok (.iload_n 1, 1) := dk_27 (dk_at dksX6_digit_0 16 rfl rfl)
theorem dX6_digit_17 : decode cX6_digit 17 = .ok (.invokestatic 21, 3) := dk_184 0 21 (dk_at dksX6_digit_0 17 rfl rfl)
theorem dX6_digit_20 : decode cX6_digit 20 = .ok (.ireturn, 1) := dk_172 (dk_at dksX6_digit_0 20 rfl rfl)
abbrev cX6_sum : ByteArray := prog_10_method_3_code
def yX6_sum : MethodName := ⟨RX6, "sum", "()I"⟩
def dkwX6_sum_1 : List UInt8 := [172]
abbrev dktX6_sum_1 : List UInt8 := dkwX6_sum_1 ++ []
def dkwX6_sum_0 : List UInt8 := [3, 60, 3, 61, 28, 8, 162, 0, 17, 27, 42, 28, 182, 0, 25, 96, 60, 132, 2, 1, 167, 255, 240, 27]
abbrev dktX6_sum_0 : List UInt8 := dkwX6_sum_0 ++ dktX6_sum_1
theorem dksX6_sum_0 : cX6_sum.data.toList.drop 0 = dktX6_sum_0 := by decide +kernel
theorem dksX6_sum_1 : cX6_sum.data.toList.drop 24 = dktX6_sum_1 := dk_seg dksX6_sum_0 24 rfl rfl
theorem dX6_sum_0 : decode cX6_sum 0 = .ok (.iconst 0, 1) := dk_3 (dk_at dksX6_sum_0 0 rfl rfl)
theorem dX6_sum_1 : decode cX6_sum 1 = .ok (.istore_n 1, 1) := dk_60 (dk_at dksX6_sum_0 1 rfl rfl)
theorem dX6_sum_2 : decode cX6_sum 2 = .ok (.iconst 0, 1) := dk_3 (dk_at dksX6_sum_0 2 rfl rfl)
theorem dX6_sum_3 : decode cX6_sum 3 = .ok (.istore_n 2, 1) := dk_61 (dk_at dksX6_sum_0 3 rfl rfl)
theorem dX6_sum_4 : decode cX6_sum 4 = .ok (.iload_n 2, 1) := dk_28 (dk_at dksX6_sum_0 4 rfl rfl)
theorem dX6_sum_5 : decode cX6_sum 5 = .ok (.iconst 5, 1) := dk_8 (dk_at dksX6_sum_0 5 rfl rfl)
theorem dX6_sum_6 : decode cX6_sum 6 = .ok (.if_icmp .ge 17, 3) := dk_162 0 17 (dk_at dksX6_sum_0 6 rfl rfl)
theorem dX6_sum_9 : decode cX6_sum 9 = .ok (.iload_n 1, 1) := dk_27 (dk_at dksX6_sum_0 9 rfl rfl)
theorem dX6_sum_10 : decode cX6_sum 10 = .ok (.aload_n 0, 1) := dk_42 (dk_at dksX6_sum_0 10 rfl rfl)
theorem dX6_sum_11 : decode cX6_sum 11 = .ok (.iload_n 2, 1) := dk_28 (dk_at dksX6_sum_0 11 rfl rfl)
theorem dX6_sum_12 : decode cX6_sum 12 = .ok (.invokevirtual 25, 3) := dk_182 0 25 (dk_at dksX6_sum_0 12 rfl rfl)
theorem dX6_sum_15 : decode cX6_sum 15 = .ok (.iadd, 1) := dk_96 (dk_at dksX6_sum_0 15 rfl rfl)
theorem dX6_sum_16 : decode cX6_sum 16 = .ok (.istore_n 1, 1) := dk_60 (dk_at dksX6_sum_0 16 rfl rfl)
theorem dX6_sum_17 : decode cX6_sum 17 = .ok (.iinc 2 1, 3) := dk_132 2 1 (dk_at dksX6_sum_0 17 rfl rfl)
theorem dX6_sum_20 : decode cX6_sum 20 = .ok (.goto (-16), 3) := dk_167 255 240 (dk_at dksX6_sum_0 20 rfl rfl)
theorem dX6_sum_23 : decode cX6_sum 23 = .ok (.iload_n 1, 1) := dk_27 (dk_at dksX6_sum_0 23 rfl rfl)
theorem dX6_sum_24 : decode cX6_sum 24 = .ok (.ireturn, 1) := dk_172 (dk_at dksX6_sum_1 0 rfl rfl)
abbrev cX6_route : ByteArray := prog_10_method_8_code
def yX6_route : MethodName := ⟨RX6, "route", "()I"⟩
theorem dX6_route_0 : decode cX6_route 0 = .ok (.aload_n 0, 1) := by decide +kernel
theorem dX6_route_1 : decode cX6_route 1 = .ok (.getfield 15, 3) := by decide +kernel
theorem dX6_route_4 : decode cX6_route 4 = .ok (.ireturn, 1) := by decide +kernel
abbrev cX6_check : ByteArray := prog_10_method_9_code
def yX6_check : MethodName := ⟨RX6, "check", "()I"⟩
theorem dX6_check_0 : decode cX6_check 0 = .ok (.aload_n 0, 1) := by decide +kernel
theorem dX6_check_1 : decode cX6_check 1 = .ok (.getfield 18, 3) := by decide +kernel
theorem dX6_check_4 : decode cX6_check 4 = .ok (.ireturn, 1) := by decide +kernel
theorem q143 : (Jvm.Cond.initialized "BadCodes$Town") ∈ lw_all := lw_g (lw_at lw_m1 32 rfl) rfl
theorem q971 : (Jvm.Cond.instanceMethod ({ cls := "BadCodes$Town", name := "number", desc := "()I" } : Jvm.MethodName)) ∈ lw_all := lw_g (lw_at lw_m4 140 rfl) rfl
theorem q972 : (Jvm.Cond.selects "BadCodes$Town" ({ cls := "BadCodes$Town", name := "number", desc := "()I" } : Jvm.MethodName) ({ cls := "BadCodes$Town", name := "number", desc := "()I" } : Jvm.MethodName)) ∈ lw_all := lw_g (lw_at lw_m4 141 rfl) rfl
theorem q973 : (Jvm.Cond.code ({ cls := "BadCodes$Town", name := "number", desc := "()I" } : Jvm.MethodName) prog_10_method_7_code (1 : Nat) (Option.some Jvm.ClassFile.FieldType.int)) ∈ lw_all := lw_g (lw_at lw_m4 142 rfl) rfl
theorem q975 : (Jvm.Cond.instantiable "BadCodes$Town" (3 : Nat)) ∈ lw_all := lw_g (lw_at lw_m4 144 rfl) rfl
theorem q986 : (Jvm.Cond.instanceMethod ({ cls := "BadCodes$Town", name := "<init>", desc := "(III)V" } : Jvm.MethodName)) ∈ lw_all := lw_g (lw_at lw_m4 155 rfl) rfl
theorem q987 : (Jvm.Cond.code ({ cls := "BadCodes$Town", name := "<init>", desc := "(III)V" } : Jvm.MethodName) prog_10_method_1_code (4 : Nat) (Option.none : Option Jvm.ClassFile.FieldType)) ∈ lw_all := lw_g (lw_at lw_m4 156 rfl) rfl
theorem q988 : (Jvm.Cond.methodLink "BadCodes$Town" (3 : Nat) ({ cls := "java/lang/Record", name := "<init>", desc := "()V" } : Jvm.MethodName)) ∈ lw_all := lw_g (lw_at lw_m4 157 rfl) rfl
theorem q992 : (Jvm.Cond.fieldLink "BadCodes$Town" (9 : Nat) "BadCodes$Town" "number" "I") ∈ lw_all := lw_g (lw_at lw_m4 161 rfl) rfl
theorem q993 : (Jvm.Cond.fieldLink "BadCodes$Town" (15 : Nat) "BadCodes$Town" "route" "I") ∈ lw_all := lw_g (lw_at lw_m4 162 rfl) rfl
theorem q994 : (Jvm.Cond.fieldLink "BadCodes$Town" (18 : Nat) "BadCodes$Town" "check" "I") ∈ lw_all := lw_g (lw_at lw_m4 163 rfl) rfl
theorem q995 : (Jvm.Cond.laysFinal "BadCodes$Town" "BadCodes$Town" "number" "I") ∈ lw_all := lw_g (lw_at lw_m4 164 rfl) rfl
theorem q996 : (Jvm.Cond.soleField "BadCodes$Town" "number") ∈ lw_all := lw_g (lw_at lw_m4 165 rfl) rfl
theorem q997 : (Jvm.Cond.laysFinal "BadCodes$Town" "BadCodes$Town" "route" "I") ∈ lw_all := lw_g (lw_at lw_m4 166 rfl) rfl
theorem q998 : (Jvm.Cond.soleField "BadCodes$Town" "route") ∈ lw_all := lw_g (lw_at lw_m4 167 rfl) rfl
theorem q999 : (Jvm.Cond.laysFinal "BadCodes$Town" "BadCodes$Town" "check" "I") ∈ lw_all := lw_g (lw_at lw_m4 168 rfl) rfl
theorem q1000 : (Jvm.Cond.soleField "BadCodes$Town" "check") ∈ lw_all := lw_g (lw_at lw_m4 169 rfl) rfl
theorem q1001 : (Jvm.Cond.superclass "BadCodes$Town" "java/lang/Record") ∈ lw_all := lw_g (lw_at lw_m4 170 rfl) rfl
theorem q1040 : (Jvm.Cond.selects "BadCodes$Town" ({ cls := "java/lang/Object", name := "getClass", desc := "()Ljava/lang/Class;" } : Jvm.MethodName) ({ cls := "java/lang/Object", name := "getClass", desc := "()Ljava/lang/Class;" } : Jvm.MethodName)) ∈ lw_all := lw_g (lw_at lw_m4 209 rfl) rfl
theorem q1166 : (Jvm.Cond.instanceMethod ({ cls := "BadCodes$Town", name := "digit", desc := "(I)I" } : Jvm.MethodName)) ∈ lw_all := lw_g (lw_at lw_m5 95 rfl) rfl
theorem q1167 : (Jvm.Cond.selects "BadCodes$Town" ({ cls := "BadCodes$Town", name := "digit", desc := "(I)I" } : Jvm.MethodName) ({ cls := "BadCodes$Town", name := "digit", desc := "(I)I" } : Jvm.MethodName)) ∈ lw_all := lw_g (lw_at lw_m5 96 rfl) rfl
theorem q1168 : (Jvm.Cond.code ({ cls := "BadCodes$Town", name := "digit", desc := "(I)I" } : Jvm.MethodName) prog_10_method_2_code (2 : Nat) (Option.some Jvm.ClassFile.FieldType.int)) ∈ lw_all := lw_g (lw_at lw_m5 97 rfl) rfl
theorem q1169 : (Jvm.Cond.methodLinkNest "BadCodes$Town" (21 : Nat) ({ cls := "BadCodes", name := "digitOf", desc := "(II)I" } : Jvm.MethodName) "BadCodes") ∈ lw_tbl := lw_at lw_m5 98 rfl
theorem q1197 : (Jvm.Cond.instanceMethod ({ cls := "BadCodes$Town", name := "sum", desc := "()I" } : Jvm.MethodName)) ∈ lw_all := lw_g (lw_at lw_m5 126 rfl) rfl
theorem q1198 : (Jvm.Cond.selects "BadCodes$Town" ({ cls := "BadCodes$Town", name := "sum", desc := "()I" } : Jvm.MethodName) ({ cls := "BadCodes$Town", name := "sum", desc := "()I" } : Jvm.MethodName)) ∈ lw_all := lw_g (lw_at lw_m5 127 rfl) rfl
theorem q1199 : (Jvm.Cond.code ({ cls := "BadCodes$Town", name := "sum", desc := "()I" } : Jvm.MethodName) prog_10_method_3_code (3 : Nat) (Option.some Jvm.ClassFile.FieldType.int)) ∈ lw_all := lw_g (lw_at lw_m5 128 rfl) rfl
theorem q1200 : (Jvm.Cond.methodLink "BadCodes$Town" (25 : Nat) ({ cls := "BadCodes$Town", name := "digit", desc := "(I)I" } : Jvm.MethodName)) ∈ lw_all := lw_g (lw_at lw_m5 129 rfl) rfl
theorem q1225 : (Jvm.Cond.instanceMethod ({ cls := "BadCodes$Town", name := "route", desc := "()I" } : Jvm.MethodName)) ∈ lw_all := lw_g (lw_at lw_m5 154 rfl) rfl
theorem q1226 : (Jvm.Cond.selects "BadCodes$Town" ({ cls := "BadCodes$Town", name := "route", desc := "()I" } : Jvm.MethodName) ({ cls := "BadCodes$Town", name := "route", desc := "()I" } : Jvm.MethodName)) ∈ lw_all := lw_g (lw_at lw_m5 155 rfl) rfl
theorem q1227 : (Jvm.Cond.code ({ cls := "BadCodes$Town", name := "route", desc := "()I" } : Jvm.MethodName) prog_10_method_8_code (1 : Nat) (Option.some Jvm.ClassFile.FieldType.int)) ∈ lw_all := lw_g (lw_at lw_m5 156 rfl) rfl
theorem q1379 : (Jvm.Cond.instanceMethod ({ cls := "BadCodes$Town", name := "check", desc := "()I" } : Jvm.MethodName)) ∈ lw_all := lw_g (lw_at lw_m6 68 rfl) rfl
theorem q1380 : (Jvm.Cond.selects "BadCodes$Town" ({ cls := "BadCodes$Town", name := "check", desc := "()I" } : Jvm.MethodName) ({ cls := "BadCodes$Town", name := "check", desc := "()I" } : Jvm.MethodName)) ∈ lw_all := lw_g (lw_at lw_m6 69 rfl) rfl
theorem q1381 : (Jvm.Cond.code ({ cls := "BadCodes$Town", name := "check", desc := "()I" } : Jvm.MethodName) prog_10_method_9_code (1 : Nat) (Option.some Jvm.ClassFile.FieldType.int)) ∈ lw_all := lw_g (lw_at lw_m6 70 rfl) rfl
theorem q2587 : (Jvm.Cond.castable "BadCodes$Town" "java/lang/Object") ∈ lw_tbl := lw_at lw_m11 76 rfl
theorem in_X6 : ∀ w ∈ wsX60, w ∈ lw_all := lw_in wsX60 [995, 997, 999] (by decide +kernel) (by decide +kernel)
/-! BadCodes$Letter -/
set_option maxRecDepth 100000
def RX7 : String := "BadCodes$Letter"
def TX7 : u_T := fun k => match k with
  | 0 => ("BadCodes$Letter", "read", "[I", true)
  | 1 => ("BadCodes$Letter", "bundle", "I", false)
  | 2 => ("BadCodes$Letter", "state", "I", false)
  | 3 => ("BadCodes$Letter", "tries", "I", false)
  | 4 => ("BadCodes$Letter", "cause", "I", false)
  | _ => ("BadCodes$Letter", "town", "I", false)
def tyX7 : Nat → FieldType := fun k => match k with
  | 0 => .array .int
  | 1 => .int
  | 2 => .int
  | 3 => .int
  | 4 => .int
  | _ => .int
abbrev wsX70 : List Cond := u_ws RX7 TX7 6
theorem nmX7 : ∀ a, a < 6 → ∀ b, b < 6 → a ≠ b → (TX7 a).2.1 ≠ (TX7 b).2.1 := by decide +kernel
theorem tyX7_ok : ∀ k, k < 6 → parseFieldDescriptor (TX7 k).2.2.1 = some (tyX7 k) := by decide +kernel
abbrev cX7_init : ByteArray := prog_4_method_1_code
def yX7_init : MethodName := ⟨RX7, "<init>", "()V"⟩
def dkwX7_init_0 : List UInt8 := [42, 183, 0, 3, 42, 8, 188, 10, 181, 0, 9, 42, 2, 181, 0, 15, 177]
abbrev dktX7_init_0 : List UInt8 := dkwX7_init_0 ++ []
theorem dksX7_init_0 : cX7_init.data.toList.drop 0 = dktX7_init_0 := by decide +kernel
theorem dX7_init_0 : decode cX7_init 0 = .ok (.aload_n 0, 1) := dk_42 (dk_at dksX7_init_0 0 rfl rfl)
theorem dX7_init_1 : decode cX7_init 1 = .ok (.invokespecial 3, 3) := dk_183 0 3 (dk_at dksX7_init_0 1 rfl rfl)
theorem dX7_init_4 : decode cX7_init 4 = .ok (.aload_n 0, 1) := dk_42 (dk_at dksX7_init_0 4 rfl rfl)
theorem dX7_init_5 : decode cX7_init 5 = .ok (.iconst 5, 1) := dk_8 (dk_at dksX7_init_0 5 rfl rfl)
theorem dX7_init_6 : decode cX7_init 6 = .ok (.newarray .int, 2) := dk_188_10 (dk_at dksX7_init_0 6 rfl rfl)
theorem dX7_init_8 : decode cX7_init 8 = .ok (.putfield 9, 3) := dk_181 0 9 (dk_at dksX7_init_0 8 rfl rfl)
theorem dX7_init_11 : decode cX7_init 11 = .ok (.aload_n 0, 1) := dk_42 (dk_at dksX7_init_0 11 rfl rfl)
theorem dX7_init_12 : decode cX7_init 12 = .ok (.iconst (-1), 1) := dk_2 (dk_at dksX7_init_0 12 rfl rfl)
theorem dX7_init_13 : decode cX7_init 13 = .ok (.putfield 15, 3) := dk_181 0 15 (dk_at dksX7_init_0 13 rfl rfl)
theorem dX7_init_16 : decode cX7_init 16 = .ok (.return_, 1) := dk_177 (dk_at dksX7_init_0 16 rfl rfl)
abbrev cX7_unread : ByteArray := prog_4_method_3_code
def yX7_unread : MethodName := ⟨RX7, "unread", "()I"⟩
def dkwX7_unread_1 : List UInt8 := [3, 184, 0, 38, 96, 60, 132, 2, 1, 167, 255, 227, 27, 172]
abbrev dktX7_unread_1 : List UInt8 := dkwX7_unread_1 ++ []
def dkwX7_unread_0 : List UInt8 := [3, 60, 3, 61, 28, 8, 162, 0, 30, 27, 42, 180, 0, 9, 28, 46, 2, 160, 0, 7, 4, 167, 0, 4]
abbrev dktX7_unread_0 : List UInt8 := dkwX7_unread_0 ++ dktX7_unread_1
theorem dksX7_unread_0 : cX7_unread.data.toList.drop 0 = dktX7_unread_0 := by decide +kernel
theorem dksX7_unread_1 : cX7_unread.data.toList.drop 24 = dktX7_unread_1 := dk_seg dksX7_unread_0 24 rfl rfl
theorem dX7_unread_0 : decode cX7_unread 0 = .ok (.iconst 0, 1) := dk_3 (dk_at dksX7_unread_0 0 rfl rfl)
theorem dX7_unread_1 : decode cX7_unread 1 = .ok (.istore_n 1, 1) := dk_60 (dk_at dksX7_unread_0 1 rfl rfl)
theorem dX7_unread_2 : decode cX7_unread 2 = .ok (.iconst 0, 1) := dk_3 (dk_at dksX7_unread_0 2 rfl rfl)
theorem dX7_unread_3 : decode cX7_unread 3 = .ok (.istore_n 2, 1) := dk_61 (dk_at dksX7_unread_0 3 rfl rfl)
theorem dX7_unread_4 : decode cX7_unread 4 = .ok (.iload_n 2, 1) := dk_28 (dk_at dksX7_unread_0 4 rfl rfl)
theorem dX7_unread_5 : decode cX7_unread 5 = .ok (.iconst 5, 1) := dk_8 (dk_at dksX7_unread_0 5 rfl rfl)
theorem dX7_unread_6 : decode cX7_unread 6 = .ok (.if_icmp .ge 30, 3) := dk_162 0 30 (dk_at dksX7_unread_0 6 rfl rfl)
theorem dX7_unread_9 : decode cX7_unread 9 = .ok (.iload_n 1, 1) := dk_27 (dk_at dksX7_unread_0 9 rfl rfl)
theorem dX7_unread_10 : decode cX7_unread 10 = .ok (.aload_n 0, 1) := dk_42 (dk_at dksX7_unread_0 10 rfl rfl)
theorem dX7_unread_11 : decode cX7_unread 11 = .ok (.getfield 9, 3) := dk_180 0 9 (dk_at dksX7_unread_0 11 rfl rfl)
theorem dX7_unread_14 : decode cX7_unread 14 = .ok (.iload_n 2, 1) := dk_28 (dk_at dksX7_unread_0 14 rfl rfl)
theorem dX7_unread_15 : decode cX7_unread 15 = .ok (.iaload, 1) := dk_46 (dk_at dksX7_unread_0 15 rfl rfl)
theorem dX7_unread_16 : decode cX7_unread 16 = .ok (.iconst (-1), 1) := dk_2 (dk_at dksX7_unread_0 16 rfl rfl)
theorem dX7_unread_17 : decode cX7_unread 17 = .ok (.if_icmp .ne 7, 3) := dk_160 0 7 (dk_at dksX7_unread_0 17 rfl rfl)
theorem dX7_unread_20 : decode cX7_unread 20 = .ok (.iconst 1, 1) := dk_4 (dk_at dksX7_unread_0 20 rfl rfl)
theorem dX7_unread_21 : decode cX7_unread 21 = .ok (.goto 4, 3) := dk_167 0 4 (dk_at dksX7_unread_0 21 rfl rfl)
theorem dX7_unread_24 : decode cX7_unread 24 = .ok (.iconst 0, 1) := dk_3 (dk_at dksX7_unread_1 0 rfl rfl)
theorem dX7_unread_25 : decode cX7_unread 25 = .ok (.invokestatic 38, 3) := dk_184 0 38 (dk_at dksX7_unread_1 1 rfl rfl)
theorem dX7_unread_28 : decode cX7_unread 28 = .ok (.iadd, 1) := dk_96 (dk_at dksX7_unread_1 4 rfl rfl)
theorem dX7_unread_29 : decode cX7_unread 29 = .ok (.istore_n 1, 1) := dk_60 (dk_at dksX7_unread_1 5 rfl rfl)
theorem dX7_unread_30 : decode cX7_unread 30 = .ok (.iinc 2 1, 3) := dk_132 2 1 (dk_at dksX7_unread_1 6 rfl rfl)
theorem dX7_unread_33 : decode cX7_unread 33 = .ok (.goto (-29), 3) := dk_167 255 227 (dk_at dksX7_unread_1 9 rfl rfl)
theorem dX7_unread_36 : decode cX7_unread 36 = .ok (.iload_n 1, 1) := dk_27 (dk_at dksX7_unread_1 12 rfl rfl)
theorem dX7_unread_37 : decode cX7_unread 37 = .ok (.ireturn, 1) := dk_172 (dk_at dksX7_unread_1 13 rfl rfl)
abbrev cX7_distance : ByteArray := prog_4_method_4_code
def yX7_distance : MethodName := ⟨RX7, "distance", "(LBadCodes$Town;)I"⟩
def dkwX7_distance_1 : List UInt8 := [96, 61, 132, 3, 1, 167, 255, 231, 28, 172]
abbrev dktX7_distance_1 : List UInt8 := dkwX7_distance_1 ++ []
def dkwX7_distance_0 : List UInt8 := [3, 61, 3, 62, 29, 8, 162, 0, 26, 28, 42, 180, 0, 9, 29, 46, 43, 29, 182, 0, 42, 184, 0, 48]
abbrev dktX7_distance_0 : List UInt8 := dkwX7_distance_0 ++ dktX7_distance_1
theorem dksX7_distance_0 : cX7_distance.data.toList.drop 0 = dktX7_distance_0 := by decide +kernel
theorem dksX7_distance_1 : cX7_distance.data.toList.drop 24 = dktX7_distance_1 := dk_seg dksX7_distance_0 24 rfl rfl
theorem dX7_distance_0 : decode cX7_distance 0 = .ok (.iconst 0, 1) := dk_3 (dk_at dksX7_distance_0 0 rfl rfl)
theorem dX7_distance_1 : decode cX7_distance 1 = .ok (.istore_n 2, 1) := dk_61 (dk_at dksX7_distance_0 1 rfl rfl)
theorem dX7_distance_2 : decode cX7_distance 2 = .ok (.iconst 0, 1) := dk_3 (dk_at dksX7_distance_0 2 rfl rfl)
theorem dX7_distance_3 : decode cX7_distance 3 = .ok (.istore_n 3, 1) := dk_62 (dk_at dksX7_distance_0 3 rfl rfl)
theorem dX7_distance_4 : decode cX7_distance 4 = .ok (.iload_n 3, 1) := dk_29 (dk_at dksX7_distance_0 4 rfl rfl)
theorem dX7_distance_5 : decode cX7_distance 5 = .ok (.iconst 5, 1) := dk_8 (dk_at dksX7_distance_0 5 rfl rfl)
theorem dX7_distance_6 : decode cX7_distance 6 = .ok (.if_icmp .ge 26, 3) := dk_162 0 26 (dk_at dksX7_distance_0 6 rfl rfl)
theorem dX7_distance_9 : decode cX7_distance 9 = .ok (.iload_n 2, 1) := dk_28 (dk_at dksX7_distance_0 9 rfl rfl)
theorem dX7_distance_10 : decode cX7_distance 10 = .ok (.aload_n 0, 1) := dk_42 (dk_at dksX7_distance_0 10 rfl rfl)
theorem dX7_distance_11 : decode cX7_distance 11 = .ok (.getfield 9, 3) := dk_180 0 9 (dk_at dksX7_distance_0 11 rfl rfl)
theorem dX7_distance_14 : decode cX7_distance 14 = .ok (.iload_n 3, 1) := dk_29 (dk_at dksX7_distance_0 14 rfl rfl)
theorem dX7_distance_15 : decode cX7_distance 15 = .ok (.iaload, 1) := dk_46 (dk_at dksX7_distance_0 15 rfl rfl)
theorem dX7_distance_16 : decode cX7_distance 16 = .ok (.aload_n 1, 1) := dk_43 (dk_at dksX7_distance_0 16 rfl rfl)
theorem dX7_distance_17 : decode cX7_distance 17 = .ok (.iload_n 3, 1) := dk_29 (dk_at dksX7_distance_0 17 rfl rfl)
theorem dX7_distance_18 : decode cX7_distance 18 = .ok (.invokevirtual 42, 3) := dk_182 0 42 (dk_at dksX7_distance_0 18 rfl rfl)
theorem dX7_distance_21 : decode cX7_distance 21 = .ok (.invokestatic 48, 3) := dk_184 0 48 (dk_at dksX7_distance_0 21 rfl rfl)
theorem dX7_distance_24 : decode cX7_distance 24 = .ok (.iadd, 1) := dk_96 (dk_at dksX7_distance_1 0 rfl rfl)
theorem dX7_distance_25 : decode cX7_distance 25 = .ok (.istore_n 2, 1) := dk_61 (dk_at dksX7_distance_1 1 rfl rfl)
theorem dX7_distance_26 : decode cX7_distance 26 = .ok (.iinc 3 1, 3) := dk_132 3 1 (dk_at dksX7_distance_1 2 rfl rfl)
theorem dX7_distance_29 : decode cX7_distance 29 = .ok (.goto (-25), 3) := dk_167 255 231 (dk_at dksX7_distance_1 5 rfl rfl)
theorem dX7_distance_32 : decode cX7_distance 32 = .ok (.iload_n 2, 1) := dk_28 (dk_at dksX7_distance_1 8 rfl rfl)
theorem dX7_distance_33 : decode cX7_distance 33 = .ok (.ireturn, 1) := dk_172 (dk_at dksX7_distance_1 9 rfl rfl)
abbrev cX7_copy : ByteArray := prog_4_method_2_code
def yX7_copy : MethodName := ⟨RX7, "copy", "()LBadCodes$Letter;"⟩
def dkwX7_copy_2 : List UInt8 := [180, 0, 35, 181, 0, 35, 43, 42, 180, 0, 15, 181, 0, 15, 43, 176]
abbrev dktX7_copy_2 : List UInt8 := dkwX7_copy_2 ++ []
def dkwX7_copy_1 : List UInt8 := [180, 0, 26, 181, 0, 26, 43, 42, 180, 0, 29, 181, 0, 29, 43, 42, 180, 0, 32, 181, 0, 32, 43, 42]
abbrev dktX7_copy_1 : List UInt8 := dkwX7_copy_1 ++ dktX7_copy_2
def dkwX7_copy_0 : List UInt8 := [187, 0, 10, 89, 183, 0, 19, 76, 42, 180, 0, 9, 3, 43, 180, 0, 9, 3, 8, 184, 0, 20, 43, 42]
abbrev dktX7_copy_0 : List UInt8 := dkwX7_copy_0 ++ dktX7_copy_1
theorem dksX7_copy_0 : cX7_copy.data.toList.drop 0 = dktX7_copy_0 := by decide +kernel
theorem dksX7_copy_1 : cX7_copy.data.toList.drop 24 = dktX7_copy_1 := dk_seg dksX7_copy_0 24 rfl rfl
theorem dksX7_copy_2 : cX7_copy.data.toList.drop 48 = dktX7_copy_2 := dk_seg dksX7_copy_1 24 rfl rfl
theorem dX7_copy_0 : decode cX7_copy 0 = .ok (.new 10, 3) := dk_187 0 10 (dk_at dksX7_copy_0 0 rfl rfl)
theorem dX7_copy_3 : decode cX7_copy 3 = .ok (.dup, 1) := dk_89 (dk_at dksX7_copy_0 3 rfl rfl)
theorem dX7_copy_4 : decode cX7_copy 4 = .ok (.invokespecial 19, 3) := dk_183 0 19 (dk_at dksX7_copy_0 4 rfl rfl)
theorem dX7_copy_7 : decode cX7_copy 7 = .ok (.astore_n 1, 1) := dk_76 (dk_at dksX7_copy_0 7 rfl rfl)
theorem dX7_copy_8 : decode cX7_copy 8 = .ok (.aload_n 0, 1) := dk_42 (dk_at dksX7_copy_0 8 rfl rfl)
theorem dX7_copy_9 : decode cX7_copy 9 = .ok (.getfield 9, 3) := dk_180 0 9 (dk_at dksX7_copy_0 9 rfl rfl)
theorem dX7_copy_12 : decode cX7_copy 12 = .ok (.iconst 0, 1) := dk_3 (dk_at dksX7_copy_0 12 rfl rfl)
theorem dX7_copy_13 : decode cX7_copy 13 = .ok (.aload_n 1, 1) := dk_43 (dk_at dksX7_copy_0 13 rfl rfl)
theorem dX7_copy_14 : decode cX7_copy 14 = .ok (.getfield 9, 3) := dk_180 0 9 (dk_at dksX7_copy_0 14 rfl rfl)
theorem dX7_copy_17 : decode cX7_copy 17 = .ok (.iconst 0, 1) := dk_3 (dk_at dksX7_copy_0 17 rfl rfl)
theorem dX7_copy_18 : decode cX7_copy 18 = .ok (.iconst 5, 1) := dk_8 (dk_at dksX7_copy_0 18 rfl rfl)
theorem dX7_copy_19 : decode cX7_copy 19 = .ok (.invokestatic 20, 3) := dk_184 0 20 (dk_at dksX7_copy_0 19 rfl rfl)
theorem dX7_copy_22 : decode cX7_copy 22 = .ok (.aload_n 1, 1) := dk_43 (dk_at dksX7_copy_0 22 rfl rfl)
theorem dX7_copy_23 : decode cX7_copy 23 = .ok (.aload_n 0, 1) := dk_42 (dk_at dksX7_copy_0 23 rfl rfl)
theorem dX7_copy_24 : decode cX7_copy 24 = .ok (.getfield 26, 3) := dk_180 0 26 (dk_at dksX7_copy_1 0 rfl rfl)
theorem dX7_copy_27 : decode cX7_copy 27 = .ok (.putfield 26, 3) := dk_181 0 26 (dk_at dksX7_copy_1 3 rfl rfl)
theorem dX7_copy_30 : decode cX7_copy 30 = .ok (.aload_n 1, 1) := dk_43 (dk_at dksX7_copy_1 6 rfl rfl)
theorem dX7_copy_31 : decode cX7_copy 31 = .ok (.aload_n 0, 1) := dk_42 (dk_at dksX7_copy_1 7 rfl rfl)
theorem dX7_copy_32 : decode cX7_copy 32 = .ok (.getfield 29, 3) := dk_180 0 29 (dk_at dksX7_copy_1 8 rfl rfl)
theorem dX7_copy_35 : decode cX7_copy 35 = .ok (.putfield 29, 3) := dk_181 0 29 (dk_at dksX7_copy_1 11 rfl rfl)
theorem dX7_copy_38 : decode cX7_copy 38 = .ok (.aload_n 1, 1) := dk_43 (dk_at dksX7_copy_1 14 rfl rfl)
theorem dX7_copy_39 : decode cX7_copy 39 = .ok (.aload_n 0, 1) := dk_42 (dk_at dksX7_copy_1 15 rfl rfl)
theorem dX7_copy_40 : decode cX7_copy 40 = .ok (.getfield 32, 3) := dk_180 0 32 (dk_at dksX7_copy_1 16 rfl rfl)
theorem dX7_copy_43 : decode cX7_copy 43 = .ok (.putfield 32, 3) := dk_181 0 32 (dk_at dksX7_copy_1 19 rfl rfl)
theorem dX7_copy_46 : decode cX7_copy 46 = .ok (.aload_n 1, 1) := dk_43 (dk_at dksX7_copy_1 22 rfl rfl)
theorem dX7_copy_47 : decode cX7_copy 47 = .ok (.aload_n 0, 1) := dk_42 (dk_at dksX7_copy_1 23 rfl rfl)
theorem dX7_copy_48 : decode cX7_copy 48 = .ok (.getfield 35, 3) := dk_180 0 35 (dk_at dksX7_copy_2 0 rfl rfl)
theorem dX7_copy_51 : decode cX7_copy 51 = .ok (.putfield 35, 3) := dk_181 0 35 (dk_at dksX7_copy_2 3 rfl rfl)
theorem dX7_copy_54 : decode cX7_copy 54 = .ok (.aload_n 1, 1) := dk_43 (dk_at dksX7_copy_2 6 rfl rfl)
theorem dX7_copy_55 : decode cX7_copy 55 = .ok (.aload_n 0, 1) := dk_42 (dk_at dksX7_copy_2 7 rfl rfl)
theorem dX7_copy_56 : decode cX7_copy 56 = .ok (.getfield 15, 3) := dk_180 0 15 (dk_at dksX7_copy_2 8 rfl rfl)
theorem dX7_copy_59 : decode cX7_copy 59 = .ok (.putfield 15, 3) := dk_181 0 15 (dk_at dksX7_copy_2 11 rfl rfl)
theorem dX7_copy_62 : decode cX7_copy 62 = .ok (.aload_n 1, 1) := dk_43 (dk_at dksX7_copy_2 14 rfl rfl)
theorem dX7_copy_63 : decode cX7_copy 63 = .ok (.areturn, 1) := dk_176 (dk_at dksX7_copy_2 15 rfl rfl)
theorem q144 : (Jvm.Cond.initialized "BadCodes$Letter") ∈ lw_all := lw_g (lw_at lw_m1 33 rfl) rfl
theorem q1035 : (Jvm.Cond.selects "BadCodes$Letter" ({ cls := "java/lang/Object", name := "getClass", desc := "()Ljava/lang/Class;" } : Jvm.MethodName) ({ cls := "java/lang/Object", name := "getClass", desc := "()Ljava/lang/Class;" } : Jvm.MethodName)) ∈ lw_all := lw_g (lw_at lw_m4 204 rfl) rfl
theorem q1064 : (Jvm.Cond.instantiable "BadCodes$Letter" (6 : Nat)) ∈ lw_all := lw_g (lw_at lw_m4 233 rfl) rfl
theorem q1066 : (Jvm.Cond.instanceMethod ({ cls := "BadCodes$Letter", name := "<init>", desc := "()V" } : Jvm.MethodName)) ∈ lw_all := lw_g (lw_at lw_m4 235 rfl) rfl
theorem q1067 : (Jvm.Cond.code ({ cls := "BadCodes$Letter", name := "<init>", desc := "()V" } : Jvm.MethodName) prog_4_method_1_code (1 : Nat) (Option.none : Option Jvm.ClassFile.FieldType)) ∈ lw_all := lw_g (lw_at lw_m4 236 rfl) rfl
theorem q1068 : (Jvm.Cond.methodLink "BadCodes$Letter" (3 : Nat) ({ cls := "java/lang/Object", name := "<init>", desc := "()V" } : Jvm.MethodName)) ∈ lw_all := lw_g (lw_at lw_m4 237 rfl) rfl
theorem q1069 : (Jvm.Cond.fieldLink "BadCodes$Letter" (9 : Nat) "BadCodes$Letter" "read" "[I") ∈ lw_all := lw_g (lw_at lw_m4 238 rfl) rfl
theorem q1073 : (Jvm.Cond.fieldLink "BadCodes$Letter" (26 : Nat) "BadCodes$Letter" "bundle" "I") ∈ lw_all := lw_g (lw_at lw_m5 2 rfl) rfl
theorem q1077 : (Jvm.Cond.fieldLink "BadCodes$Letter" (29 : Nat) "BadCodes$Letter" "state" "I") ∈ lw_all := lw_g (lw_at lw_m5 6 rfl) rfl
theorem q1080 : (Jvm.Cond.fieldLink "BadCodes$Letter" (32 : Nat) "BadCodes$Letter" "tries" "I") ∈ lw_all := lw_g (lw_at lw_m5 9 rfl) rfl
theorem q1083 : (Jvm.Cond.fieldLink "BadCodes$Letter" (35 : Nat) "BadCodes$Letter" "cause" "I") ∈ lw_all := lw_g (lw_at lw_m5 12 rfl) rfl
theorem q1086 : (Jvm.Cond.fieldLink "BadCodes$Letter" (15 : Nat) "BadCodes$Letter" "town" "I") ∈ lw_all := lw_g (lw_at lw_m5 15 rfl) rfl
theorem q1089 : (Jvm.Cond.laysFinal "BadCodes$Letter" "BadCodes$Letter" "read" "[I") ∈ lw_all := lw_g (lw_at lw_m5 18 rfl) rfl
theorem q1090 : (Jvm.Cond.soleField "BadCodes$Letter" "read") ∈ lw_all := lw_g (lw_at lw_m5 19 rfl) rfl
theorem q1091 : (Jvm.Cond.lays "BadCodes$Letter" "BadCodes$Letter" "bundle" "I") ∈ lw_all := lw_g (lw_at lw_m5 20 rfl) rfl
theorem q1092 : (Jvm.Cond.soleField "BadCodes$Letter" "bundle") ∈ lw_all := lw_g (lw_at lw_m5 21 rfl) rfl
theorem q1093 : (Jvm.Cond.lays "BadCodes$Letter" "BadCodes$Letter" "state" "I") ∈ lw_all := lw_g (lw_at lw_m5 22 rfl) rfl
theorem q1094 : (Jvm.Cond.soleField "BadCodes$Letter" "state") ∈ lw_all := lw_g (lw_at lw_m5 23 rfl) rfl
theorem q1095 : (Jvm.Cond.lays "BadCodes$Letter" "BadCodes$Letter" "tries" "I") ∈ lw_all := lw_g (lw_at lw_m5 24 rfl) rfl
theorem q1096 : (Jvm.Cond.soleField "BadCodes$Letter" "tries") ∈ lw_all := lw_g (lw_at lw_m5 25 rfl) rfl
theorem q1097 : (Jvm.Cond.lays "BadCodes$Letter" "BadCodes$Letter" "cause" "I") ∈ lw_all := lw_g (lw_at lw_m5 26 rfl) rfl
theorem q1098 : (Jvm.Cond.soleField "BadCodes$Letter" "cause") ∈ lw_all := lw_g (lw_at lw_m5 27 rfl) rfl
theorem q1099 : (Jvm.Cond.lays "BadCodes$Letter" "BadCodes$Letter" "town" "I") ∈ lw_all := lw_g (lw_at lw_m5 28 rfl) rfl
theorem q1100 : (Jvm.Cond.soleField "BadCodes$Letter" "town") ∈ lw_all := lw_g (lw_at lw_m5 29 rfl) rfl
theorem q1101 : (Jvm.Cond.superclass "BadCodes$Letter" "java/lang/Object") ∈ lw_all := lw_g (lw_at lw_m5 30 rfl) rfl
theorem q1143 : (Jvm.Cond.instanceMethod ({ cls := "BadCodes$Letter", name := "unread", desc := "()I" } : Jvm.MethodName)) ∈ lw_all := lw_g (lw_at lw_m5 72 rfl) rfl
theorem q1144 : (Jvm.Cond.selects "BadCodes$Letter" ({ cls := "BadCodes$Letter", name := "unread", desc := "()I" } : Jvm.MethodName) ({ cls := "BadCodes$Letter", name := "unread", desc := "()I" } : Jvm.MethodName)) ∈ lw_all := lw_g (lw_at lw_m5 73 rfl) rfl
theorem q1145 : (Jvm.Cond.code ({ cls := "BadCodes$Letter", name := "unread", desc := "()I" } : Jvm.MethodName) prog_4_method_3_code (3 : Nat) (Option.some Jvm.ClassFile.FieldType.int)) ∈ lw_all := lw_g (lw_at lw_m5 74 rfl) rfl
theorem q1146 : (Jvm.Cond.methodLinkNest "BadCodes$Letter" (38 : Nat) ({ cls := "BadCodes", name := "one", desc := "(Z)I" } : Jvm.MethodName) "BadCodes") ∈ lw_tbl := lw_at lw_m5 75 rfl
theorem q1162 : (Jvm.Cond.instanceMethod ({ cls := "BadCodes$Letter", name := "distance", desc := "(LBadCodes$Town;)I" } : Jvm.MethodName)) ∈ lw_all := lw_g (lw_at lw_m5 91 rfl) rfl
theorem q1163 : (Jvm.Cond.selects "BadCodes$Letter" ({ cls := "BadCodes$Letter", name := "distance", desc := "(LBadCodes$Town;)I" } : Jvm.MethodName) ({ cls := "BadCodes$Letter", name := "distance", desc := "(LBadCodes$Town;)I" } : Jvm.MethodName)) ∈ lw_all := lw_g (lw_at lw_m5 92 rfl) rfl
theorem q1164 : (Jvm.Cond.code ({ cls := "BadCodes$Letter", name := "distance", desc := "(LBadCodes$Town;)I" } : Jvm.MethodName) prog_4_method_4_code (4 : Nat) (Option.some Jvm.ClassFile.FieldType.int)) ∈ lw_all := lw_g (lw_at lw_m5 93 rfl) rfl
theorem q1165 : (Jvm.Cond.methodLink "BadCodes$Letter" (42 : Nat) ({ cls := "BadCodes$Town", name := "digit", desc := "(I)I" } : Jvm.MethodName)) ∈ lw_all := lw_g (lw_at lw_m5 94 rfl) rfl
theorem q1170 : (Jvm.Cond.methodLinkNest "BadCodes$Letter" (48 : Nat) ({ cls := "BadCodes", name := "cost", desc := "(II)I" } : Jvm.MethodName) "BadCodes") ∈ lw_tbl := lw_at lw_m5 99 rfl
theorem q1657 : (Jvm.Cond.instanceMethod ({ cls := "BadCodes$Letter", name := "copy", desc := "()LBadCodes$Letter;" } : Jvm.MethodName)) ∈ lw_all := lw_g (lw_at lw_m7 106 rfl) rfl
theorem q1658 : (Jvm.Cond.selects "BadCodes$Letter" ({ cls := "BadCodes$Letter", name := "copy", desc := "()LBadCodes$Letter;" } : Jvm.MethodName) ({ cls := "BadCodes$Letter", name := "copy", desc := "()LBadCodes$Letter;" } : Jvm.MethodName)) ∈ lw_all := lw_g (lw_at lw_m7 107 rfl) rfl
theorem q1659 : (Jvm.Cond.code ({ cls := "BadCodes$Letter", name := "copy", desc := "()LBadCodes$Letter;" } : Jvm.MethodName) prog_4_method_2_code (2 : Nat) (Option.some (Jvm.ClassFile.FieldType.object "BadCodes$Letter"))) ∈ lw_all := lw_g (lw_at lw_m7 108 rfl) rfl
theorem q1660 : (Jvm.Cond.classLink "BadCodes$Letter" (10 : Nat) "BadCodes$Letter") ∈ lw_all := lw_g (lw_at lw_m7 109 rfl) rfl
theorem q1661 : (Jvm.Cond.methodLink "BadCodes$Letter" (19 : Nat) ({ cls := "BadCodes$Letter", name := "<init>", desc := "()V" } : Jvm.MethodName)) ∈ lw_all := lw_g (lw_at lw_m7 110 rfl) rfl
theorem q1662 : (Jvm.Cond.methodLink "BadCodes$Letter" (20 : Nat) ({ cls := "java/lang/System", name := "arraycopy", desc := "(Ljava/lang/Object;ILjava/lang/Object;II)V" } : Jvm.MethodName)) ∈ lw_all := lw_g (lw_at lw_m7 111 rfl) rfl
theorem q2588 : (Jvm.Cond.castable "BadCodes$Letter" "java/lang/Object") ∈ lw_tbl := lw_at lw_m11 77 rfl
theorem in_X7 : ∀ w ∈ wsX70, w ∈ lw_all := lw_in wsX70 [1089, 1091, 1093, 1095, 1097, 1099] (by decide +kernel) (by decide +kernel)
