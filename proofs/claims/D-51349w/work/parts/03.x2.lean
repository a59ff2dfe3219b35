/-! BadCodesModel -/
set_option maxRecDepth 100000
def RX2 : String := "BadCodesModel"
def TX2 : u_T := fun k => match k with
  | 0 => ("BadCodesModel", "thrown", "I", false)
  | 1 => ("BadCodesModel", "isLoaded", "Z", false)
  | 2 => ("BadCodesModel", "h", "[I", true)
  | 3 => ("BadCodesModel", "s", "[I", true)
  | 4 => ("BadCodesModel", "stores", "[I", true)
  | 5 => ("BadCodesModel", "changes", "I", false)
  | 6 => ("BadCodesModel", "isKept", "[Z", true)
  | 7 => ("BadCodesModel", "buffer", "[I", true)
  | 8 => ("BadCodesModel", "buffered", "I", false)
  | 9 => ("BadCodesModel", "parseError", "I", false)
  | 10 => ("BadCodesModel", "errorPosition", "I", false)
  | 11 => ("BadCodesModel", "length", "I", false)
  | 12 => ("BadCodesModel", "next", "I", false)
  | 13 => ("BadCodesModel", "from", "I", false)
  | 14 => ("BadCodesModel", "sort", "I", false)
  | 15 => ("BadCodesModel", "number", "I", false)
  | 16 => ("BadCodesModel", "bad", "I", false)
  | 17 => ("BadCodesModel", "badAt", "I", false)
  | 18 => ("BadCodesModel", "heldTold", "[I", true)
  | 19 => ("BadCodesModel", "wasSorted", "Z", false)
  | 20 => ("BadCodesModel", "text", "[I", true)
  | _ => ("BadCodesModel", "textLong", "I", false)
def tyX2 : Nat → FieldType := fun k => match k with
  | 0 => .int
  | 1 => .boolean
  | 2 => .array .int
  | 3 => .array .int
  | 4 => .array .int
  | 5 => .int
  | 6 => .array .boolean
  | 7 => .array .int
  | 8 => .int
  | 9 => .int
  | 10 => .int
  | 11 => .int
  | 12 => .int
  | 13 => .int
  | 14 => .int
  | 15 => .int
  | 16 => .int
  | 17 => .int
  | 18 => .array .int
  | 19 => .boolean
  | 20 => .array .int
  | _ => .int
abbrev wsX20 : List Cond := u_ws RX2 TX2 22
set_option maxRecDepth 100000 in
theorem nmX2 : ∀ a, a < 22 → ∀ b, b < 22 → a ≠ b → (TX2 a).2.1 ≠ (TX2 b).2.1 := by decide +kernel
set_option maxRecDepth 100000 in
theorem tyX2_ok : ∀ k, k < 22 → parseFieldDescriptor (TX2 k).2.2.1 = some (tyX2 k) := by decide +kernel
abbrev cX2_init : ByteArray := prog_14_method_1_code
def yX2_init : MethodName := ⟨RX2, "<init>", "()V"⟩
def dkwX2_init_2 : List UInt8 := [42, 2, 181, 0, 26, 42, 16, 26, 188, 10, 181, 0, 30, 42, 17, 1, 144, 188, 10, 181, 0, 33, 177]
abbrev dktX2_init_2 : List UInt8 := dkwX2_init_2 ++ []
def dkwX2_init_1 : List UInt8 := [17, 11, 187, 188, 10, 181, 0, 16, 42, 5, 188, 4, 181, 0, 19, 42, 17, 2, 88, 188, 10, 181, 0, 23]
abbrev dktX2_init_1 : List UInt8 := dkwX2_init_1 ++ dktX2_init_2
def dkwX2_init_0 : List UInt8 := [42, 183, 0, 1, 42, 16, 26, 188, 10, 181, 0, 7, 42, 17, 1, 17, 188, 10, 181, 0, 13, 42]
abbrev dktX2_init_0 : List UInt8 := dkwX2_init_0 ++ dktX2_init_1
theorem dksX2_init_0 : cX2_init.data.toList.drop 0 = dktX2_init_0 := by decide +kernel
theorem dksX2_init_1 : cX2_init.data.toList.drop 22 = dktX2_init_1 := dk_seg dksX2_init_0 22 rfl rfl
theorem dksX2_init_2 : cX2_init.data.toList.drop 46 = dktX2_init_2 := dk_seg dksX2_init_1 24 rfl rfl
theorem dX2_init_0 : decode cX2_init 0 = .ok (.aload_n 0, 1) := dk_42 (dk_at dksX2_init_0 0 rfl rfl)
theorem dX2_init_1 : decode cX2_init 1 = .ok (.invokespecial 1, 3) := dk_183 0 1 (dk_at dksX2_init_0 1 rfl rfl)
theorem dX2_init_4 : decode cX2_init 4 = .ok (.aload_n 0, 1) := dk_42 (dk_at dksX2_init_0 4 rfl rfl)
theorem dX2_init_5 : decode cX2_init 5 = .ok (.bipush 26, 2) := dk_16 26 (dk_at dksX2_init_0 5 rfl rfl)
theorem dX2_init_7 : decode cX2_init 7 = .ok (.newarray .int, 2) := dk_188_10 (dk_at dksX2_init_0 7 rfl rfl)
theorem dX2_init_9 : decode cX2_init 9 = .ok (.putfield 7, 3) := dk_181 0 7 (dk_at dksX2_init_0 9 rfl rfl)
theorem dX2_init_12 : decode cX2_init 12 = .ok (.aload_n 0, 1) := dk_42 (dk_at dksX2_init_0 12 rfl rfl)
theorem dX2_init_13 : decode cX2_init 13 = .ok (.sipush 273, 3) := dk_17 1 17 (dk_at dksX2_init_0 13 rfl rfl)
theorem dX2_init_16 : decode cX2_init 16 = .ok (.newarray .int, 2) := dk_188_10 (dk_at dksX2_init_0 16 rfl rfl)
theorem dX2_init_18 : decode cX2_init 18 = .ok (.putfield 13, 3) := dk_181 0 13 (dk_at dksX2_init_0 18 rfl rfl)
theorem dX2_init_21 : decode cX2_init 21 = .ok (.aload_n 0, 1) := dk_42 (dk_at dksX2_init_0 21 rfl rfl)
theorem dX2_init_22 : decode cX2_init 22 = .ok (.sipush 3003, 3) := dk_17 11 187 (dk_at dksX2_init_1 0 rfl rfl)
theorem dX2_init_25 : decode cX2_init 25 = .ok (.newarray .int, 2) := dk_188_10 (dk_at dksX2_init_1 3 rfl rfl)
theorem dX2_init_27 : decode cX2_init 27 = .ok (.putfield 16, 3) := dk_181 0 16 (dk_at dksX2_init_1 5 rfl rfl)
theorem dX2_init_30 : decode cX2_init 30 = .ok (.aload_n 0, 1) := dk_42 (dk_at dksX2_init_1 8 rfl rfl)
theorem dX2_init_31 : decode cX2_init 31 = .ok (.iconst 2, 1) := dk_5 (dk_at dksX2_init_1 9 rfl rfl)
theorem dX2_init_32 : decode cX2_init 32 = .ok (.newarray .boolean, 2) := dk_188_4 (dk_at dksX2_init_1 10 rfl rfl)
theorem dX2_init_34 : decode cX2_init 34 = .ok (.putfield 19, 3) := dk_181 0 19 (dk_at dksX2_init_1 12 rfl rfl)
theorem dX2_init_37 : decode cX2_init 37 = .ok (.aload_n 0, 1) := dk_42 (dk_at dksX2_init_1 15 rfl rfl)
theorem dX2_init_38 : decode cX2_init 38 = .ok (.sipush 600, 3) := dk_17 2 88 (dk_at dksX2_init_1 16 rfl rfl)
theorem dX2_init_41 : decode cX2_init 41 = .ok (.newarray .int, 2) := dk_188_10 (dk_at dksX2_init_1 19 rfl rfl)
theorem dX2_init_43 : decode cX2_init 43 = .ok (.putfield 23, 3) := dk_181 0 23 (dk_at dksX2_init_1 21 rfl rfl)
theorem dX2_init_46 : decode cX2_init 46 = .ok (.aload_n 0, 1) := dk_42 (dk_at dksX2_init_2 0 rfl rfl)
theorem dX2_init_47 : decode cX2_init 47 = .ok (.iconst (-1), 1) := dk_2 (dk_at dksX2_init_2 1 rfl rfl)
theorem dX2_init_48 : decode cX2_init 48 = .ok (.putfield 26, 3) := dk_181 0 26 (dk_at dksX2_init_2 2 rfl rfl)
theorem dX2_init_51 : decode cX2_init 51 = .ok (.aload_n 0, 1) := dk_42 (dk_at dksX2_init_2 5 rfl rfl)
theorem dX2_init_52 : decode cX2_init 52 = .ok (.bipush 26, 2) := dk_16 26 (dk_at dksX2_init_2 6 rfl rfl)
theorem dX2_init_54 : decode cX2_init 54 = .ok (.newarray .int, 2) := dk_188_10 (dk_at dksX2_init_2 8 rfl rfl)
theorem dX2_init_56 : decode cX2_init 56 = .ok (.putfield 30, 3) := dk_181 0 30 (dk_at dksX2_init_2 10 rfl rfl)
theorem dX2_init_59 : decode cX2_init 59 = .ok (.aload_n 0, 1) := dk_42 (dk_at dksX2_init_2 13 rfl rfl)
theorem dX2_init_60 : decode cX2_init 60 = .ok (.sipush 400, 3) := dk_17 1 144 (dk_at dksX2_init_2 14 rfl rfl)
theorem dX2_init_63 : decode cX2_init 63 = .ok (.newarray .int, 2) := dk_188_10 (dk_at dksX2_init_2 17 rfl rfl)
theorem dX2_init_65 : decode cX2_init 65 = .ok (.putfield 33, 3) := dk_181 0 33 (dk_at dksX2_init_2 19 rfl rfl)
theorem dX2_init_68 : decode cX2_init 68 = .ok (.return_, 1) := dk_177 (dk_at dksX2_init_2 22 rfl rfl)
abbrev cX2_thrown : ByteArray := prog_14_method_2_code
def yX2_thrown : MethodName := ⟨RX2, "thrown", "()I"⟩
theorem dX2_thrown_0 : decode cX2_thrown 0 = .ok (.aload_n 0, 1) := by decide +kernel
theorem dX2_thrown_1 : decode cX2_thrown 1 = .ok (.getfield 36, 3) := by decide +kernel
theorem dX2_thrown_4 : decode cX2_thrown 4 = .ok (.ireturn, 1) := by decide +kernel
abbrev cX2_append : ByteArray := prog_14_method_37_code
def yX2_append : MethodName := ⟨RX2, "append", "(IIIII)I"⟩
def dkwX2_append_5 : List UInt8 := [16, 20, 96, 181, 0, 140, 42, 180, 0, 140, 172]
abbrev dktX2_append_5 : List UInt8 := dkwX2_append_5 ++ []
def dkwX2_append_4 : List UInt8 := [21, 6, 7, 112, 104, 100, 122, 17, 0, 255, 126, 79, 132, 6, 1, 167, 255, 169, 42, 89, 180, 0, 140]
abbrev dktX2_append_4 : List UInt8 := dkwX2_append_4 ++ dktX2_append_5
def dkwX2_append_3 : List UInt8 := [167, 0, 5, 21, 5, 54, 7, 42, 180, 0, 23, 42, 180, 0, 140, 21, 6, 96, 21, 7, 16, 24, 16, 8]
abbrev dktX2_append_3 : List UInt8 := dkwX2_append_3 ++ dktX2_append_4
def dkwX2_append_2 : List UInt8 := [28, 167, 0, 28, 21, 6, 16, 12, 162, 0, 7, 29, 167, 0, 17, 21, 6, 16, 16, 162, 0, 8, 21, 4]
abbrev dktX2_append_2 : List UInt8 := dkwX2_append_2 ++ dktX2_append_3
def dkwX2_append_1 : List UInt8 := [21, 6, 16, 20, 162, 0, 86, 21, 6, 7, 162, 0, 7, 27, 167, 0, 39, 21, 6, 16, 8, 162, 0, 7]
abbrev dktX2_append_1 : List UInt8 := dkwX2_append_1 ++ dktX2_append_2
def dkwX2_append_0 : List UInt8 := [42, 3, 181, 0, 36, 42, 180, 0, 140, 16, 20, 96, 17, 2, 88, 164, 0, 5, 2, 172, 3, 54, 6]
abbrev dktX2_append_0 : List UInt8 := dkwX2_append_0 ++ dktX2_append_1
theorem dksX2_append_0 : cX2_append.data.toList.drop 0 = dktX2_append_0 := by decide +kernel
theorem dksX2_append_1 : cX2_append.data.toList.drop 23 = dktX2_append_1 := dk_seg dksX2_append_0 23 rfl rfl
theorem dksX2_append_2 : cX2_append.data.toList.drop 47 = dktX2_append_2 := dk_seg dksX2_append_1 24 rfl rfl
theorem dksX2_append_3 : cX2_append.data.toList.drop 71 = dktX2_append_3 := dk_seg dksX2_append_2 24 rfl rfl
theorem dksX2_append_4 : cX2_append.data.toList.drop 95 = dktX2_append_4 := dk_seg dksX2_append_3 24 rfl rfl
theorem dksX2_append_5 : cX2_append.data.toList.drop 118 = dktX2_append_5 := dk_seg dksX2_append_4 23 rfl rfl
theorem dX2_append_0 : decode cX2_append 0 = .ok (.aload_n 0, 1) := dk_42 (dk_at dksX2_append_0 0 rfl rfl)
theorem dX2_append_1 : decode cX2_append 1 = .ok (.iconst 0, 1) := dk_3 (dk_at dksX2_append_0 1 rfl rfl)
theorem dX2_append_2 : decode cX2_append 2 = .ok (.putfield 36, 3) := dk_181 0 36 (dk_at dksX2_append_0 2 rfl rfl)
theorem dX2_append_5 : decode cX2_append 5 = .ok (.aload_n 0, 1) := dk_42 (dk_at dksX2_append_0 5 rfl rfl)
theorem dX2_append_6 : decode cX2_append 6 = .ok (.getfield 140, 3) := dk_180 0 140 (dk_at dksX2_append_0 6 rfl rfl)
theorem dX2_append_9 : decode cX2_append 9 = .ok (.bipush 20, 2) := dk_16 20 (dk_at dksX2_append_0 9 rfl rfl)
theorem dX2_append_11 : decode cX2_append 11 = .ok (.iadd, 1) := dk_96 (dk_at dksX2_append_0 11 rfl rfl)
theorem dX2_append_12 : decode cX2_append 12 = .ok (.sipush 600, 3) := dk_17 2 88 (dk_at dksX2_append_0 12 rfl rfl)
theorem dX2_append_15 : decode cX2_append 15 = .ok (.if_icmp .le 5, 3) := dk_164 0 5 (dk_at dksX2_append_0 15 rfl rfl)
theorem dX2_append_18 : decode cX2_append 18 = .ok (.iconst (-1), 1) := dk_2 (dk_at dksX2_append_0 18 rfl rfl)
theorem dX2_append_19 : decode cX2_append 19 = .ok (.ireturn, 1) := dk_172 (dk_at dksX2_append_0 19 rfl rfl)
theorem dX2_append_20 : decode cX2_append 20 = .ok (.iconst 0, 1) := dk_3 (dk_at dksX2_append_0 20 rfl rfl)
theorem dX2_append_21 : decode cX2_append 21 = .ok (.istore 6, 2) := dk_54 6 (dk_at dksX2_append_0 21 rfl rfl)
theorem dX2_append_23 : decode cX2_append 23 = .ok (.iload 6, 2) := dk_21 6 (dk_at dksX2_append_1 0 rfl rfl)
theorem dX2_append_25 : decode cX2_append 25 = .ok (.bipush 20, 2) := dk_16 20 (dk_at dksX2_append_1 2 rfl rfl)
theorem dX2_append_27 : decode cX2_append 27 = .ok (.if_icmp .ge 86, 3) := dk_162 0 86 (dk_at dksX2_append_1 4 rfl rfl)
theorem dX2_append_30 : decode cX2_append 30 = .ok (.iload 6, 2) := dk_21 6 (dk_at dksX2_append_1 7 rfl rfl)
theorem dX2_append_32 : decode cX2_append 32 = .ok (.iconst 4, 1) := dk_7 (dk_at dksX2_append_1 9 rfl rfl)
theorem dX2_append_33 : decode cX2_append 33 = .ok (.if_icmp .ge 7, 3) := dk_162 0 7 (dk_at dksX2_append_1 10 rfl rfl)
theorem dX2_append_36 : decode cX2_append 36 = .ok (.iload_n 1, 1) := dk_27 (dk_at dksX2_append_1 13 rfl rfl)
theorem dX2_append_37 : decode cX2_append 37 = .ok (.goto 39, 3) := dk_167 0 39 (dk_at dksX2_append_1 14 rfl rfl)
theorem dX2_append_40 : decode cX2_append 40 = .ok (.iload 6, 2) := dk_21 6 (dk_at dksX2_append_1 17 rfl rfl)
theorem dX2_append_42 : decode cX2_append 42 = .ok (.bipush 8, 2) := dk_16 8 (dk_at dksX2_append_1 19 rfl rfl)
theorem dX2_append_44 : decode cX2_append 44 = .ok (.if_icmp .ge 7, 3) := dk_162 0 7 (dk_at dksX2_append_1 21 rfl rfl)
theorem dX2_append_47 : decode cX2_append 47 = .ok (.iload_n 2, 1) := dk_28 (dk_at dksX2_append_2 0 rfl rfl)
theorem dX2_append_48 : decode cX2_append 48 = .ok (.goto 28, 3) := dk_167 0 28 (dk_at dksX2_append_2 1 rfl rfl)
theorem dX2_append_51 : decode cX2_append 51 = .ok (.iload 6, 2) := dk_21 6 (dk_at dksX2_append_2 4 rfl rfl)
theorem dX2_append_53 : decode cX2_append 53 = .ok (.bipush 12, 2) := dk_16 12 (dk_at dksX2_append_2 6 rfl rfl)
theorem dX2_append_55 : decode cX2_append 55 = .ok (.if_icmp .ge 7, 3) := dk_162 0 7 (dk_at dksX2_append_2 8 rfl rfl)
theorem dX2_append_58 : decode cX2_append 58 = .ok (.iload_n 3, 1) := dk_29 (dk_at dksX2_append_2 11 rfl rfl)
theorem dX2_append_59 : decode cX2_append 59 = .ok (.goto 17, 3) := dk_167 0 17 (dk_at dksX2_append_2 12 rfl rfl)
theorem dX2_append_62 : decode cX2_append 62 = .ok (.iload 6, 2) := dk_21 6 (dk_at dksX2_append_2 15 rfl rfl)
theorem dX2_append_64 : decode cX2_append 64 = .ok (.bipush 16, 2) := dk_16 16 (dk_at dksX2_append_2 17 rfl rfl)
theorem dX2_append_66 : decode cX2_append 66 = .ok (.if_icmp .ge 8, 3) := dk_162 0 8 (dk_at dksX2_append_2 19 rfl rfl)
theorem dX2_append_69 : decode cX2_append 69 = .ok (.iload 4, 2) := dk_21 4 (dk_at dksX2_append_2 22 rfl rfl)
theorem dX2_append_71 : decode cX2_append 71 = .ok (.goto 5, 3) := dk_167 0 5 (dk_at dksX2_append_3 0 rfl rfl)
theorem dX2_append_74 : decode cX2_append 74 = .ok (.iload 5, 2) := dk_21 5 (dk_at dksX2_append_3 3 rfl rfl)
theorem dX2_append_76 : decode cX2_append 76 = .ok (.istore 7, 2) := dk_54 7 (dk_at dksX2_append_3 5 rfl rfl)
theorem dX2_append_78 : decode cX2_append 78 = .ok (.aload_n 0, 1) := dk_42 (dk_at dksX2_append_3 7 rfl rfl)
theorem dX2_append_79 : decode cX2_append 79 = .ok (.getfield 23, 3) := dk_180 0 23 (dk_at dksX2_append_3 8 rfl rfl)
theorem dX2_append_82 : decode cX2_append 82 = .ok (.aload_n 0, 1) := dk_42 (dk_at dksX2_append_3 11 rfl rfl)
theorem dX2_append_83 : decode cX2_append 83 = .ok (.getfield 140, 3) := dk_180 0 140 (dk_at dksX2_append_3 12 rfl rfl)
theorem dX2_append_86 : decode cX2_append 86 = .ok (.iload 6, 2) := dk_21 6 (dk_at dksX2_append_3 15 rfl rfl)
theorem dX2_append_88 : decode cX2_append 88 = .ok (.iadd, 1) := dk_96 (dk_at dksX2_append_3 17 rfl rfl)
theorem dX2_append_89 : decode cX2_append 89 = .ok (.iload 7, 2) := dk_21 7 (dk_at dksX2_append_3 18 rfl rfl)
theorem dX2_append_91 : decode cX2_append 91 = .ok (.bipush 24, 2) := dk_16 24 (dk_at dksX2_append_3 20 rfl rfl)
theorem dX2_append_93 : decode cX2_append 93 = .ok (.bipush 8, 2) := dk_16 8 (dk_at dksX2_append_3 22 rfl rfl)
theorem dX2_append_95 : decode cX2_append 95 = .ok (.iload 6, 2) := dk_21 6 (dk_at dksX2_append_4 0 rfl rfl)
theorem dX2_append_97 : decode cX2_append 97 = .ok (.iconst 4, 1) := dk_7 (dk_at dksX2_append_4 2 rfl rfl)
theorem dX2_append_98 : decode cX2_append 98 = .ok (.irem, 1) := dk_112 (dk_at dksX2_append_4 3 rfl rfl)
theorem dX2_append_99 : decode cX2_append 99 = .ok (.imul, 1) := dk_104 (dk_at dksX2_append_4 4 rfl rfl)
theorem dX2_append_100 : decode cX2_append 100 = .ok (.isub, 1) := dk_100 (dk_at dksX2_append_4 5 rfl rfl)
theorem dX2_append_101 : decode cX2_append 101 = .ok (.ishr, 1) := dk_122 (dk_at dksX2_append_4 6 rfl rfl)
theorem dX2_append_102 : decode cX2_append 102 = .ok (.sipush 255, 3) := dk_17 0 255 (dk_at dksX2_append_4 7 rfl rfl)
theorem dX2_append_105 : decode cX2_append 105 = .ok (.iand, 1) := dk_126 (dk_at dksX2_append_4 10 rfl rfl)
theorem dX2_append_106 : decode cX2_append 106 = .ok (.iastore, 1) := dk_79 (dk_at dksX2_append_4 11 rfl rfl)
theorem dX2_append_107 : decode cX2_append 107 = .ok (.iinc 6 1, 3) := dk_132 6 1 (dk_at dksX2_append_4 12 rfl rfl)
theorem dX2_append_110 : decode cX2_append 110 = .ok (.goto (-87), 3) := dk_167 255 169 (dk_at dksX2_append_4 15 rfl rfl)
theorem dX2_append_113 : decode cX2_append 113 = .ok (.aload_n 0, 1) := dk_42 (dk_at dksX2_append_4 18 rfl rfl)
theorem dX2_append_114 : decode cX2_append 114 = .ok (.dup, 1) := dk_89 (dk_at dksX2_append_4 19 rfl rfl)
theorem dX2_append_115 : decode cX2_append 115 = .ok (.getfield 140, 3) := dk_180 0 140 (dk_at dksX2_append_4 20 rfl rfl)
theorem dX2_append_118 : decode cX2_append 118 = .ok (.bipush 20, 2) := dk_16 20 (dk_at dksX2_append_5 0 rfl rfl)
theorem dX2_append_120 : decode cX2_append 120 = .ok (.iadd, 1) := dk_96 (dk_at dksX2_append_5 2 rfl rfl)
theorem dX2_append_121 : decode cX2_append 121 = .ok (.putfield 140, 3) := dk_181 0 140 (dk_at dksX2_append_5 3 rfl rfl)
theorem dX2_append_124 : decode cX2_append 124 = .ok (.aload_n 0, 1) := dk_42 (dk_at dksX2_append_5 6 rfl rfl)
theorem dX2_append_125 : decode cX2_append 125 = .ok (.getfield 140, 3) := dk_180 0 140 (dk_at dksX2_append_5 7 rfl rfl)
theorem dX2_append_128 : decode cX2_append 128 = .ok (.ireturn, 1) := dk_172 (dk_at dksX2_append_5 10 rfl rfl)
abbrev cX2_buffered : ByteArray := prog_14_method_38_code
def yX2_buffered : MethodName := ⟨RX2, "buffered", "()I"⟩
def dkwX2_buffered_0 : List UInt8 := [42, 3, 181, 0, 36, 42, 180, 0, 140, 172]
abbrev dktX2_buffered_0 : List UInt8 := dkwX2_buffered_0 ++ []
theorem dksX2_buffered_0 : cX2_buffered.data.toList.drop 0 = dktX2_buffered_0 := by decide +kernel
theorem dX2_buffered_0 : decode cX2_buffered 0 = .ok (.aload_n 0, 1) := dk_42 (dk_at dksX2_buffered_0 0 rfl rfl)
theorem dX2_buffered_1 : decode cX2_buffered 1 = .ok (.iconst 0, 1) := dk_3 (dk_at dksX2_buffered_0 1 rfl rfl)
theorem dX2_buffered_2 : decode cX2_buffered 2 = .ok (.putfield 36, 3) := dk_181 0 36 (dk_at dksX2_buffered_0 2 rfl rfl)
theorem dX2_buffered_5 : decode cX2_buffered 5 = .ok (.aload_n 0, 1) := dk_42 (dk_at dksX2_buffered_0 5 rfl rfl)
theorem dX2_buffered_6 : decode cX2_buffered 6 = .ok (.getfield 140, 3) := dk_180 0 140 (dk_at dksX2_buffered_0 6 rfl rfl)
theorem dX2_buffered_9 : decode cX2_buffered 9 = .ok (.ireturn, 1) := dk_172 (dk_at dksX2_buffered_0 9 rfl rfl)
abbrev cX2_parseError : ByteArray := prog_14_method_39_code
def yX2_parseError : MethodName := ⟨RX2, "parseError", "()I"⟩
def dkwX2_parseError_0 : List UInt8 := [42, 3, 181, 0, 36, 42, 180, 0, 143, 172]
abbrev dktX2_parseError_0 : List UInt8 := dkwX2_parseError_0 ++ []
theorem dksX2_parseError_0 : cX2_parseError.data.toList.drop 0 = dktX2_parseError_0 := by decide +kernel
theorem dX2_parseError_0 : decode cX2_parseError 0 = .ok (.aload_n 0, 1) := dk_42 (dk_at dksX2_parseError_0 0 rfl rfl)
theorem dX2_parseError_1 : decode cX2_parseError 1 = .ok (.iconst 0, 1) := dk_3 (dk_at dksX2_parseError_0 1 rfl rfl)
theorem dX2_parseError_2 : decode cX2_parseError 2 = .ok (.putfield 36, 3) := dk_181 0 36 (dk_at dksX2_parseError_0 2 rfl rfl)
theorem dX2_parseError_5 : decode cX2_parseError 5 = .ok (.aload_n 0, 1) := dk_42 (dk_at dksX2_parseError_0 5 rfl rfl)
theorem dX2_parseError_6 : decode cX2_parseError 6 = .ok (.getfield 143, 3) := dk_180 0 143 (dk_at dksX2_parseError_0 6 rfl rfl)
theorem dX2_parseError_9 : decode cX2_parseError 9 = .ok (.ireturn, 1) := dk_172 (dk_at dksX2_parseError_0 9 rfl rfl)
abbrev cX2_errorPosition : ByteArray := prog_14_method_40_code
def yX2_errorPosition : MethodName := ⟨RX2, "errorPosition", "()I"⟩
def dkwX2_errorPosition_0 : List UInt8 := [42, 3, 181, 0, 36, 42, 180, 0, 26, 172]
abbrev dktX2_errorPosition_0 : List UInt8 := dkwX2_errorPosition_0 ++ []
theorem dksX2_errorPosition_0 : cX2_errorPosition.data.toList.drop 0 = dktX2_errorPosition_0 := by decide +kernel
theorem dX2_errorPosition_0 : decode cX2_errorPosition 0 = .ok (.aload_n 0, 1) := dk_42 (dk_at dksX2_errorPosition_0 0 rfl rfl)
theorem dX2_errorPosition_1 : decode cX2_errorPosition 1 = .ok (.iconst 0, 1) := dk_3 (dk_at dksX2_errorPosition_0 1 rfl rfl)
theorem dX2_errorPosition_2 : decode cX2_errorPosition 2 = .ok (.putfield 36, 3) := dk_181 0 36 (dk_at dksX2_errorPosition_0 2 rfl rfl)
theorem dX2_errorPosition_5 : decode cX2_errorPosition 5 = .ok (.aload_n 0, 1) := dk_42 (dk_at dksX2_errorPosition_0 5 rfl rfl)
theorem dX2_errorPosition_6 : decode cX2_errorPosition 6 = .ok (.getfield 26, 3) := dk_180 0 26 (dk_at dksX2_errorPosition_0 6 rfl rfl)
theorem dX2_errorPosition_9 : decode cX2_errorPosition 9 = .ok (.ireturn, 1) := dk_172 (dk_at dksX2_errorPosition_0 9 rfl rfl)
abbrev cX2_load : ByteArray := prog_14_method_57_code
def yX2_load : MethodName := ⟨RX2, "load", "(I)I"⟩
def dkwX2_load_8 : List UInt8 := [180, 0, 19, 3, 3, 84, 42, 180, 0, 19, 4, 3, 84, 42, 182, 0, 109, 172]
abbrev dktX2_load_8 : List UInt8 := dkwX2_load_8 ++ []
def dkwX2_load_7 : List UInt8 := [132, 2, 1, 167, 255, 235, 42, 3, 182, 0, 254, 172, 42, 4, 181, 0, 39, 42, 3, 181, 1, 1, 42]
abbrev dktX2_load_7 : List UInt8 := dkwX2_load_7 ++ dktX2_load_8
def dkwX2_load_6 : List UInt8 := [153, 0, 35, 3, 61, 28, 16, 26, 162, 0, 21, 42, 180, 0, 7, 28, 42, 180, 0, 30, 28, 46, 79]
abbrev dktX2_load_6 : List UInt8 := dkwX2_load_6 ++ dktX2_load_7
def dkwX2_load_5 : List UInt8 := [180, 0, 177, 181, 0, 26, 42, 42, 180, 0, 174, 153, 0, 7, 4, 167, 0, 4, 3, 5, 182, 0, 43]
abbrev dktX2_load_5 : List UInt8 := dkwX2_load_5 ++ dktX2_load_6
def dkwX2_load_4 : List UInt8 := [182, 0, 251, 42, 42, 180, 0, 174, 181, 0, 143, 42, 42, 180, 0, 174, 154, 0, 7, 2, 167, 0, 7, 42]
abbrev dktX2_load_4 : List UInt8 := dkwX2_load_4 ++ dktX2_load_5
def dkwX2_load_3 : List UInt8 := [181, 0, 146, 42, 3, 181, 0, 153, 42, 3, 181, 0, 174, 42, 2, 181, 0, 177, 42, 182, 0, 184, 42]
abbrev dktX2_load_3 : List UInt8 := dkwX2_load_3 ++ dktX2_load_4
def dkwX2_load_2 : List UInt8 := [180, 0, 30, 28, 42, 180, 0, 7, 28, 46, 79, 132, 2, 1, 167, 255, 235, 42, 3, 181, 0, 140, 42, 27]
abbrev dktX2_load_2 : List UInt8 := dkwX2_load_2 ++ dktX2_load_3
def dkwX2_load_1 : List UInt8 := [3, 4, 182, 0, 43, 153, 0, 5, 3, 172, 42, 182, 0, 248, 3, 61, 28, 16, 26, 162, 0, 21, 42]
abbrev dktX2_load_1 : List UInt8 := dkwX2_load_1 ++ dktX2_load_2
def dkwX2_load_0 : List UInt8 := [42, 3, 181, 0, 36, 42, 27, 133, 9, 42, 180, 0, 140, 133, 184, 0, 195, 154, 0, 7, 4, 167, 0, 4]
abbrev dktX2_load_0 : List UInt8 := dkwX2_load_0 ++ dktX2_load_1
theorem dksX2_load_0 : cX2_load.data.toList.drop 0 = dktX2_load_0 := by decide +kernel
theorem dksX2_load_1 : cX2_load.data.toList.drop 24 = dktX2_load_1 := dk_seg dksX2_load_0 24 rfl rfl
theorem dksX2_load_2 : cX2_load.data.toList.drop 47 = dktX2_load_2 := dk_seg dksX2_load_1 23 rfl rfl
theorem dksX2_load_3 : cX2_load.data.toList.drop 71 = dktX2_load_3 := dk_seg dksX2_load_2 24 rfl rfl
theorem dksX2_load_4 : cX2_load.data.toList.drop 94 = dktX2_load_4 := dk_seg dksX2_load_3 23 rfl rfl
theorem dksX2_load_5 : cX2_load.data.toList.drop 118 = dktX2_load_5 := dk_seg dksX2_load_4 24 rfl rfl
theorem dksX2_load_6 : cX2_load.data.toList.drop 141 = dktX2_load_6 := dk_seg dksX2_load_5 23 rfl rfl
theorem dksX2_load_7 : cX2_load.data.toList.drop 164 = dktX2_load_7 := dk_seg dksX2_load_6 23 rfl rfl
theorem dksX2_load_8 : cX2_load.data.toList.drop 187 = dktX2_load_8 := dk_seg dksX2_load_7 23 rfl rfl
theorem dX2_load_0 : decode cX2_load 0 = .ok (.aload_n 0, 1) := dk_42 (dk_at dksX2_load_0 0 rfl rfl)
theorem dX2_load_1 : decode cX2_load 1 = .ok (.iconst 0, 1) := dk_3 (dk_at dksX2_load_0 1 rfl rfl)
theorem dX2_load_2 : decode cX2_load 2 = .ok (.putfield 36, 3) := dk_181 0 36 (dk_at dksX2_load_0 2 rfl rfl)
theorem dX2_load_5 : decode cX2_load 5 = .ok (.aload_n 0, 1) := dk_42 (dk_at dksX2_load_0 5 rfl rfl)
theorem dX2_load_6 : decode cX2_load 6 = .ok (.iload_n 1, 1) := dk_27 (dk_at dksX2_load_0 6 rfl rfl)
theorem dX2_load_7 : decode cX2_load 7 = .ok (.i2l, 1) := dk_133 (dk_at dksX2_load_0 7 rfl rfl)
theorem dX2_load_8 : decode cX2_load 8 = .ok (.lconst 0, 1) := dk_9 (dk_at dksX2_load_0 8 rfl rfl)
theorem dX2_load_9 : decode cX2_load 9 = .ok (.aload_n 0, 1) := dk_42 (dk_at dksX2_load_0 9 rfl rfl)
theorem dX2_load_10 : decode cX2_load 10 = .ok (.getfield 140, 3) := dk_180 0 140 (dk_at dksX2_load_0 10 rfl rfl)
theorem dX2_load_13 : decode cX2_load 13 = .ok (.i2l, 1) := dk_133 (dk_at dksX2_load_0 13 rfl rfl)
theorem dX2_load_14 : decode cX2_load 14 = .ok (.invokestatic 195, 3) := dk_184 0 195 (dk_at dksX2_load_0 14 rfl rfl)
theorem dX2_load_17 : decode cX2_load 17 = .ok (.ifCond .ne 7, 3) := dk_154 0 7 (dk_at dksX2_load_0 17 rfl rfl)
theorem dX2_load_20 : decode cX2_load 20 = .ok (.iconst 1, 1) := dk_4 (dk_at dksX2_load_0 20 rfl rfl)
theorem dX2_load_21 : decode cX2_load 21 = .ok (.goto 4, 3) := dk_167 0 4 (dk_at dksX2_load_0 21 rfl rfl)
theorem dX2_load_24 : decode cX2_load 24 = .ok (.iconst 0, 1) := dk_3 (dk_at dksX2_load_1 0 rfl rfl)
theorem dX2_load_25 : decode cX2_load 25 = .ok (.iconst 1, 1) := dk_4 (dk_at dksX2_load_1 1 rfl rfl)
theorem dX2_load_26 : decode cX2_load 26 = .ok (.invokevirtual 43, 3) := dk_182 0 43 (dk_at dksX2_load_1 2 rfl rfl)
theorem dX2_load_29 : decode cX2_load 29 = .ok (.ifCond .eq 5, 3) := dk_153 0 5 (dk_at dksX2_load_1 5 rfl rfl)
theorem dX2_load_32 : decode cX2_load 32 = .ok (.iconst 0, 1) := dk_3 (dk_at dksX2_load_1 8 rfl rfl)
theorem dX2_load_33 : decode cX2_load 33 = .ok (.ireturn, 1) := dk_172 (dk_at dksX2_load_1 9 rfl rfl)
theorem dX2_load_34 : decode cX2_load 34 = .ok (.aload_n 0, 1) := dk_42 (dk_at dksX2_load_1 10 rfl rfl)
theorem dX2_load_35 : decode cX2_load 35 = .ok (.invokevirtual 248, 3) := dk_182 0 248 (dk_at dksX2_load_1 11 rfl rfl)
theorem dX2_load_38 : decode cX2_load 38 = .ok (.iconst 0, 1) := dk_3 (dk_at dksX2_load_1 14 rfl rfl)
theorem dX2_load_39 : decode cX2_load 39 = .ok (.istore_n 2, 1) := dk_61 (dk_at dksX2_load_1 15 rfl rfl)
theorem dX2_load_40 : decode cX2_load 40 = .ok (.iload_n 2, 1) := dk_28 (dk_at dksX2_load_1 16 rfl rfl)
theorem dX2_load_41 : decode cX2_load 41 = .ok (.bipush 26, 2) := dk_16 26 (dk_at dksX2_load_1 17 rfl rfl)
theorem dX2_load_43 : decode cX2_load 43 = .ok (.if_icmp .ge 21, 3) := dk_162 0 21 (dk_at dksX2_load_1 19 rfl rfl)
theorem dX2_load_46 : decode cX2_load 46 = .ok (.aload_n 0, 1) := dk_42 (dk_at dksX2_load_1 22 rfl rfl)
theorem dX2_load_47 : decode cX2_load 47 = .ok (.getfield 30, 3) := dk_180 0 30 (dk_at dksX2_load_2 0 rfl rfl)
theorem dX2_load_50 : decode cX2_load 50 = .ok (.iload_n 2, 1) := dk_28 (dk_at dksX2_load_2 3 rfl rfl)
theorem dX2_load_51 : decode cX2_load 51 = .ok (.aload_n 0, 1) := dk_42 (dk_at dksX2_load_2 4 rfl rfl)
theorem dX2_load_52 : decode cX2_load 52 = .ok (.getfield 7, 3) := dk_180 0 7 (dk_at dksX2_load_2 5 rfl rfl)
theorem dX2_load_55 : decode cX2_load 55 = .ok (.iload_n 2, 1) := dk_28 (dk_at dksX2_load_2 8 rfl rfl)
theorem dX2_load_56 : decode cX2_load 56 = .ok (.iaload, 1) := dk_46 (dk_at dksX2_load_2 9 rfl rfl)
theorem dX2_load_57 : decode cX2_load 57 = .ok (.iastore, 1) := dk_79 (dk_at dksX2_load_2 10 rfl rfl)
theorem dX2_load_58 : decode cX2_load 58 = .ok (.iinc 2 1, 3) := dk_132 2 1 (dk_at dksX2_load_2 11 rfl rfl)
theorem dX2_load_61 : decode cX2_load 61 = .ok (.goto (-21), 3) := dk_167 255 235 (dk_at dksX2_load_2 14 rfl rfl)
theorem dX2_load_64 : decode cX2_load 64 = .ok (.aload_n 0, 1) := dk_42 (dk_at dksX2_load_2 17 rfl rfl)
theorem dX2_load_65 : decode cX2_load 65 = .ok (.iconst 0, 1) := dk_3 (dk_at dksX2_load_2 18 rfl rfl)
theorem dX2_load_66 : decode cX2_load 66 = .ok (.putfield 140, 3) := dk_181 0 140 (dk_at dksX2_load_2 19 rfl rfl)
theorem dX2_load_69 : decode cX2_load 69 = .ok (.aload_n 0, 1) := dk_42 (dk_at dksX2_load_2 22 rfl rfl)
theorem dX2_load_70 : decode cX2_load 70 = .ok (.iload_n 1, 1) := dk_27 (dk_at dksX2_load_2 23 rfl rfl)
theorem dX2_load_71 : decode cX2_load 71 = .ok (.putfield 146, 3) := dk_181 0 146 (dk_at dksX2_load_3 0 rfl rfl)
theorem dX2_load_74 : decode cX2_load 74 = .ok (.aload_n 0, 1) := dk_42 (dk_at dksX2_load_3 3 rfl rfl)
theorem dX2_load_75 : decode cX2_load 75 = .ok (.iconst 0, 1) := dk_3 (dk_at dksX2_load_3 4 rfl rfl)
theorem dX2_load_76 : decode cX2_load 76 = .ok (.putfield 153, 3) := dk_181 0 153 (dk_at dksX2_load_3 5 rfl rfl)
theorem dX2_load_79 : decode cX2_load 79 = .ok (.aload_n 0, 1) := dk_42 (dk_at dksX2_load_3 8 rfl rfl)
theorem dX2_load_80 : decode cX2_load 80 = .ok (.iconst 0, 1) := dk_3 (dk_at dksX2_load_3 9 rfl rfl)
theorem dX2_load_81 : decode cX2_load 81 = .ok (.putfield 174, 3) := dk_181 0 174 (dk_at dksX2_load_3 10 rfl rfl)
theorem dX2_load_84 : decode cX2_load 84 = .ok (.aload_n 0, 1) := dk_42 (dk_at dksX2_load_3 13 rfl rfl)
theorem dX2_load_85 : decode cX2_load 85 = .ok (.iconst (-1), 1) := dk_2 (dk_at dksX2_load_3 14 rfl rfl)
theorem dX2_load_86 : decode cX2_load 86 = .ok (.putfield 177, 3) := dk_181 0 177 (dk_at dksX2_load_3 15 rfl rfl)
theorem dX2_load_89 : decode cX2_load 89 = .ok (.aload_n 0, 1) := dk_42 (dk_at dksX2_load_3 18 rfl rfl)
theorem dX2_load_90 : decode cX2_load 90 = .ok (.invokevirtual 184, 3) := dk_182 0 184 (dk_at dksX2_load_3 19 rfl rfl)
theorem dX2_load_93 : decode cX2_load 93 = .ok (.aload_n 0, 1) := dk_42 (dk_at dksX2_load_3 22 rfl rfl)
theorem dX2_load_94 : decode cX2_load 94 = .ok (.invokevirtual 251, 3) := dk_182 0 251 (dk_at dksX2_load_4 0 rfl rfl)
theorem dX2_load_97 : decode cX2_load 97 = .ok (.aload_n 0, 1) := dk_42 (dk_at dksX2_load_4 3 rfl rfl)
theorem dX2_load_98 : decode cX2_load 98 = .ok (.aload_n 0, 1) := dk_42 (dk_at dksX2_load_4 4 rfl rfl)
theorem dX2_load_99 : decode cX2_load 99 = .ok (.getfield 174, 3) := dk_180 0 174 (dk_at dksX2_load_4 5 rfl rfl)
theorem dX2_load_102 : decode cX2_load 102 = .ok (.putfield 143, 3) := dk_181 0 143 (dk_at dksX2_load_4 8 rfl rfl)
theorem dX2_load_105 : decode cX2_load 105 = .ok (.aload_n 0, 1) := dk_42 (dk_at dksX2_load_4 11 rfl rfl)
theorem dX2_load_106 : decode cX2_load 106 = .ok (.aload_n 0, 1) := dk_42 (dk_at dksX2_load_4 12 rfl rfl)
theorem dX2_load_107 : decode cX2_load 107 = .ok (.getfield 174, 3) := dk_180 0 174 (dk_at dksX2_load_4 13 rfl rfl)
theorem dX2_load_110 : decode cX2_load 110 = .ok (.ifCond .ne 7, 3) := dk_154 0 7 (dk_at dksX2_load_4 16 rfl rfl)
theorem dX2_load_113 : decode cX2_load 113 = .ok (.iconst (-1), 1) := dk_2 (dk_at dksX2_load_4 19 rfl rfl)
theorem dX2_load_114 : decode cX2_load 114 = .ok (.goto 7, 3) := dk_167 0 7 (dk_at dksX2_load_4 20 rfl rfl)
theorem dX2_load_117 : decode cX2_load 117 = .ok (.aload_n 0, 1) := dk_42 (dk_at dksX2_load_4 23 rfl rfl)
theorem dX2_load_118 : decode cX2_load 118 = .ok (.getfield 177, 3) := dk_180 0 177 (dk_at dksX2_load_5 0 rfl rfl)
theorem dX2_load_121 : decode cX2_load 121 = .ok (.putfield 26, 3) := dk_181 0 26 (dk_at dksX2_load_5 3 rfl rfl)
theorem dX2_load_124 : decode cX2_load 124 = .ok (.aload_n 0, 1) := dk_42 (dk_at dksX2_load_5 6 rfl rfl)
theorem dX2_load_125 : decode cX2_load 125 = .ok (.aload_n 0, 1) := dk_42 (dk_at dksX2_load_5 7 rfl rfl)
theorem dX2_load_126 : decode cX2_load 126 = .ok (.getfield 174, 3) := dk_180 0 174 (dk_at dksX2_load_5 8 rfl rfl)
theorem dX2_load_129 : decode cX2_load 129 = .ok (.ifCond .eq 7, 3) := dk_153 0 7 (dk_at dksX2_load_5 11 rfl rfl)
theorem dX2_load_132 : decode cX2_load 132 = .ok (.iconst 1, 1) := dk_4 (dk_at dksX2_load_5 14 rfl rfl)
theorem dX2_load_133 : decode cX2_load 133 = .ok (.goto 4, 3) := dk_167 0 4 (dk_at dksX2_load_5 15 rfl rfl)
theorem dX2_load_136 : decode cX2_load 136 = .ok (.iconst 0, 1) := dk_3 (dk_at dksX2_load_5 18 rfl rfl)
theorem dX2_load_137 : decode cX2_load 137 = .ok (.iconst 2, 1) := dk_5 (dk_at dksX2_load_5 19 rfl rfl)
theorem dX2_load_138 : decode cX2_load 138 = .ok (.invokevirtual 43, 3) := dk_182 0 43 (dk_at dksX2_load_5 20 rfl rfl)
theorem dX2_load_141 : decode cX2_load 141 = .ok (.ifCond .eq 35, 3) := dk_153 0 35 (dk_at dksX2_load_6 0 rfl rfl)
theorem dX2_load_144 : decode cX2_load 144 = .ok (.iconst 0, 1) := dk_3 (dk_at dksX2_load_6 3 rfl rfl)
theorem dX2_load_145 : decode cX2_load 145 = .ok (.istore_n 2, 1) := dk_61 (dk_at dksX2_load_6 4 rfl rfl)
theorem dX2_load_146 : decode cX2_load 146 = .ok (.iload_n 2, 1) := dk_28 (dk_at dksX2_load_6 5 rfl rfl)
theorem dX2_load_147 : decode cX2_load 147 = .ok (.bipush 26, 2) := dk_16 26 (dk_at dksX2_load_6 6 rfl rfl)
theorem dX2_load_149 : decode cX2_load 149 = .ok (.if_icmp .ge 21, 3) := dk_162 0 21 (dk_at dksX2_load_6 8 rfl rfl)
theorem dX2_load_152 : decode cX2_load 152 = .ok (.aload_n 0, 1) := dk_42 (dk_at dksX2_load_6 11 rfl rfl)
theorem dX2_load_153 : decode cX2_load 153 = .ok (.getfield 7, 3) := dk_180 0 7 (dk_at dksX2_load_6 12 rfl rfl)
theorem dX2_load_156 : decode cX2_load 156 = .ok (.iload_n 2, 1) := dk_28 (dk_at dksX2_load_6 15 rfl rfl)
theorem dX2_load_157 : decode cX2_load 157 = .ok (.aload_n 0, 1) := dk_42 (dk_at dksX2_load_6 16 rfl rfl)
theorem dX2_load_158 : decode cX2_load 158 = .ok (.getfield 30, 3) := dk_180 0 30 (dk_at dksX2_load_6 17 rfl rfl)
theorem dX2_load_161 : decode cX2_load 161 = .ok (.iload_n 2, 1) := dk_28 (dk_at dksX2_load_6 20 rfl rfl)
theorem dX2_load_162 : decode cX2_load 162 = .ok (.iaload, 1) := dk_46 (dk_at dksX2_load_6 21 rfl rfl)
theorem dX2_load_163 : decode cX2_load 163 = .ok (.iastore, 1) := dk_79 (dk_at dksX2_load_6 22 rfl rfl)
theorem dX2_load_164 : decode cX2_load 164 = .ok (.iinc 2 1, 3) := dk_132 2 1 (dk_at dksX2_load_7 0 rfl rfl)
theorem dX2_load_167 : decode cX2_load 167 = .ok (.goto (-21), 3) := dk_167 255 235 (dk_at dksX2_load_7 3 rfl rfl)
theorem dX2_load_170 : decode cX2_load 170 = .ok (.aload_n 0, 1) := dk_42 (dk_at dksX2_load_7 6 rfl rfl)
theorem dX2_load_171 : decode cX2_load 171 = .ok (.iconst 0, 1) := dk_3 (dk_at dksX2_load_7 7 rfl rfl)
theorem dX2_load_172 : decode cX2_load 172 = .ok (.invokevirtual 254, 3) := dk_182 0 254 (dk_at dksX2_load_7 8 rfl rfl)
theorem dX2_load_175 : decode cX2_load 175 = .ok (.ireturn, 1) := dk_172 (dk_at dksX2_load_7 11 rfl rfl)
theorem dX2_load_176 : decode cX2_load 176 = .ok (.aload_n 0, 1) := dk_42 (dk_at dksX2_load_7 12 rfl rfl)
theorem dX2_load_177 : decode cX2_load 177 = .ok (.iconst 1, 1) := dk_4 (dk_at dksX2_load_7 13 rfl rfl)
theorem dX2_load_178 : decode cX2_load 178 = .ok (.putfield 39, 3) := dk_181 0 39 (dk_at dksX2_load_7 14 rfl rfl)
theorem dX2_load_181 : decode cX2_load 181 = .ok (.aload_n 0, 1) := dk_42 (dk_at dksX2_load_7 17 rfl rfl)
theorem dX2_load_182 : decode cX2_load 182 = .ok (.iconst 0, 1) := dk_3 (dk_at dksX2_load_7 18 rfl rfl)
theorem dX2_load_183 : decode cX2_load 183 = .ok (.putfield 257, 3) := dk_181 1 1 (dk_at dksX2_load_7 19 rfl rfl)
theorem dX2_load_186 : decode cX2_load 186 = .ok (.aload_n 0, 1) := dk_42 (dk_at dksX2_load_7 22 rfl rfl)
theorem dX2_load_187 : decode cX2_load 187 = .ok (.getfield 19, 3) := dk_180 0 19 (dk_at dksX2_load_8 0 rfl rfl)
theorem dX2_load_190 : decode cX2_load 190 = .ok (.iconst 0, 1) := dk_3 (dk_at dksX2_load_8 3 rfl rfl)
theorem dX2_load_191 : decode cX2_load 191 = .ok (.iconst 0, 1) := dk_3 (dk_at dksX2_load_8 4 rfl rfl)
theorem dX2_load_192 : decode cX2_load 192 = .ok (.bastore, 1) := dk_84 (dk_at dksX2_load_8 5 rfl rfl)
theorem dX2_load_193 : decode cX2_load 193 = .ok (.aload_n 0, 1) := dk_42 (dk_at dksX2_load_8 6 rfl rfl)
theorem dX2_load_194 : decode cX2_load 194 = .ok (.getfield 19, 3) := dk_180 0 19 (dk_at dksX2_load_8 7 rfl rfl)
theorem dX2_load_197 : decode cX2_load 197 = .ok (.iconst 1, 1) := dk_4 (dk_at dksX2_load_8 10 rfl rfl)
theorem dX2_load_198 : decode cX2_load 198 = .ok (.iconst 0, 1) := dk_3 (dk_at dksX2_load_8 11 rfl rfl)
theorem dX2_load_199 : decode cX2_load 199 = .ok (.bastore, 1) := dk_84 (dk_at dksX2_load_8 12 rfl rfl)
theorem dX2_load_200 : decode cX2_load 200 = .ok (.aload_n 0, 1) := dk_42 (dk_at dksX2_load_8 13 rfl rfl)
theorem dX2_load_201 : decode cX2_load 201 = .ok (.invokevirtual 109, 3) := dk_182 0 109 (dk_at dksX2_load_8 14 rfl rfl)
theorem dX2_load_204 : decode cX2_load 204 = .ok (.ireturn, 1) := dk_172 (dk_at dksX2_load_8 17 rfl rfl)
abbrev cX2_in : ByteArray := prog_14_method_3_code
def yX2_in : MethodName := ⟨RX2, "in", "(JJJ)Z"⟩
def dkwX2_in_0 : List UInt8 := [30, 32, 148, 155, 0, 14, 30, 22, 4, 148, 157, 0, 7, 4, 167, 0, 4, 3, 172]
abbrev dktX2_in_0 : List UInt8 := dkwX2_in_0 ++ []
theorem dksX2_in_0 : cX2_in.data.toList.drop 0 = dktX2_in_0 := by decide +kernel
theorem dX2_in_0 : decode cX2_in 0 = .ok (.lload_n 0, 1) := dk_30 (dk_at dksX2_in_0 0 rfl rfl)
theorem dX2_in_1 : decode cX2_in 1 = .ok (.lload_n 2, 1) := dk_32 (dk_at dksX2_in_0 1 rfl rfl)
theorem dX2_in_2 : decode cX2_in 2 = .ok (.lcmp, 1) := dk_148 (dk_at dksX2_in_0 2 rfl rfl)
theorem dX2_in_3 : decode cX2_in 3 = .ok (.ifCond .lt 14, 3) := dk_155 0 14 (dk_at dksX2_in_0 3 rfl rfl)
theorem dX2_in_6 : decode cX2_in 6 = .ok (.lload_n 0, 1) := dk_30 (dk_at dksX2_in_0 6 rfl rfl)
theorem dX2_in_7 : decode cX2_in 7 = .ok (.lload 4, 2) := dk_22 4 (dk_at dksX2_in_0 7 rfl rfl)
theorem dX2_in_9 : decode cX2_in 9 = .ok (.lcmp, 1) := dk_148 (dk_at dksX2_in_0 9 rfl rfl)
theorem dX2_in_10 : decode cX2_in 10 = .ok (.ifCond .gt 7, 3) := dk_157 0 7 (dk_at dksX2_in_0 10 rfl rfl)
theorem dX2_in_13 : decode cX2_in 13 = .ok (.iconst 1, 1) := dk_4 (dk_at dksX2_in_0 13 rfl rfl)
theorem dX2_in_14 : decode cX2_in 14 = .ok (.goto 4, 3) := dk_167 0 4 (dk_at dksX2_in_0 14 rfl rfl)
theorem dX2_in_17 : decode cX2_in 17 = .ok (.iconst 0, 1) := dk_3 (dk_at dksX2_in_0 17 rfl rfl)
theorem dX2_in_18 : decode cX2_in 18 = .ok (.ireturn, 1) := dk_172 (dk_at dksX2_in_0 18 rfl rfl)
abbrev cX2_refuse : ByteArray := prog_14_method_5_code
def yX2_refuse : MethodName := ⟨RX2, "refuse", "(ZI)Z"⟩
def dkwX2_refuse_1 : List UInt8 := [167, 0, 4, 3, 172]
abbrev dktX2_refuse_1 : List UInt8 := dkwX2_refuse_1 ++ []
def dkwX2_refuse_0 : List UInt8 := [42, 180, 0, 36, 154, 0, 12, 27, 153, 0, 8, 42, 28, 181, 0, 36, 42, 180, 0, 36, 153, 0, 7, 4]
abbrev dktX2_refuse_0 : List UInt8 := dkwX2_refuse_0 ++ dktX2_refuse_1
theorem dksX2_refuse_0 : cX2_refuse.data.toList.drop 0 = dktX2_refuse_0 := by decide +kernel
theorem dksX2_refuse_1 : cX2_refuse.data.toList.drop 24 = dktX2_refuse_1 := dk_seg dksX2_refuse_0 24 rfl rfl
theorem dX2_refuse_0 : decode cX2_refuse 0 = .ok (.aload_n 0, 1) := dk_42 (dk_at dksX2_refuse_0 0 rfl rfl)
theorem dX2_refuse_1 : decode cX2_refuse 1 = .ok (.getfield 36, 3) := dk_180 0 36 (dk_at dksX2_refuse_0 1 rfl rfl)
theorem dX2_refuse_4 : decode cX2_refuse 4 = .ok (.ifCond .ne 12, 3) := dk_154 0 12 (dk_at dksX2_refuse_0 4 rfl rfl)
theorem dX2_refuse_7 : decode cX2_refuse 7 = .ok (.iload_n 1, 1) := dk_27 (dk_at dksX2_refuse_0 7 rfl rfl)
theorem dX2_refuse_8 : decode cX2_refuse 8 = .ok (.ifCond .eq 8, 3) := dk_153 0 8 (dk_at dksX2_refuse_0 8 rfl rfl)
theorem dX2_refuse_11 : decode cX2_refuse 11 = .ok (.aload_n 0, 1) := dk_42 (dk_at dksX2_refuse_0 11 rfl rfl)
theorem dX2_refuse_12 : decode cX2_refuse 12 = .ok (.iload_n 2, 1) := dk_28 (dk_at dksX2_refuse_0 12 rfl rfl)
theorem dX2_refuse_13 : decode cX2_refuse 13 = .ok (.putfield 36, 3) := dk_181 0 36 (dk_at dksX2_refuse_0 13 rfl rfl)
theorem dX2_refuse_16 : decode cX2_refuse 16 = .ok (.aload_n 0, 1) := dk_42 (dk_at dksX2_refuse_0 16 rfl rfl)
theorem dX2_refuse_17 : decode cX2_refuse 17 = .ok (.getfield 36, 3) := dk_180 0 36 (dk_at dksX2_refuse_0 17 rfl rfl)
theorem dX2_refuse_20 : decode cX2_refuse 20 = .ok (.ifCond .eq 7, 3) := dk_153 0 7 (dk_at dksX2_refuse_0 20 rfl rfl)
theorem dX2_refuse_23 : decode cX2_refuse 23 = .ok (.iconst 1, 1) := dk_4 (dk_at dksX2_refuse_0 23 rfl rfl)
theorem dX2_refuse_24 : decode cX2_refuse 24 = .ok (.goto 4, 3) := dk_167 0 4 (dk_at dksX2_refuse_1 0 rfl rfl)
theorem dX2_refuse_27 : decode cX2_refuse 27 = .ok (.iconst 0, 1) := dk_3 (dk_at dksX2_refuse_1 3 rfl rfl)
theorem dX2_refuse_28 : decode cX2_refuse 28 = .ok (.ireturn, 1) := dk_172 (dk_at dksX2_refuse_1 4 rfl rfl)
abbrev cX2_laysAside : ByteArray := prog_14_method_8_code
def yX2_laysAside : MethodName := ⟨RX2, "laysAside", "()V"⟩
def dkwX2_laysAside_0 : List UInt8 := [42, 180, 0, 13, 3, 42, 180, 0, 16, 17, 10, 170, 184, 0, 47, 177]
abbrev dktX2_laysAside_0 : List UInt8 := dkwX2_laysAside_0 ++ []
theorem dksX2_laysAside_0 : cX2_laysAside.data.toList.drop 0 = dktX2_laysAside_0 := by decide +kernel
theorem dX2_laysAside_0 : decode cX2_laysAside 0 = .ok (.aload_n 0, 1) := dk_42 (dk_at dksX2_laysAside_0 0 rfl rfl)
theorem dX2_laysAside_1 : decode cX2_laysAside 1 = .ok (.getfield 13, 3) := dk_180 0 13 (dk_at dksX2_laysAside_0 1 rfl rfl)
theorem dX2_laysAside_4 : decode cX2_laysAside 4 = .ok (.iconst 0, 1) := dk_3 (dk_at dksX2_laysAside_0 4 rfl rfl)
theorem dX2_laysAside_5 : decode cX2_laysAside 5 = .ok (.aload_n 0, 1) := dk_42 (dk_at dksX2_laysAside_0 5 rfl rfl)
theorem dX2_laysAside_6 : decode cX2_laysAside 6 = .ok (.getfield 16, 3) := dk_180 0 16 (dk_at dksX2_laysAside_0 6 rfl rfl)
theorem dX2_laysAside_9 : decode cX2_laysAside 9 = .ok (.sipush 2730, 3) := dk_17 10 170 (dk_at dksX2_laysAside_0 9 rfl rfl)
theorem dX2_laysAside_12 : decode cX2_laysAside 12 = .ok (.invokestatic 47, 3) := dk_184 0 47 (dk_at dksX2_laysAside_0 12 rfl rfl)
theorem dX2_laysAside_15 : decode cX2_laysAside 15 = .ok (.return_, 1) := dk_177 (dk_at dksX2_laysAside_0 15 rfl rfl)
abbrev cX2_copies : ByteArray := prog_14_method_7_code
def yX2_copies : MethodName := ⟨RX2, "copies", "([II[II)V"⟩
def dkwX2_copies_1 : List UInt8 := [132, 4, 1, 167, 255, 233, 177]
abbrev dktX2_copies_1 : List UInt8 := dkwX2_copies_1 ++ []
def dkwX2_copies_0 : List UInt8 := [3, 54, 4, 21, 4, 17, 1, 17, 162, 0, 21, 44, 29, 21, 4, 96, 42, 27, 21, 4, 96, 46, 79]
abbrev dktX2_copies_0 : List UInt8 := dkwX2_copies_0 ++ dktX2_copies_1
theorem dksX2_copies_0 : cX2_copies.data.toList.drop 0 = dktX2_copies_0 := by decide +kernel
theorem dksX2_copies_1 : cX2_copies.data.toList.drop 23 = dktX2_copies_1 := dk_seg dksX2_copies_0 23 rfl rfl
theorem dX2_copies_0 : decode cX2_copies 0 = .ok (.iconst 0, 1) := dk_3 (dk_at dksX2_copies_0 0 rfl rfl)
theorem dX2_copies_1 : decode cX2_copies 1 = .ok (.istore 4, 2) := dk_54 4 (dk_at dksX2_copies_0 1 rfl rfl)
theorem dX2_copies_3 : decode cX2_copies 3 = .ok (.iload 4, 2) := dk_21 4 (dk_at dksX2_copies_0 3 rfl rfl)
theorem dX2_copies_5 : decode cX2_copies 5 = .ok (.sipush 273, 3) := dk_17 1 17 (dk_at dksX2_copies_0 5 rfl rfl)
theorem dX2_copies_8 : decode cX2_copies 8 = .ok (.if_icmp .ge 21, 3) := dk_162 0 21 (dk_at dksX2_copies_0 8 rfl rfl)
theorem dX2_copies_11 : decode cX2_copies 11 = .ok (.aload_n 2, 1) := dk_44 (dk_at dksX2_copies_0 11 rfl rfl)
theorem dX2_copies_12 : decode cX2_copies 12 = .ok (.iload_n 3, 1) := dk_29 (dk_at dksX2_copies_0 12 rfl rfl)
theorem dX2_copies_13 : decode cX2_copies 13 = .ok (.iload 4, 2) := dk_21 4 (dk_at dksX2_copies_0 13 rfl rfl)
theorem dX2_copies_15 : decode cX2_copies 15 = .ok (.iadd, 1) := dk_96 (dk_at dksX2_copies_0 15 rfl rfl)
theorem dX2_copies_16 : decode cX2_copies 16 = .ok (.aload_n 0, 1) := dk_42 (dk_at dksX2_copies_0 16 rfl rfl)
theorem dX2_copies_17 : decode cX2_copies 17 = .ok (.iload_n 1, 1) := dk_27 (dk_at dksX2_copies_0 17 rfl rfl)
theorem dX2_copies_18 : decode cX2_copies 18 = .ok (.iload 4, 2) := dk_21 4 (dk_at dksX2_copies_0 18 rfl rfl)
theorem dX2_copies_20 : decode cX2_copies 20 = .ok (.iadd, 1) := dk_96 (dk_at dksX2_copies_0 20 rfl rfl)
theorem dX2_copies_21 : decode cX2_copies 21 = .ok (.iaload, 1) := dk_46 (dk_at dksX2_copies_0 21 rfl rfl)
theorem dX2_copies_22 : decode cX2_copies 22 = .ok (.iastore, 1) := dk_79 (dk_at dksX2_copies_0 22 rfl rfl)
theorem dX2_copies_23 : decode cX2_copies 23 = .ok (.iinc 4 1, 3) := dk_132 4 1 (dk_at dksX2_copies_1 0 rfl rfl)
theorem dX2_copies_26 : decode cX2_copies 26 = .ok (.goto (-23), 3) := dk_167 255 233 (dk_at dksX2_copies_1 3 rfl rfl)
theorem dX2_copies_29 : decode cX2_copies 29 = .ok (.return_, 1) := dk_177 (dk_at dksX2_copies_1 6 rfl rfl)
abbrev cX2_token : ByteArray := prog_14_method_45_code
def yX2_token : MethodName := ⟨RX2, "token", "()V"⟩
def dkwX2_token_12 : List UInt8 := [167, 0, 4, 7, 181, 0, 162, 42, 89, 180, 0, 153, 4, 96, 181, 0, 153, 177]
abbrev dktX2_token_12 : List UInt8 := dkwX2_token_12 ++ []
def dkwX2_token_11 : List UInt8 := [100, 8, 162, 0, 7, 5, 167, 0, 4, 7, 181, 0, 162, 167, 0, 28, 42, 27, 16, 59, 160, 0, 7, 6]
abbrev dktX2_token_11 : List UInt8 := dkwX2_token_11 ++ dktX2_token_12
def dkwX2_token_10 : List UInt8 := [180, 0, 159, 100, 8, 160, 0, 7, 8, 167, 0, 25, 28, 153, 0, 20, 42, 180, 0, 153, 42, 180, 0, 159]
abbrev dktX2_token_10 : List UInt8 := dkwX2_token_10 ++ dktX2_token_11
def dkwX2_token_9 : List UInt8 := [181, 0, 171, 42, 89, 180, 0, 153, 4, 96, 181, 0, 153, 167, 255, 164, 42, 42, 180, 0, 153, 42]
abbrev dktX2_token_9 : List UInt8 := dkwX2_token_9 ++ dktX2_token_10
def dkwX2_token_8 : List UInt8 := [16, 10, 42, 180, 0, 171, 104, 42, 42, 180, 0, 153, 182, 0, 156, 96, 16, 48, 100, 167, 0, 4, 3]
abbrev dktX2_token_8 : List UInt8 := dkwX2_token_8 ++ dktX2_token_9
def dkwX2_token_7 : List UInt8 := [4, 167, 0, 4, 3, 61, 42, 28, 153, 0, 38, 42, 180, 0, 153, 42, 180, 0, 159, 100, 7, 162, 0, 25]
abbrev dktX2_token_7 : List UInt8 := dkwX2_token_7 ++ dktX2_token_8
def dkwX2_token_6 : List UInt8 := [184, 0, 168, 153, 0, 84, 28, 153, 0, 21, 42, 42, 180, 0, 153, 182, 0, 156, 184, 0, 149, 153, 0, 7]
abbrev dktX2_token_6 : List UInt8 := dkwX2_token_6 ++ dktX2_token_7
def dkwX2_token_5 : List UInt8 := [27, 184, 0, 168, 153, 0, 151, 42, 3, 181, 0, 171, 4, 61, 42, 42, 180, 0, 153, 182, 0, 156]
abbrev dktX2_token_5 : List UInt8 := dkwX2_token_5 ++ dktX2_token_6
def dkwX2_token_4 : List UInt8 := [180, 0, 153, 42, 180, 0, 159, 100, 16, 6, 164, 0, 7, 7, 167, 0, 4, 4, 181, 0, 162, 167, 0, 183]
abbrev dktX2_token_4 : List UInt8 := dkwX2_token_4 ++ dktX2_token_5
def dkwX2_token_3 : List UInt8 := [182, 0, 156, 184, 0, 165, 153, 0, 16, 42, 89, 180, 0, 153, 4, 96, 181, 0, 153, 167, 255, 232, 42, 42]
abbrev dktX2_token_3 : List UInt8 := dkwX2_token_3 ++ dktX2_token_4
def dkwX2_token_2 : List UInt8 := [160, 0, 11, 42, 3, 181, 0, 162, 167, 0, 243, 27, 184, 0, 165, 153, 0, 56, 42, 42, 180, 0, 153]
abbrev dktX2_token_2 : List UInt8 := dkwX2_token_2 ++ dktX2_token_3
def dkwX2_token_1 : List UInt8 := [167, 255, 233, 42, 42, 180, 0, 153, 181, 0, 159, 42, 42, 180, 0, 153, 182, 0, 156, 60, 27, 2]
abbrev dktX2_token_1 : List UInt8 := dkwX2_token_1 ++ dktX2_token_2
def dkwX2_token_0 : List UInt8 := [42, 42, 180, 0, 153, 182, 0, 156, 16, 32, 160, 0, 16, 42, 89, 180, 0, 153, 4, 96, 181, 0, 153]
abbrev dktX2_token_0 : List UInt8 := dkwX2_token_0 ++ dktX2_token_1
theorem dksX2_token_0 : cX2_token.data.toList.drop 0 = dktX2_token_0 := by decide +kernel
theorem dksX2_token_1 : cX2_token.data.toList.drop 23 = dktX2_token_1 := dk_seg dksX2_token_0 23 rfl rfl
theorem dksX2_token_2 : cX2_token.data.toList.drop 45 = dktX2_token_2 := dk_seg dksX2_token_1 22 rfl rfl
theorem dksX2_token_3 : cX2_token.data.toList.drop 68 = dktX2_token_3 := dk_seg dksX2_token_2 23 rfl rfl
theorem dksX2_token_4 : cX2_token.data.toList.drop 92 = dktX2_token_4 := dk_seg dksX2_token_3 24 rfl rfl
theorem dksX2_token_5 : cX2_token.data.toList.drop 116 = dktX2_token_5 := dk_seg dksX2_token_4 24 rfl rfl
theorem dksX2_token_6 : cX2_token.data.toList.drop 138 = dktX2_token_6 := dk_seg dksX2_token_5 22 rfl rfl
theorem dksX2_token_7 : cX2_token.data.toList.drop 162 = dktX2_token_7 := dk_seg dksX2_token_6 24 rfl rfl
theorem dksX2_token_8 : cX2_token.data.toList.drop 186 = dktX2_token_8 := dk_seg dksX2_token_7 24 rfl rfl
theorem dksX2_token_9 : cX2_token.data.toList.drop 209 = dktX2_token_9 := dk_seg dksX2_token_8 23 rfl rfl
theorem dksX2_token_10 : cX2_token.data.toList.drop 231 = dktX2_token_10 := dk_seg dksX2_token_9 22 rfl rfl
theorem dksX2_token_11 : cX2_token.data.toList.drop 255 = dktX2_token_11 := dk_seg dksX2_token_10 24 rfl rfl
theorem dksX2_token_12 : cX2_token.data.toList.drop 279 = dktX2_token_12 := dk_seg dksX2_token_11 24 rfl rfl
theorem dX2_token_0 : decode cX2_token 0 = .ok (.aload_n 0, 1) := dk_42 (dk_at dksX2_token_0 0 rfl rfl)
theorem dX2_token_1 : decode cX2_token 1 = .ok (.aload_n 0, 1) := dk_42 (dk_at dksX2_token_0 1 rfl rfl)
theorem dX2_token_2 : decode cX2_token 2 = .ok (.getfield 153, 3) := dk_180 0 153 (dk_at dksX2_token_0 2 rfl rfl)
theorem dX2_token_5 : decode cX2_token 5 = .ok (.invokevirtual 156, 3) := dk_182 0 156 (dk_at dksX2_token_0 5 rfl rfl)
theorem dX2_token_8 : decode cX2_token 8 = .ok (.bipush 32, 2) := dk_16 32 (dk_at dksX2_token_0 8 rfl rfl)
theorem dX2_token_10 : decode cX2_token 10 = .ok (.if_icmp .ne 16, 3) := dk_160 0 16 (dk_at dksX2_token_0 10 rfl rfl)
theorem dX2_token_13 : decode cX2_token 13 = .ok (.aload_n 0, 1) := dk_42 (dk_at dksX2_token_0 13 rfl rfl)
theorem dX2_token_14 : decode cX2_token 14 = .ok (.dup, 1) := dk_89 (dk_at dksX2_token_0 14 rfl rfl)
theorem dX2_token_15 : decode cX2_token 15 = .ok (.getfield 153, 3) := dk_180 0 153 (dk_at dksX2_token_0 15 rfl rfl)
theorem dX2_token_18 : decode cX2_token 18 = .ok (.iconst 1, 1) := dk_4 (dk_at dksX2_token_0 18 rfl rfl)
theorem dX2_token_19 : decode cX2_token 19 = .ok (.iadd, 1) := dk_96 (dk_at dksX2_token_0 19 rfl rfl)
theorem dX2_token_20 : decode cX2_token 20 = .ok (.putfield 153, 3) := dk_181 0 153 (dk_at dksX2_token_0 20 rfl rfl)
theorem dX2_token_23 : decode cX2_token 23 = .ok (.goto (-23), 3) := dk_167 255 233 (dk_at dksX2_token_1 0 rfl rfl)
theorem dX2_token_26 : decode cX2_token 26 = .ok (.aload_n 0, 1) := dk_42 (dk_at dksX2_token_1 3 rfl rfl)
theorem dX2_token_27 : decode cX2_token 27 = .ok (.aload_n 0, 1) := dk_42 (dk_at dksX2_token_1 4 rfl rfl)
theorem dX2_token_28 : decode cX2_token 28 = .ok (.getfield 153, 3) := dk_180 0 153 (dk_at dksX2_token_1 5 rfl rfl)
theorem dX2_token_31 : decode cX2_token 31 = .ok (.putfield 159, 3) := dk_181 0 159 (dk_at dksX2_token_1 8 rfl rfl)
theorem dX2_token_34 : decode cX2_token 34 = .ok (.aload_n 0, 1) := dk_42 (dk_at dksX2_token_1 11 rfl rfl)
theorem dX2_token_35 : decode cX2_token 35 = .ok (.aload_n 0, 1) := dk_42 (dk_at dksX2_token_1 12 rfl rfl)
theorem dX2_token_36 : decode cX2_token 36 = .ok (.getfield 153, 3) := dk_180 0 153 (dk_at dksX2_token_1 13 rfl rfl)
theorem dX2_token_39 : decode cX2_token 39 = .ok (.invokevirtual 156, 3) := dk_182 0 156 (dk_at dksX2_token_1 16 rfl rfl)
theorem dX2_token_42 : decode cX2_token 42 = .ok (.istore_n 1, 1) := dk_60 (dk_at dksX2_token_1 19 rfl rfl)
theorem dX2_token_43 : decode cX2_token 43 = .ok (.iload_n 1, 1) := dk_27 (dk_at dksX2_token_1 20 rfl rfl)
theorem dX2_token_44 : decode cX2_token 44 = .ok (.iconst (-1), 1) := dk_2 (dk_at dksX2_token_1 21 rfl rfl)
theorem dX2_token_45 : decode cX2_token 45 = .ok (.if_icmp .ne 11, 3) := dk_160 0 11 (dk_at dksX2_token_2 0 rfl rfl)
theorem dX2_token_48 : decode cX2_token 48 = .ok (.aload_n 0, 1) := dk_42 (dk_at dksX2_token_2 3 rfl rfl)
theorem dX2_token_49 : decode cX2_token 49 = .ok (.iconst 0, 1) := dk_3 (dk_at dksX2_token_2 4 rfl rfl)
theorem dX2_token_50 : decode cX2_token 50 = .ok (.putfield 162, 3) := dk_181 0 162 (dk_at dksX2_token_2 5 rfl rfl)
theorem dX2_token_53 : decode cX2_token 53 = .ok (.goto 243, 3) := dk_167 0 243 (dk_at dksX2_token_2 8 rfl rfl)
theorem dX2_token_56 : decode cX2_token 56 = .ok (.iload_n 1, 1) := dk_27 (dk_at dksX2_token_2 11 rfl rfl)
theorem dX2_token_57 : decode cX2_token 57 = .ok (.invokestatic 165, 3) := dk_184 0 165 (dk_at dksX2_token_2 12 rfl rfl)
theorem dX2_token_60 : decode cX2_token 60 = .ok (.ifCond .eq 56, 3) := dk_153 0 56 (dk_at dksX2_token_2 15 rfl rfl)
theorem dX2_token_63 : decode cX2_token 63 = .ok (.aload_n 0, 1) := dk_42 (dk_at dksX2_token_2 18 rfl rfl)
theorem dX2_token_64 : decode cX2_token 64 = .ok (.aload_n 0, 1) := dk_42 (dk_at dksX2_token_2 19 rfl rfl)
theorem dX2_token_65 : decode cX2_token 65 = .ok (.getfield 153, 3) := dk_180 0 153 (dk_at dksX2_token_2 20 rfl rfl)
theorem dX2_token_68 : decode cX2_token 68 = .ok (.invokevirtual 156, 3) := dk_182 0 156 (dk_at dksX2_token_3 0 rfl rfl)
theorem dX2_token_71 : decode cX2_token 71 = .ok (.invokestatic 165, 3) := dk_184 0 165 (dk_at dksX2_token_3 3 rfl rfl)
theorem dX2_token_74 : decode cX2_token 74 = .ok (.ifCond .eq 16, 3) := dk_153 0 16 (dk_at dksX2_token_3 6 rfl rfl)
theorem dX2_token_77 : decode cX2_token 77 = .ok (.aload_n 0, 1) := dk_42 (dk_at dksX2_token_3 9 rfl rfl)
theorem dX2_token_78 : decode cX2_token 78 = .ok (.dup, 1) := dk_89 (dk_at dksX2_token_3 10 rfl rfl)
theorem dX2_token_79 : decode cX2_token 79 = .ok (.getfield 153, 3) := dk_180 0 153 (dk_at dksX2_token_3 11 rfl rfl)
theorem dX2_token_82 : decode cX2_token 82 = .ok (.iconst 1, 1) := dk_4 (dk_at dksX2_token_3 14 rfl rfl)
theorem dX2_token_83 : decode cX2_token 83 = .ok (.iadd, 1) := dk_96 (dk_at dksX2_token_3 15 rfl rfl)
theorem dX2_token_84 : decode cX2_token 84 = .ok (.putfield 153, 3) := dk_181 0 153 (dk_at dksX2_token_3 16 rfl rfl)
theorem dX2_token_87 : decode cX2_token 87 = .ok (.goto (-24), 3) := dk_167 255 232 (dk_at dksX2_token_3 19 rfl rfl)
theorem dX2_token_90 : decode cX2_token 90 = .ok (.aload_n 0, 1) := dk_42 (dk_at dksX2_token_3 22 rfl rfl)
theorem dX2_token_91 : decode cX2_token 91 = .ok (.aload_n 0, 1) := dk_42 (dk_at dksX2_token_3 23 rfl rfl)
theorem dX2_token_92 : decode cX2_token 92 = .ok (.getfield 153, 3) := dk_180 0 153 (dk_at dksX2_token_4 0 rfl rfl)
theorem dX2_token_95 : decode cX2_token 95 = .ok (.aload_n 0, 1) := dk_42 (dk_at dksX2_token_4 3 rfl rfl)
theorem dX2_token_96 : decode cX2_token 96 = .ok (.getfield 159, 3) := dk_180 0 159 (dk_at dksX2_token_4 4 rfl rfl)
theorem dX2_token_99 : decode cX2_token 99 = .ok (.isub, 1) := dk_100 (dk_at dksX2_token_4 7 rfl rfl)
theorem dX2_token_100 : decode cX2_token 100 = .ok (.bipush 6, 2) := dk_16 6 (dk_at dksX2_token_4 8 rfl rfl)
theorem dX2_token_102 : decode cX2_token 102 = .ok (.if_icmp .le 7, 3) := dk_164 0 7 (dk_at dksX2_token_4 10 rfl rfl)
theorem dX2_token_105 : decode cX2_token 105 = .ok (.iconst 4, 1) := dk_7 (dk_at dksX2_token_4 13 rfl rfl)
theorem dX2_token_106 : decode cX2_token 106 = .ok (.goto 4, 3) := dk_167 0 4 (dk_at dksX2_token_4 14 rfl rfl)
theorem dX2_token_109 : decode cX2_token 109 = .ok (.iconst 1, 1) := dk_4 (dk_at dksX2_token_4 17 rfl rfl)
theorem dX2_token_110 : decode cX2_token 110 = .ok (.putfield 162, 3) := dk_181 0 162 (dk_at dksX2_token_4 18 rfl rfl)
theorem dX2_token_113 : decode cX2_token 113 = .ok (.goto 183, 3) := dk_167 0 183 (dk_at dksX2_token_4 21 rfl rfl)
theorem dX2_token_116 : decode cX2_token 116 = .ok (.iload_n 1, 1) := dk_27 (dk_at dksX2_token_5 0 rfl rfl)
theorem dX2_token_117 : decode cX2_token 117 = .ok (.invokestatic 168, 3) := dk_184 0 168 (dk_at dksX2_token_5 1 rfl rfl)
theorem dX2_token_120 : decode cX2_token 120 = .ok (.ifCond .eq 151, 3) := dk_153 0 151 (dk_at dksX2_token_5 4 rfl rfl)
theorem dX2_token_123 : decode cX2_token 123 = .ok (.aload_n 0, 1) := dk_42 (dk_at dksX2_token_5 7 rfl rfl)
theorem dX2_token_124 : decode cX2_token 124 = .ok (.iconst 0, 1) := dk_3 (dk_at dksX2_token_5 8 rfl rfl)
theorem dX2_token_125 : decode cX2_token 125 = .ok (.putfield 171, 3) := dk_181 0 171 (dk_at dksX2_token_5 9 rfl rfl)
theorem dX2_token_128 : decode cX2_token 128 = .ok (.iconst 1, 1) := dk_4 (dk_at dksX2_token_5 12 rfl rfl)
theorem dX2_token_129 : decode cX2_token 129 = .ok (.istore_n 2, 1) := dk_61 (dk_at dksX2_token_5 13 rfl rfl)
theorem dX2_token_130 : decode cX2_token 130 = .ok (.aload_n 0, 1) := dk_42 (dk_at dksX2_token_5 14 rfl rfl)
theorem dX2_token_131 : decode cX2_token 131 = .ok (.aload_n 0, 1) := dk_42 (dk_at dksX2_token_5 15 rfl rfl)
theorem dX2_token_132 : decode cX2_token 132 = .ok (.getfield 153, 3) := dk_180 0 153 (dk_at dksX2_token_5 16 rfl rfl)
theorem dX2_token_135 : decode cX2_token 135 = .ok (.invokevirtual 156, 3) := dk_182 0 156 (dk_at dksX2_token_5 19 rfl rfl)
theorem dX2_token_138 : decode cX2_token 138 = .ok (.invokestatic 168, 3) := dk_184 0 168 (dk_at dksX2_token_6 0 rfl rfl)
theorem dX2_token_141 : decode cX2_token 141 = .ok (.ifCond .eq 84, 3) := dk_153 0 84 (dk_at dksX2_token_6 3 rfl rfl)
theorem dX2_token_144 : decode cX2_token 144 = .ok (.iload_n 2, 1) := dk_28 (dk_at dksX2_token_6 6 rfl rfl)
theorem dX2_token_145 : decode cX2_token 145 = .ok (.ifCond .eq 21, 3) := dk_153 0 21 (dk_at dksX2_token_6 7 rfl rfl)
theorem dX2_token_148 : decode cX2_token 148 = .ok (.aload_n 0, 1) := dk_42 (dk_at dksX2_token_6 10 rfl rfl)
theorem dX2_token_149 : decode cX2_token 149 = .ok (.aload_n 0, 1) := dk_42 (dk_at dksX2_token_6 11 rfl rfl)
theorem dX2_token_150 : decode cX2_token 150 = .ok (.getfield 153, 3) := dk_180 0 153 (dk_at dksX2_token_6 12 rfl rfl)
theorem dX2_token_153 : decode cX2_token 153 = .ok (.invokevirtual 156, 3) := dk_182 0 156 (dk_at dksX2_token_6 15 rfl rfl)
theorem dX2_token_156 : decode cX2_token 156 = .ok (.invokestatic 149, 3) := dk_184 0 149 (dk_at dksX2_token_6 18 rfl rfl)
theorem dX2_token_159 : decode cX2_token 159 = .ok (.ifCond .eq 7, 3) := dk_153 0 7 (dk_at dksX2_token_6 21 rfl rfl)
theorem dX2_token_162 : decode cX2_token 162 = .ok (.iconst 1, 1) := dk_4 (dk_at dksX2_token_7 0 rfl rfl)
theorem dX2_token_163 : decode cX2_token 163 = .ok (.goto 4, 3) := dk_167 0 4 (dk_at dksX2_token_7 1 rfl rfl)
theorem dX2_token_166 : decode cX2_token 166 = .ok (.iconst 0, 1) := dk_3 (dk_at dksX2_token_7 4 rfl rfl)
theorem dX2_token_167 : decode cX2_token 167 = .ok (.istore_n 2, 1) := dk_61 (dk_at dksX2_token_7 5 rfl rfl)
theorem dX2_token_168 : decode cX2_token 168 = .ok (.aload_n 0, 1) := dk_42 (dk_at dksX2_token_7 6 rfl rfl)
theorem dX2_token_169 : decode cX2_token 169 = .ok (.iload_n 2, 1) := dk_28 (dk_at dksX2_token_7 7 rfl rfl)
theorem dX2_token_170 : decode cX2_token 170 = .ok (.ifCond .eq 38, 3) := dk_153 0 38 (dk_at dksX2_token_7 8 rfl rfl)
theorem dX2_token_173 : decode cX2_token 173 = .ok (.aload_n 0, 1) := dk_42 (dk_at dksX2_token_7 11 rfl rfl)
theorem dX2_token_174 : decode cX2_token 174 = .ok (.getfield 153, 3) := dk_180 0 153 (dk_at dksX2_token_7 12 rfl rfl)
theorem dX2_token_177 : decode cX2_token 177 = .ok (.aload_n 0, 1) := dk_42 (dk_at dksX2_token_7 15 rfl rfl)
theorem dX2_token_178 : decode cX2_token 178 = .ok (.getfield 159, 3) := dk_180 0 159 (dk_at dksX2_token_7 16 rfl rfl)
theorem dX2_token_181 : decode cX2_token 181 = .ok (.isub, 1) := dk_100 (dk_at dksX2_token_7 19 rfl rfl)
theorem dX2_token_182 : decode cX2_token 182 = .ok (.iconst 4, 1) := dk_7 (dk_at dksX2_token_7 20 rfl rfl)
theorem dX2_token_183 : decode cX2_token 183 = .ok (.if_icmp .ge 25, 3) := dk_162 0 25 (dk_at dksX2_token_7 21 rfl rfl)
theorem dX2_token_186 : decode cX2_token 186 = .ok (.bipush 10, 2) := dk_16 10 (dk_at dksX2_token_8 0 rfl rfl)
theorem dX2_token_188 : decode cX2_token 188 = .ok (.aload_n 0, 1) := dk_42 (dk_at dksX2_token_8 2 rfl rfl)
theorem dX2_token_189 : decode cX2_token 189 = .ok (.getfield 171, 3) := dk_180 0 171 (dk_at dksX2_token_8 3 rfl rfl)
theorem dX2_token_192 : decode cX2_token 192 = .ok (.imul, 1) := dk_104 (dk_at dksX2_token_8 6 rfl rfl)
theorem dX2_token_193 : decode cX2_token 193 = .ok (.aload_n 0, 1) := dk_42 (dk_at dksX2_token_8 7 rfl rfl)
theorem dX2_token_194 : decode cX2_token 194 = .ok (.aload_n 0, 1) := dk_42 (dk_at dksX2_token_8 8 rfl rfl)
theorem dX2_token_195 : decode cX2_token 195 = .ok (.getfield 153, 3) := dk_180 0 153 (dk_at dksX2_token_8 9 rfl rfl)
theorem dX2_token_198 : decode cX2_token 198 = .ok (.invokevirtual 156, 3) := dk_182 0 156 (dk_at dksX2_token_8 12 rfl rfl)
theorem dX2_token_201 : decode cX2_token 201 = .ok (.iadd, 1) := dk_96 (dk_at dksX2_token_8 15 rfl rfl)
theorem dX2_token_202 : decode cX2_token 202 = .ok (.bipush 48, 2) := dk_16 48 (dk_at dksX2_token_8 16 rfl rfl)
theorem dX2_token_204 : decode cX2_token 204 = .ok (.isub, 1) := dk_100 (dk_at dksX2_token_8 18 rfl rfl)
theorem dX2_token_205 : decode cX2_token 205 = .ok (.goto 4, 3) := dk_167 0 4 (dk_at dksX2_token_8 19 rfl rfl)
theorem dX2_token_208 : decode cX2_token 208 = .ok (.iconst 0, 1) := dk_3 (dk_at dksX2_token_8 22 rfl rfl)
theorem dX2_token_209 : decode cX2_token 209 = .ok (.putfield 171, 3) := dk_181 0 171 (dk_at dksX2_token_9 0 rfl rfl)
theorem dX2_token_212 : decode cX2_token 212 = .ok (.aload_n 0, 1) := dk_42 (dk_at dksX2_token_9 3 rfl rfl)
theorem dX2_token_213 : decode cX2_token 213 = .ok (.dup, 1) := dk_89 (dk_at dksX2_token_9 4 rfl rfl)
theorem dX2_token_214 : decode cX2_token 214 = .ok (.getfield 153, 3) := dk_180 0 153 (dk_at dksX2_token_9 5 rfl rfl)
theorem dX2_token_217 : decode cX2_token 217 = .ok (.iconst 1, 1) := dk_4 (dk_at dksX2_token_9 8 rfl rfl)
theorem dX2_token_218 : decode cX2_token 218 = .ok (.iadd, 1) := dk_96 (dk_at dksX2_token_9 9 rfl rfl)
theorem dX2_token_219 : decode cX2_token 219 = .ok (.putfield 153, 3) := dk_181 0 153 (dk_at dksX2_token_9 10 rfl rfl)
theorem dX2_token_222 : decode cX2_token 222 = .ok (.goto (-92), 3) := dk_167 255 164 (dk_at dksX2_token_9 13 rfl rfl)
theorem dX2_token_225 : decode cX2_token 225 = .ok (.aload_n 0, 1) := dk_42 (dk_at dksX2_token_9 16 rfl rfl)
theorem dX2_token_226 : decode cX2_token 226 = .ok (.aload_n 0, 1) := dk_42 (dk_at dksX2_token_9 17 rfl rfl)
theorem dX2_token_227 : decode cX2_token 227 = .ok (.getfield 153, 3) := dk_180 0 153 (dk_at dksX2_token_9 18 rfl rfl)
theorem dX2_token_230 : decode cX2_token 230 = .ok (.aload_n 0, 1) := dk_42 (dk_at dksX2_token_9 21 rfl rfl)
theorem dX2_token_231 : decode cX2_token 231 = .ok (.getfield 159, 3) := dk_180 0 159 (dk_at dksX2_token_10 0 rfl rfl)
theorem dX2_token_234 : decode cX2_token 234 = .ok (.isub, 1) := dk_100 (dk_at dksX2_token_10 3 rfl rfl)
theorem dX2_token_235 : decode cX2_token 235 = .ok (.iconst 5, 1) := dk_8 (dk_at dksX2_token_10 4 rfl rfl)
theorem dX2_token_236 : decode cX2_token 236 = .ok (.if_icmp .ne 7, 3) := dk_160 0 7 (dk_at dksX2_token_10 5 rfl rfl)
theorem dX2_token_239 : decode cX2_token 239 = .ok (.iconst 5, 1) := dk_8 (dk_at dksX2_token_10 8 rfl rfl)
theorem dX2_token_240 : decode cX2_token 240 = .ok (.goto 25, 3) := dk_167 0 25 (dk_at dksX2_token_10 9 rfl rfl)
theorem dX2_token_243 : decode cX2_token 243 = .ok (.iload_n 2, 1) := dk_28 (dk_at dksX2_token_10 12 rfl rfl)
theorem dX2_token_244 : decode cX2_token 244 = .ok (.ifCond .eq 20, 3) := dk_153 0 20 (dk_at dksX2_token_10 13 rfl rfl)
theorem dX2_token_247 : decode cX2_token 247 = .ok (.aload_n 0, 1) := dk_42 (dk_at dksX2_token_10 16 rfl rfl)
theorem dX2_token_248 : decode cX2_token 248 = .ok (.getfield 153, 3) := dk_180 0 153 (dk_at dksX2_token_10 17 rfl rfl)
theorem dX2_token_251 : decode cX2_token 251 = .ok (.aload_n 0, 1) := dk_42 (dk_at dksX2_token_10 20 rfl rfl)
theorem dX2_token_252 : decode cX2_token 252 = .ok (.getfield 159, 3) := dk_180 0 159 (dk_at dksX2_token_10 21 rfl rfl)
theorem dX2_token_255 : decode cX2_token 255 = .ok (.isub, 1) := dk_100 (dk_at dksX2_token_11 0 rfl rfl)
theorem dX2_token_256 : decode cX2_token 256 = .ok (.iconst 5, 1) := dk_8 (dk_at dksX2_token_11 1 rfl rfl)
theorem dX2_token_257 : decode cX2_token 257 = .ok (.if_icmp .ge 7, 3) := dk_162 0 7 (dk_at dksX2_token_11 2 rfl rfl)
theorem dX2_token_260 : decode cX2_token 260 = .ok (.iconst 2, 1) := dk_5 (dk_at dksX2_token_11 5 rfl rfl)
theorem dX2_token_261 : decode cX2_token 261 = .ok (.goto 4, 3) := dk_167 0 4 (dk_at dksX2_token_11 6 rfl rfl)
theorem dX2_token_264 : decode cX2_token 264 = .ok (.iconst 4, 1) := dk_7 (dk_at dksX2_token_11 9 rfl rfl)
theorem dX2_token_265 : decode cX2_token 265 = .ok (.putfield 162, 3) := dk_181 0 162 (dk_at dksX2_token_11 10 rfl rfl)
theorem dX2_token_268 : decode cX2_token 268 = .ok (.goto 28, 3) := dk_167 0 28 (dk_at dksX2_token_11 13 rfl rfl)
theorem dX2_token_271 : decode cX2_token 271 = .ok (.aload_n 0, 1) := dk_42 (dk_at dksX2_token_11 16 rfl rfl)
theorem dX2_token_272 : decode cX2_token 272 = .ok (.iload_n 1, 1) := dk_27 (dk_at dksX2_token_11 17 rfl rfl)
theorem dX2_token_273 : decode cX2_token 273 = .ok (.bipush 59, 2) := dk_16 59 (dk_at dksX2_token_11 18 rfl rfl)
theorem dX2_token_275 : decode cX2_token 275 = .ok (.if_icmp .ne 7, 3) := dk_160 0 7 (dk_at dksX2_token_11 20 rfl rfl)
theorem dX2_token_278 : decode cX2_token 278 = .ok (.iconst 3, 1) := dk_6 (dk_at dksX2_token_11 23 rfl rfl)
theorem dX2_token_279 : decode cX2_token 279 = .ok (.goto 4, 3) := dk_167 0 4 (dk_at dksX2_token_12 0 rfl rfl)
theorem dX2_token_282 : decode cX2_token 282 = .ok (.iconst 4, 1) := dk_7 (dk_at dksX2_token_12 3 rfl rfl)
theorem dX2_token_283 : decode cX2_token 283 = .ok (.putfield 162, 3) := dk_181 0 162 (dk_at dksX2_token_12 4 rfl rfl)
theorem dX2_token_286 : decode cX2_token 286 = .ok (.aload_n 0, 1) := dk_42 (dk_at dksX2_token_12 7 rfl rfl)
theorem dX2_token_287 : decode cX2_token 287 = .ok (.dup, 1) := dk_89 (dk_at dksX2_token_12 8 rfl rfl)
theorem dX2_token_288 : decode cX2_token 288 = .ok (.getfield 153, 3) := dk_180 0 153 (dk_at dksX2_token_12 9 rfl rfl)
theorem dX2_token_291 : decode cX2_token 291 = .ok (.iconst 1, 1) := dk_4 (dk_at dksX2_token_12 12 rfl rfl)
theorem dX2_token_292 : decode cX2_token 292 = .ok (.iadd, 1) := dk_96 (dk_at dksX2_token_12 13 rfl rfl)
theorem dX2_token_293 : decode cX2_token 293 = .ok (.putfield 153, 3) := dk_181 0 153 (dk_at dksX2_token_12 14 rfl rfl)
theorem dX2_token_296 : decode cX2_token 296 = .ok (.return_, 1) := dk_177 (dk_at dksX2_token_12 17 rfl rfl)
abbrev cX2_seen : ByteArray := prog_14_method_41_code
def yX2_seen : MethodName := ⟨RX2, "seen", "(I)I"⟩
def dkwX2_seen_0 : List UInt8 := [27, 42, 180, 0, 146, 162, 0, 12, 42, 180, 0, 23, 27, 46, 167, 0, 4, 2, 172]
abbrev dktX2_seen_0 : List UInt8 := dkwX2_seen_0 ++ []
theorem dksX2_seen_0 : cX2_seen.data.toList.drop 0 = dktX2_seen_0 := by decide +kernel
theorem dX2_seen_0 : decode cX2_seen 0 = .ok (.iload_n 1, 1) := dk_27 (dk_at dksX2_seen_0 0 rfl rfl)
theorem dX2_seen_1 : decode cX2_seen 1 = .ok (.aload_n 0, 1) := dk_42 (dk_at dksX2_seen_0 1 rfl rfl)
theorem dX2_seen_2 : decode cX2_seen 2 = .ok (.getfield 146, 3) := dk_180 0 146 (dk_at dksX2_seen_0 2 rfl rfl)
theorem dX2_seen_5 : decode cX2_seen 5 = .ok (.if_icmp .ge 12, 3) := dk_162 0 12 (dk_at dksX2_seen_0 5 rfl rfl)
theorem dX2_seen_8 : decode cX2_seen 8 = .ok (.aload_n 0, 1) := dk_42 (dk_at dksX2_seen_0 8 rfl rfl)
theorem dX2_seen_9 : decode cX2_seen 9 = .ok (.getfield 23, 3) := dk_180 0 23 (dk_at dksX2_seen_0 9 rfl rfl)
theorem dX2_seen_12 : decode cX2_seen 12 = .ok (.iload_n 1, 1) := dk_27 (dk_at dksX2_seen_0 12 rfl rfl)
theorem dX2_seen_13 : decode cX2_seen 13 = .ok (.iaload, 1) := dk_46 (dk_at dksX2_seen_0 13 rfl rfl)
theorem dX2_seen_14 : decode cX2_seen 14 = .ok (.goto 4, 3) := dk_167 0 4 (dk_at dksX2_seen_0 14 rfl rfl)
theorem dX2_seen_17 : decode cX2_seen 17 = .ok (.iconst (-1), 1) := dk_2 (dk_at dksX2_seen_0 17 rfl rfl)
theorem dX2_seen_18 : decode cX2_seen 18 = .ok (.ireturn, 1) := dk_172 (dk_at dksX2_seen_0 18 rfl rfl)
abbrev cX2_isSmall : ByteArray := prog_14_method_42_code
def yX2_isSmall : MethodName := ⟨RX2, "isSmall", "(I)Z"⟩
def dkwX2_isSmall_0 : List UInt8 := [26, 16, 97, 161, 0, 13, 26, 16, 122, 163, 0, 7, 4, 167, 0, 4, 3, 172]
abbrev dktX2_isSmall_0 : List UInt8 := dkwX2_isSmall_0 ++ []
theorem dksX2_isSmall_0 : cX2_isSmall.data.toList.drop 0 = dktX2_isSmall_0 := by decide +kernel
theorem dX2_isSmall_0 : decode cX2_isSmall 0 = .ok (.iload_n 0, 1) := dk_26 (dk_at dksX2_isSmall_0 0 rfl rfl)
theorem dX2_isSmall_1 : decode cX2_isSmall 1 = .ok (.bipush 97, 2) := dk_16 97 (dk_at dksX2_isSmall_0 1 rfl rfl)
theorem dX2_isSmall_3 : decode cX2_isSmall 3 = .ok (.if_icmp .lt 13, 3) := dk_161 0 13 (dk_at dksX2_isSmall_0 3 rfl rfl)
theorem dX2_isSmall_6 : decode cX2_isSmall 6 = .ok (.iload_n 0, 1) := dk_26 (dk_at dksX2_isSmall_0 6 rfl rfl)
theorem dX2_isSmall_7 : decode cX2_isSmall 7 = .ok (.bipush 122, 2) := dk_16 122 (dk_at dksX2_isSmall_0 7 rfl rfl)
theorem dX2_isSmall_9 : decode cX2_isSmall 9 = .ok (.if_icmp .gt 7, 3) := dk_163 0 7 (dk_at dksX2_isSmall_0 9 rfl rfl)
theorem dX2_isSmall_12 : decode cX2_isSmall 12 = .ok (.iconst 1, 1) := dk_4 (dk_at dksX2_isSmall_0 12 rfl rfl)
theorem dX2_isSmall_13 : decode cX2_isSmall 13 = .ok (.goto 4, 3) := dk_167 0 4 (dk_at dksX2_isSmall_0 13 rfl rfl)
theorem dX2_isSmall_16 : decode cX2_isSmall 16 = .ok (.iconst 0, 1) := dk_3 (dk_at dksX2_isSmall_0 16 rfl rfl)
theorem dX2_isSmall_17 : decode cX2_isSmall 17 = .ok (.ireturn, 1) := dk_172 (dk_at dksX2_isSmall_0 17 rfl rfl)
abbrev cX2_isSign : ByteArray := prog_14_method_44_code
def yX2_isSign : MethodName := ⟨RX2, "isSign", "(I)Z"⟩
def dkwX2_isSign_0 : List UInt8 := [26, 184, 0, 149, 154, 0, 9, 26, 16, 63, 160, 0, 7, 4, 167, 0, 4, 3, 172]
abbrev dktX2_isSign_0 : List UInt8 := dkwX2_isSign_0 ++ []
theorem dksX2_isSign_0 : cX2_isSign.data.toList.drop 0 = dktX2_isSign_0 := by decide +kernel
theorem dX2_isSign_0 : decode cX2_isSign 0 = .ok (.iload_n 0, 1) := dk_26 (dk_at dksX2_isSign_0 0 rfl rfl)
theorem dX2_isSign_1 : decode cX2_isSign 1 = .ok (.invokestatic 149, 3) := dk_184 0 149 (dk_at dksX2_isSign_0 1 rfl rfl)
theorem dX2_isSign_4 : decode cX2_isSign 4 = .ok (.ifCond .ne 9, 3) := dk_154 0 9 (dk_at dksX2_isSign_0 4 rfl rfl)
theorem dX2_isSign_7 : decode cX2_isSign 7 = .ok (.iload_n 0, 1) := dk_26 (dk_at dksX2_isSign_0 7 rfl rfl)
theorem dX2_isSign_8 : decode cX2_isSign 8 = .ok (.bipush 63, 2) := dk_16 63 (dk_at dksX2_isSign_0 8 rfl rfl)
theorem dX2_isSign_10 : decode cX2_isSign 10 = .ok (.if_icmp .ne 7, 3) := dk_160 0 7 (dk_at dksX2_isSign_0 10 rfl rfl)
theorem dX2_isSign_13 : decode cX2_isSign 13 = .ok (.iconst 1, 1) := dk_4 (dk_at dksX2_isSign_0 13 rfl rfl)
theorem dX2_isSign_14 : decode cX2_isSign 14 = .ok (.goto 4, 3) := dk_167 0 4 (dk_at dksX2_isSign_0 14 rfl rfl)
theorem dX2_isSign_17 : decode cX2_isSign 17 = .ok (.iconst 0, 1) := dk_3 (dk_at dksX2_isSign_0 17 rfl rfl)
theorem dX2_isSign_18 : decode cX2_isSign 18 = .ok (.ireturn, 1) := dk_172 (dk_at dksX2_isSign_0 18 rfl rfl)
abbrev cX2_isDigit : ByteArray := prog_14_method_43_code
def yX2_isDigit : MethodName := ⟨RX2, "isDigit", "(I)Z"⟩
def dkwX2_isDigit_0 : List UInt8 := [26, 16, 48, 161, 0, 13, 26, 16, 57, 163, 0, 7, 4, 167, 0, 4, 3, 172]
abbrev dktX2_isDigit_0 : List UInt8 := dkwX2_isDigit_0 ++ []
theorem dksX2_isDigit_0 : cX2_isDigit.data.toList.drop 0 = dktX2_isDigit_0 := by decide +kernel
theorem dX2_isDigit_0 : decode cX2_isDigit 0 = .ok (.iload_n 0, 1) := dk_26 (dk_at dksX2_isDigit_0 0 rfl rfl)
theorem dX2_isDigit_1 : decode cX2_isDigit 1 = .ok (.bipush 48, 2) := dk_16 48 (dk_at dksX2_isDigit_0 1 rfl rfl)
theorem dX2_isDigit_3 : decode cX2_isDigit 3 = .ok (.if_icmp .lt 13, 3) := dk_161 0 13 (dk_at dksX2_isDigit_0 3 rfl rfl)
theorem dX2_isDigit_6 : decode cX2_isDigit 6 = .ok (.iload_n 0, 1) := dk_26 (dk_at dksX2_isDigit_0 6 rfl rfl)
theorem dX2_isDigit_7 : decode cX2_isDigit 7 = .ok (.bipush 57, 2) := dk_16 57 (dk_at dksX2_isDigit_0 7 rfl rfl)
theorem dX2_isDigit_9 : decode cX2_isDigit 9 = .ok (.if_icmp .gt 7, 3) := dk_163 0 7 (dk_at dksX2_isDigit_0 9 rfl rfl)
theorem dX2_isDigit_12 : decode cX2_isDigit 12 = .ok (.iconst 1, 1) := dk_4 (dk_at dksX2_isDigit_0 12 rfl rfl)
theorem dX2_isDigit_13 : decode cX2_isDigit 13 = .ok (.goto 4, 3) := dk_167 0 4 (dk_at dksX2_isDigit_0 13 rfl rfl)
theorem dX2_isDigit_16 : decode cX2_isDigit 16 = .ok (.iconst 0, 1) := dk_3 (dk_at dksX2_isDigit_0 16 rfl rfl)
theorem dX2_isDigit_17 : decode cX2_isDigit 17 = .ok (.ireturn, 1) := dk_172 (dk_at dksX2_isDigit_0 17 rfl rfl)
abbrev cX2_reads : ByteArray := prog_14_method_56_code
def yX2_reads : MethodName := ⟨RX2, "reads", "()V"⟩
def dkwX2_reads_8 : List UInt8 := [3, 8, 182, 0, 208, 177]
abbrev dktX2_reads_8 : List UInt8 := dkwX2_reads_8 ++ []
def dkwX2_reads_7 : List UInt8 := [153, 0, 7, 4, 167, 0, 4, 3, 4, 182, 0, 208, 42, 42, 182, 0, 90, 154, 0, 7, 4, 167, 0, 4]
abbrev dktX2_reads_7 : List UInt8 := dkwX2_reads_7 ++ dktX2_reads_8
def dkwX2_reads_6 : List UInt8 := [180, 0, 162, 6, 160, 0, 14, 42, 182, 0, 184, 42, 182, 0, 245, 167, 255, 233, 42, 42, 180, 0, 162]
abbrev dktX2_reads_6 : List UInt8 := dkwX2_reads_6 ++ dktX2_reads_7
def dkwX2_reads_5 : List UInt8 := [79, 42, 180, 0, 7, 3, 42, 4, 16, 9, 182, 0, 212, 79, 42, 180, 0, 174, 154, 0, 22, 42]
abbrev dktX2_reads_5 : List UInt8 := dkwX2_reads_5 ++ dktX2_reads_6
def dkwX2_reads_4 : List UInt8 := [167, 0, 4, 3, 4, 182, 0, 208, 42, 182, 0, 202, 42, 180, 0, 13, 3, 42, 3, 16, 8, 182, 0, 212]
abbrev dktX2_reads_4 : List UInt8 := dkwX2_reads_4 ++ dktX2_reads_5
def dkwX2_reads_3 : List UInt8 := [132, 1, 1, 167, 255, 228, 42, 3, 181, 0, 205, 42, 42, 18, 243, 182, 0, 220, 154, 0, 7, 4]
abbrev dktX2_reads_3 : List UInt8 := dkwX2_reads_3 ++ dktX2_reads_4
def dkwX2_reads_2 : List UInt8 := [162, 0, 28, 42, 180, 0, 13, 6, 27, 96, 2, 79, 42, 180, 0, 13, 16, 9, 27, 96, 4, 79]
abbrev dktX2_reads_2 : List UInt8 := dkwX2_reads_2 ++ dktX2_reads_3
def dkwX2_reads_1 : List UInt8 := [27, 16, 26, 162, 0, 16, 42, 180, 0, 7, 27, 3, 79, 132, 1, 1, 167, 255, 240, 3, 60, 27, 16, 6]
abbrev dktX2_reads_1 : List UInt8 := dkwX2_reads_1 ++ dktX2_reads_2
def dkwX2_reads_0 : List UInt8 := [3, 60, 27, 17, 1, 17, 162, 0, 16, 42, 180, 0, 13, 27, 3, 79, 132, 1, 1, 167, 255, 239, 3, 60]
abbrev dktX2_reads_0 : List UInt8 := dkwX2_reads_0 ++ dktX2_reads_1
theorem dksX2_reads_0 : cX2_reads.data.toList.drop 0 = dktX2_reads_0 := by decide +kernel
theorem dksX2_reads_1 : cX2_reads.data.toList.drop 24 = dktX2_reads_1 := dk_seg dksX2_reads_0 24 rfl rfl
theorem dksX2_reads_2 : cX2_reads.data.toList.drop 48 = dktX2_reads_2 := dk_seg dksX2_reads_1 24 rfl rfl
theorem dksX2_reads_3 : cX2_reads.data.toList.drop 70 = dktX2_reads_3 := dk_seg dksX2_reads_2 22 rfl rfl
theorem dksX2_reads_4 : cX2_reads.data.toList.drop 92 = dktX2_reads_4 := dk_seg dksX2_reads_3 22 rfl rfl
theorem dksX2_reads_5 : cX2_reads.data.toList.drop 116 = dktX2_reads_5 := dk_seg dksX2_reads_4 24 rfl rfl
theorem dksX2_reads_6 : cX2_reads.data.toList.drop 138 = dktX2_reads_6 := dk_seg dksX2_reads_5 22 rfl rfl
theorem dksX2_reads_7 : cX2_reads.data.toList.drop 161 = dktX2_reads_7 := dk_seg dksX2_reads_6 23 rfl rfl
theorem dksX2_reads_8 : cX2_reads.data.toList.drop 185 = dktX2_reads_8 := dk_seg dksX2_reads_7 24 rfl rfl
theorem dX2_reads_0 : decode cX2_reads 0 = .ok (.iconst 0, 1) := dk_3 (dk_at dksX2_reads_0 0 rfl rfl)
theorem dX2_reads_1 : decode cX2_reads 1 = .ok (.istore_n 1, 1) := dk_60 (dk_at dksX2_reads_0 1 rfl rfl)
theorem dX2_reads_2 : decode cX2_reads 2 = .ok (.iload_n 1, 1) := dk_27 (dk_at dksX2_reads_0 2 rfl rfl)
theorem dX2_reads_3 : decode cX2_reads 3 = .ok (.sipush 273, 3) := dk_17 1 17 (dk_at dksX2_reads_0 3 rfl rfl)
theorem dX2_reads_6 : decode cX2_reads 6 = .ok (.if_icmp .ge 16, 3) := dk_162 0 16 (dk_at dksX2_reads_0 6 rfl rfl)
theorem dX2_reads_9 : decode cX2_reads 9 = .ok (.aload_n 0, 1) := dk_42 (dk_at dksX2_reads_0 9 rfl rfl)
theorem dX2_reads_10 : decode cX2_reads 10 = .ok (.getfield 13, 3) := dk_180 0 13 (dk_at dksX2_reads_0 10 rfl rfl)
theorem dX2_reads_13 : decode cX2_reads 13 = .ok (.iload_n 1, 1) := dk_27 (dk_at dksX2_reads_0 13 rfl rfl)
theorem dX2_reads_14 : decode cX2_reads 14 = .ok (.iconst 0, 1) := dk_3 (dk_at dksX2_reads_0 14 rfl rfl)
theorem dX2_reads_15 : decode cX2_reads 15 = .ok (.iastore, 1) := dk_79 (dk_at dksX2_reads_0 15 rfl rfl)
theorem dX2_reads_16 : decode cX2_reads 16 = .ok (.iinc 1 1, 3) := dk_132 1 1 (dk_at dksX2_reads_0 16 rfl rfl)
theorem dX2_reads_19 : decode cX2_reads 19 = .ok (.goto (-17), 3) := dk_167 255 239 (dk_at dksX2_reads_0 19 rfl rfl)
theorem dX2_reads_22 : decode cX2_reads 22 = .ok (.iconst 0, 1) := dk_3 (dk_at dksX2_reads_0 22 rfl rfl)
theorem dX2_reads_23 : decode cX2_reads 23 = .ok (.istore_n 1, 1) := dk_60 (dk_at dksX2_reads_0 23 rfl rfl)
theorem dX2_reads_24 : decode cX2_reads 24 = .ok (.iload_n 1, 1) := dk_27 (dk_at dksX2_reads_1 0 rfl rfl)
theorem dX2_reads_25 : decode cX2_reads 25 = .ok (.bipush 26, 2) := dk_16 26 (dk_at dksX2_reads_1 1 rfl rfl)
theorem dX2_reads_27 : decode cX2_reads 27 = .ok (.if_icmp .ge 16, 3) := dk_162 0 16 (dk_at dksX2_reads_1 3 rfl rfl)
theorem dX2_reads_30 : decode cX2_reads 30 = .ok (.aload_n 0, 1) := dk_42 (dk_at dksX2_reads_1 6 rfl rfl)
theorem dX2_reads_31 : decode cX2_reads 31 = .ok (.getfield 7, 3) := dk_180 0 7 (dk_at dksX2_reads_1 7 rfl rfl)
theorem dX2_reads_34 : decode cX2_reads 34 = .ok (.iload_n 1, 1) := dk_27 (dk_at dksX2_reads_1 10 rfl rfl)
theorem dX2_reads_35 : decode cX2_reads 35 = .ok (.iconst 0, 1) := dk_3 (dk_at dksX2_reads_1 11 rfl rfl)
theorem dX2_reads_36 : decode cX2_reads 36 = .ok (.iastore, 1) := dk_79 (dk_at dksX2_reads_1 12 rfl rfl)
theorem dX2_reads_37 : decode cX2_reads 37 = .ok (.iinc 1 1, 3) := dk_132 1 1 (dk_at dksX2_reads_1 13 rfl rfl)
theorem dX2_reads_40 : decode cX2_reads 40 = .ok (.goto (-16), 3) := dk_167 255 240 (dk_at dksX2_reads_1 16 rfl rfl)
theorem dX2_reads_43 : decode cX2_reads 43 = .ok (.iconst 0, 1) := dk_3 (dk_at dksX2_reads_1 19 rfl rfl)
theorem dX2_reads_44 : decode cX2_reads 44 = .ok (.istore_n 1, 1) := dk_60 (dk_at dksX2_reads_1 20 rfl rfl)
theorem dX2_reads_45 : decode cX2_reads 45 = .ok (.iload_n 1, 1) := dk_27 (dk_at dksX2_reads_1 21 rfl rfl)
theorem dX2_reads_46 : decode cX2_reads 46 = .ok (.bipush 6, 2) := dk_16 6 (dk_at dksX2_reads_1 22 rfl rfl)
theorem dX2_reads_48 : decode cX2_reads 48 = .ok (.if_icmp .ge 28, 3) := dk_162 0 28 (dk_at dksX2_reads_2 0 rfl rfl)
theorem dX2_reads_51 : decode cX2_reads 51 = .ok (.aload_n 0, 1) := dk_42 (dk_at dksX2_reads_2 3 rfl rfl)
theorem dX2_reads_52 : decode cX2_reads 52 = .ok (.getfield 13, 3) := dk_180 0 13 (dk_at dksX2_reads_2 4 rfl rfl)
theorem dX2_reads_55 : decode cX2_reads 55 = .ok (.iconst 3, 1) := dk_6 (dk_at dksX2_reads_2 7 rfl rfl)
theorem dX2_reads_56 : decode cX2_reads 56 = .ok (.iload_n 1, 1) := dk_27 (dk_at dksX2_reads_2 8 rfl rfl)
theorem dX2_reads_57 : decode cX2_reads 57 = .ok (.iadd, 1) := dk_96 (dk_at dksX2_reads_2 9 rfl rfl)
theorem dX2_reads_58 : decode cX2_reads 58 = .ok (.iconst (-1), 1) := dk_2 (dk_at dksX2_reads_2 10 rfl rfl)
theorem dX2_reads_59 : decode cX2_reads 59 = .ok (.iastore, 1) := dk_79 (dk_at dksX2_reads_2 11 rfl rfl)
theorem dX2_reads_60 : decode cX2_reads 60 = .ok (.aload_n 0, 1) := dk_42 (dk_at dksX2_reads_2 12 rfl rfl)
theorem dX2_reads_61 : decode cX2_reads 61 = .ok (.getfield 13, 3) := dk_180 0 13 (dk_at dksX2_reads_2 13 rfl rfl)
theorem dX2_reads_64 : decode cX2_reads 64 = .ok (.bipush 9, 2) := dk_16 9 (dk_at dksX2_reads_2 16 rfl rfl)
theorem dX2_reads_66 : decode cX2_reads 66 = .ok (.iload_n 1, 1) := dk_27 (dk_at dksX2_reads_2 18 rfl rfl)
theorem dX2_reads_67 : decode cX2_reads 67 = .ok (.iadd, 1) := dk_96 (dk_at dksX2_reads_2 19 rfl rfl)
theorem dX2_reads_68 : decode cX2_reads 68 = .ok (.iconst 1, 1) := dk_4 (dk_at dksX2_reads_2 20 rfl rfl)
theorem dX2_reads_69 : decode cX2_reads 69 = .ok (.iastore, 1) := dk_79 (dk_at dksX2_reads_2 21 rfl rfl)
theorem dX2_reads_70 : decode cX2_reads 70 = .ok (.iinc 1 1, 3) := dk_132 1 1 (dk_at dksX2_reads_3 0 rfl rfl)
theorem dX2_reads_73 : decode cX2_reads 73 = .ok (.goto (-28), 3) := dk_167 255 228 (dk_at dksX2_reads_3 3 rfl rfl)
theorem dX2_reads_76 : decode cX2_reads 76 = .ok (.aload_n 0, 1) := dk_42 (dk_at dksX2_reads_3 6 rfl rfl)
theorem dX2_reads_77 : decode cX2_reads 77 = .ok (.iconst 0, 1) := dk_3 (dk_at dksX2_reads_3 7 rfl rfl)
theorem dX2_reads_78 : decode cX2_reads 78 = .ok (.putfield 205, 3) := dk_181 0 205 (dk_at dksX2_reads_3 8 rfl rfl)
theorem dX2_reads_81 : decode cX2_reads 81 = .ok (.aload_n 0, 1) := dk_42 (dk_at dksX2_reads_3 11 rfl rfl)
theorem dX2_reads_82 : decode cX2_reads 82 = .ok (.aload_n 0, 1) := dk_42 (dk_at dksX2_reads_3 12 rfl rfl)
theorem dX2_reads_83 : decode cX2_reads 83 = .ok (.ldc 243, 2) := dk_18 243 (dk_at dksX2_reads_3 13 rfl rfl)
theorem dX2_reads_85 : decode cX2_reads 85 = .ok (.invokevirtual 220, 3) := dk_182 0 220 (dk_at dksX2_reads_3 15 rfl rfl)
theorem dX2_reads_88 : decode cX2_reads 88 = .ok (.ifCond .ne 7, 3) := dk_154 0 7 (dk_at dksX2_reads_3 18 rfl rfl)
theorem dX2_reads_91 : decode cX2_reads 91 = .ok (.iconst 1, 1) := dk_4 (dk_at dksX2_reads_3 21 rfl rfl)
theorem dX2_reads_92 : decode cX2_reads 92 = .ok (.goto 4, 3) := dk_167 0 4 (dk_at dksX2_reads_4 0 rfl rfl)
theorem dX2_reads_95 : decode cX2_reads 95 = .ok (.iconst 0, 1) := dk_3 (dk_at dksX2_reads_4 3 rfl rfl)
theorem dX2_reads_96 : decode cX2_reads 96 = .ok (.iconst 1, 1) := dk_4 (dk_at dksX2_reads_4 4 rfl rfl)
theorem dX2_reads_97 : decode cX2_reads 97 = .ok (.invokevirtual 208, 3) := dk_182 0 208 (dk_at dksX2_reads_4 5 rfl rfl)
theorem dX2_reads_100 : decode cX2_reads 100 = .ok (.aload_n 0, 1) := dk_42 (dk_at dksX2_reads_4 8 rfl rfl)
theorem dX2_reads_101 : decode cX2_reads 101 = .ok (.invokevirtual 202, 3) := dk_182 0 202 (dk_at dksX2_reads_4 9 rfl rfl)
theorem dX2_reads_104 : decode cX2_reads 104 = .ok (.aload_n 0, 1) := dk_42 (dk_at dksX2_reads_4 12 rfl rfl)
theorem dX2_reads_105 : decode cX2_reads 105 = .ok (.getfield 13, 3) := dk_180 0 13 (dk_at dksX2_reads_4 13 rfl rfl)
theorem dX2_reads_108 : decode cX2_reads 108 = .ok (.iconst 0, 1) := dk_3 (dk_at dksX2_reads_4 16 rfl rfl)
theorem dX2_reads_109 : decode cX2_reads 109 = .ok (.aload_n 0, 1) := dk_42 (dk_at dksX2_reads_4 17 rfl rfl)
theorem dX2_reads_110 : decode cX2_reads 110 = .ok (.iconst 0, 1) := dk_3 (dk_at dksX2_reads_4 18 rfl rfl)
theorem dX2_reads_111 : decode cX2_reads 111 = .ok (.bipush 8, 2) := dk_16 8 (dk_at dksX2_reads_4 19 rfl rfl)
theorem dX2_reads_113 : decode cX2_reads 113 = .ok (.invokevirtual 212, 3) := dk_182 0 212 (dk_at dksX2_reads_4 21 rfl rfl)
theorem dX2_reads_116 : decode cX2_reads 116 = .ok (.iastore, 1) := dk_79 (dk_at dksX2_reads_5 0 rfl rfl)
theorem dX2_reads_117 : decode cX2_reads 117 = .ok (.aload_n 0, 1) := dk_42 (dk_at dksX2_reads_5 1 rfl rfl)
theorem dX2_reads_118 : decode cX2_reads 118 = .ok (.getfield 7, 3) := dk_180 0 7 (dk_at dksX2_reads_5 2 rfl rfl)
theorem dX2_reads_121 : decode cX2_reads 121 = .ok (.iconst 0, 1) := dk_3 (dk_at dksX2_reads_5 5 rfl rfl)
theorem dX2_reads_122 : decode cX2_reads 122 = .ok (.aload_n 0, 1) := dk_42 (dk_at dksX2_reads_5 6 rfl rfl)
theorem dX2_reads_123 : decode cX2_reads 123 = .ok (.iconst 1, 1) := dk_4 (dk_at dksX2_reads_5 7 rfl rfl)
theorem dX2_reads_124 : decode cX2_reads 124 = .ok (.bipush 9, 2) := dk_16 9 (dk_at dksX2_reads_5 8 rfl rfl)
theorem dX2_reads_126 : decode cX2_reads 126 = .ok (.invokevirtual 212, 3) := dk_182 0 212 (dk_at dksX2_reads_5 10 rfl rfl)
theorem dX2_reads_129 : decode cX2_reads 129 = .ok (.iastore, 1) := dk_79 (dk_at dksX2_reads_5 13 rfl rfl)
theorem dX2_reads_130 : decode cX2_reads 130 = .ok (.aload_n 0, 1) := dk_42 (dk_at dksX2_reads_5 14 rfl rfl)
theorem dX2_reads_131 : decode cX2_reads 131 = .ok (.getfield 174, 3) := dk_180 0 174 (dk_at dksX2_reads_5 15 rfl rfl)
theorem dX2_reads_134 : decode cX2_reads 134 = .ok (.ifCond .ne 22, 3) := dk_154 0 22 (dk_at dksX2_reads_5 18 rfl rfl)
theorem dX2_reads_137 : decode cX2_reads 137 = .ok (.aload_n 0, 1) := dk_42 (dk_at dksX2_reads_5 21 rfl rfl)
theorem dX2_reads_138 : decode cX2_reads 138 = .ok (.getfield 162, 3) := dk_180 0 162 (dk_at dksX2_reads_6 0 rfl rfl)
theorem dX2_reads_141 : decode cX2_reads 141 = .ok (.iconst 3, 1) := dk_6 (dk_at dksX2_reads_6 3 rfl rfl)
theorem dX2_reads_142 : decode cX2_reads 142 = .ok (.if_icmp .ne 14, 3) := dk_160 0 14 (dk_at dksX2_reads_6 4 rfl rfl)
theorem dX2_reads_145 : decode cX2_reads 145 = .ok (.aload_n 0, 1) := dk_42 (dk_at dksX2_reads_6 7 rfl rfl)
theorem dX2_reads_146 : decode cX2_reads 146 = .ok (.invokevirtual 184, 3) := dk_182 0 184 (dk_at dksX2_reads_6 8 rfl rfl)
theorem dX2_reads_149 : decode cX2_reads 149 = .ok (.aload_n 0, 1) := dk_42 (dk_at dksX2_reads_6 11 rfl rfl)
theorem dX2_reads_150 : decode cX2_reads 150 = .ok (.invokevirtual 245, 3) := dk_182 0 245 (dk_at dksX2_reads_6 12 rfl rfl)
theorem dX2_reads_153 : decode cX2_reads 153 = .ok (.goto (-23), 3) := dk_167 255 233 (dk_at dksX2_reads_6 15 rfl rfl)
theorem dX2_reads_156 : decode cX2_reads 156 = .ok (.aload_n 0, 1) := dk_42 (dk_at dksX2_reads_6 18 rfl rfl)
theorem dX2_reads_157 : decode cX2_reads 157 = .ok (.aload_n 0, 1) := dk_42 (dk_at dksX2_reads_6 19 rfl rfl)
theorem dX2_reads_158 : decode cX2_reads 158 = .ok (.getfield 162, 3) := dk_180 0 162 (dk_at dksX2_reads_6 20 rfl rfl)
theorem dX2_reads_161 : decode cX2_reads 161 = .ok (.ifCond .eq 7, 3) := dk_153 0 7 (dk_at dksX2_reads_7 0 rfl rfl)
theorem dX2_reads_164 : decode cX2_reads 164 = .ok (.iconst 1, 1) := dk_4 (dk_at dksX2_reads_7 3 rfl rfl)
theorem dX2_reads_165 : decode cX2_reads 165 = .ok (.goto 4, 3) := dk_167 0 4 (dk_at dksX2_reads_7 4 rfl rfl)
theorem dX2_reads_168 : decode cX2_reads 168 = .ok (.iconst 0, 1) := dk_3 (dk_at dksX2_reads_7 7 rfl rfl)
theorem dX2_reads_169 : decode cX2_reads 169 = .ok (.iconst 1, 1) := dk_4 (dk_at dksX2_reads_7 8 rfl rfl)
theorem dX2_reads_170 : decode cX2_reads 170 = .ok (.invokevirtual 208, 3) := dk_182 0 208 (dk_at dksX2_reads_7 9 rfl rfl)
theorem dX2_reads_173 : decode cX2_reads 173 = .ok (.aload_n 0, 1) := dk_42 (dk_at dksX2_reads_7 12 rfl rfl)
theorem dX2_reads_174 : decode cX2_reads 174 = .ok (.aload_n 0, 1) := dk_42 (dk_at dksX2_reads_7 13 rfl rfl)
theorem dX2_reads_175 : decode cX2_reads 175 = .ok (.invokevirtual 90, 3) := dk_182 0 90 (dk_at dksX2_reads_7 14 rfl rfl)
theorem dX2_reads_178 : decode cX2_reads 178 = .ok (.ifCond .ne 7, 3) := dk_154 0 7 (dk_at dksX2_reads_7 17 rfl rfl)
theorem dX2_reads_181 : decode cX2_reads 181 = .ok (.iconst 1, 1) := dk_4 (dk_at dksX2_reads_7 20 rfl rfl)
theorem dX2_reads_182 : decode cX2_reads 182 = .ok (.goto 4, 3) := dk_167 0 4 (dk_at dksX2_reads_7 21 rfl rfl)
theorem dX2_reads_185 : decode cX2_reads 185 = .ok (.iconst 0, 1) := dk_3 (dk_at dksX2_reads_8 0 rfl rfl)
theorem dX2_reads_186 : decode cX2_reads 186 = .ok (.iconst 5, 1) := dk_8 (dk_at dksX2_reads_8 1 rfl rfl)
theorem dX2_reads_187 : decode cX2_reads 187 = .ok (.invokevirtual 208, 3) := dk_182 0 208 (dk_at dksX2_reads_8 2 rfl rfl)
theorem dX2_reads_190 : decode cX2_reads 190 = .ok (.return_, 1) := dk_177 (dk_at dksX2_reads_8 5 rfl rfl)
abbrev cX2_isWord : ByteArray := prog_14_method_49_code
def yX2_isWord : MethodName := ⟨RX2, "isWord", "(Ljava/lang/String;)Z"⟩
def dkwX2_isWord_2 : List UInt8 := [28, 96, 182, 0, 156, 43, 28, 182, 0, 191, 159, 0, 5, 3, 172, 132, 2, 1, 167, 255, 225, 4, 172]
abbrev dktX2_isWord_2 : List UInt8 := dkwX2_isWord_2 ++ []
def dkwX2_isWord_1 : List UInt8 := [43, 182, 0, 187, 159, 0, 5, 3, 172, 3, 61, 28, 43, 182, 0, 187, 162, 0, 29, 42, 42, 180, 0, 159]
abbrev dktX2_isWord_1 : List UInt8 := dkwX2_isWord_1 ++ dktX2_isWord_2
def dkwX2_isWord_0 : List UInt8 := [42, 180, 0, 174, 154, 0, 27, 42, 180, 0, 162, 4, 160, 0, 19, 42, 180, 0, 153, 42, 180, 0, 159, 100]
abbrev dktX2_isWord_0 : List UInt8 := dkwX2_isWord_0 ++ dktX2_isWord_1
theorem dksX2_isWord_0 : cX2_isWord.data.toList.drop 0 = dktX2_isWord_0 := by decide +kernel
theorem dksX2_isWord_1 : cX2_isWord.data.toList.drop 24 = dktX2_isWord_1 := dk_seg dksX2_isWord_0 24 rfl rfl
theorem dksX2_isWord_2 : cX2_isWord.data.toList.drop 48 = dktX2_isWord_2 := dk_seg dksX2_isWord_1 24 rfl rfl
theorem dX2_isWord_0 : decode cX2_isWord 0 = .ok (.aload_n 0, 1) := dk_42 (dk_at dksX2_isWord_0 0 rfl rfl)
theorem dX2_isWord_1 : decode cX2_isWord 1 = .ok (.getfield 174, 3) := dk_180 0 174 (dk_at dksX2_isWord_0 1 rfl rfl)
theorem dX2_isWord_4 : decode cX2_isWord 4 = .ok (.ifCond .ne 27, 3) := dk_154 0 27 (dk_at dksX2_isWord_0 4 rfl rfl)
theorem dX2_isWord_7 : decode cX2_isWord 7 = .ok (.aload_n 0, 1) := dk_42 (dk_at dksX2_isWord_0 7 rfl rfl)
theorem dX2_isWord_8 : decode cX2_isWord 8 = .ok (.getfield 162, 3) := dk_180 0 162 (dk_at dksX2_isWord_0 8 rfl rfl)
theorem dX2_isWord_11 : decode cX2_isWord 11 = .ok (.iconst 1, 1) := dk_4 (dk_at dksX2_isWord_0 11 rfl rfl)
theorem dX2_isWord_12 : decode cX2_isWord 12 = .ok (.if_icmp .ne 19, 3) := dk_160 0 19 (dk_at dksX2_isWord_0 12 rfl rfl)
theorem dX2_isWord_15 : decode cX2_isWord 15 = .ok (.aload_n 0, 1) := dk_42 (dk_at dksX2_isWord_0 15 rfl rfl)
theorem dX2_isWord_16 : decode cX2_isWord 16 = .ok (.getfield 153, 3) := dk_180 0 153 (dk_at dksX2_isWord_0 16 rfl rfl)
theorem dX2_isWord_19 : decode cX2_isWord 19 = .ok (.aload_n 0, 1) := dk_42 (dk_at dksX2_isWord_0 19 rfl rfl)
theorem dX2_isWord_20 : decode cX2_isWord 20 = .ok (.getfield 159, 3) := dk_180 0 159 (dk_at dksX2_isWord_0 20 rfl rfl)
theorem dX2_isWord_23 : decode cX2_isWord 23 = .ok (.isub, 1) := dk_100 (dk_at dksX2_isWord_0 23 rfl rfl)
theorem dX2_isWord_24 : decode cX2_isWord 24 = .ok (.aload_n 1, 1) := dk_43 (dk_at dksX2_isWord_1 0 rfl rfl)
theorem dX2_isWord_25 : decode cX2_isWord 25 = .ok (.invokevirtual 187, 3) := dk_182 0 187 (dk_at dksX2_isWord_1 1 rfl rfl)
theorem dX2_isWord_28 : decode cX2_isWord 28 = .ok (.if_icmp .eq 5, 3) := dk_159 0 5 (dk_at dksX2_isWord_1 4 rfl rfl)
theorem dX2_isWord_31 : decode cX2_isWord 31 = .ok (.iconst 0, 1) := dk_3 (dk_at dksX2_isWord_1 7 rfl rfl)
theorem dX2_isWord_32 : decode cX2_isWord 32 = .ok (.ireturn, 1) := dk_172 (dk_at dksX2_isWord_1 8 rfl rfl)
theorem dX2_isWord_33 : decode cX2_isWord 33 = .ok (.iconst 0, 1) := dk_3 (dk_at dksX2_isWord_1 9 rfl rfl)
theorem dX2_isWord_34 : decode cX2_isWord 34 = .ok (.istore_n 2, 1) := dk_61 (dk_at dksX2_isWord_1 10 rfl rfl)
theorem dX2_isWord_35 : decode cX2_isWord 35 = .ok (.iload_n 2, 1) := dk_28 (dk_at dksX2_isWord_1 11 rfl rfl)
theorem dX2_isWord_36 : decode cX2_isWord 36 = .ok (.aload_n 1, 1) := dk_43 (dk_at dksX2_isWord_1 12 rfl rfl)
theorem dX2_isWord_37 : decode cX2_isWord 37 = .ok (.invokevirtual 187, 3) := dk_182 0 187 (dk_at dksX2_isWord_1 13 rfl rfl)
theorem dX2_isWord_40 : decode cX2_isWord 40 = .ok (.if_icmp .ge 29, 3) := dk_162 0 29 (dk_at dksX2_isWord_1 16 rfl rfl)
theorem dX2_isWord_43 : decode cX2_isWord 43 = .ok (.aload_n 0, 1) := dk_42 (dk_at dksX2_isWord_1 19 rfl rfl)
theorem dX2_isWord_44 : decode cX2_isWord 44 = .ok (.aload_n 0, 1) := dk_42 (dk_at dksX2_isWord_1 20 rfl rfl)
theorem dX2_isWord_45 : decode cX2_isWord 45 = .ok (.getfield 159, 3) := dk_180 0 159 (dk_at dksX2_isWord_1 21 rfl rfl)
theorem dX2_isWord_48 : decode cX2_isWord 48 = .ok (.iload_n 2, 1) := dk_28 (dk_at dksX2_isWord_2 0 rfl rfl)
theorem dX2_isWord_49 : decode cX2_isWord 49 = .ok (.iadd, 1) := dk_96 (dk_at dksX2_isWord_2 1 rfl rfl)
theorem dX2_isWord_50 : decode cX2_isWord 50 = .ok (.invokevirtual 156, 3) := dk_182 0 156 (dk_at dksX2_isWord_2 2 rfl rfl)
theorem dX2_isWord_53 : decode cX2_isWord 53 = .ok (.aload_n 1, 1) := dk_43 (dk_at dksX2_isWord_2 5 rfl rfl)
theorem dX2_isWord_54 : decode cX2_isWord 54 = .ok (.iload_n 2, 1) := dk_28 (dk_at dksX2_isWord_2 6 rfl rfl)
theorem dX2_isWord_55 : decode cX2_isWord 55 = .ok (.invokevirtual 191, 3) := dk_182 0 191 (dk_at dksX2_isWord_2 7 rfl rfl)
theorem dX2_isWord_58 : decode cX2_isWord 58 = .ok (.if_icmp .eq 5, 3) := dk_159 0 5 (dk_at dksX2_isWord_2 10 rfl rfl)
theorem dX2_isWord_61 : decode cX2_isWord 61 = .ok (.iconst 0, 1) := dk_3 (dk_at dksX2_isWord_2 13 rfl rfl)
theorem dX2_isWord_62 : decode cX2_isWord 62 = .ok (.ireturn, 1) := dk_172 (dk_at dksX2_isWord_2 14 rfl rfl)
theorem dX2_isWord_63 : decode cX2_isWord 63 = .ok (.iinc 2 1, 3) := dk_132 2 1 (dk_at dksX2_isWord_2 15 rfl rfl)
theorem dX2_isWord_66 : decode cX2_isWord 66 = .ok (.goto (-31), 3) := dk_167 255 225 (dk_at dksX2_isWord_2 18 rfl rfl)
theorem dX2_isWord_69 : decode cX2_isWord 69 = .ok (.iconst 1, 1) := dk_4 (dk_at dksX2_isWord_2 21 rfl rfl)
theorem dX2_isWord_70 : decode cX2_isWord 70 = .ok (.ireturn, 1) := dk_172 (dk_at dksX2_isWord_2 22 rfl rfl)
abbrev cX2_failsIf : ByteArray := prog_14_method_47_code
def yX2_failsIf : MethodName := ⟨RX2, "failsIf", "(ZI)V"⟩
def dkwX2_failsIf_0 : List UInt8 := [27, 153, 0, 8, 42, 28, 182, 0, 180, 177]
abbrev dktX2_failsIf_0 : List UInt8 := dkwX2_failsIf_0 ++ []
theorem dksX2_failsIf_0 : cX2_failsIf.data.toList.drop 0 = dktX2_failsIf_0 := by decide +kernel
theorem dX2_failsIf_0 : decode cX2_failsIf 0 = .ok (.iload_n 1, 1) := dk_27 (dk_at dksX2_failsIf_0 0 rfl rfl)
theorem dX2_failsIf_1 : decode cX2_failsIf 1 = .ok (.ifCond .eq 8, 3) := dk_153 0 8 (dk_at dksX2_failsIf_0 1 rfl rfl)
theorem dX2_failsIf_4 : decode cX2_failsIf 4 = .ok (.aload_n 0, 1) := dk_42 (dk_at dksX2_failsIf_0 4 rfl rfl)
theorem dX2_failsIf_5 : decode cX2_failsIf 5 = .ok (.iload_n 2, 1) := dk_28 (dk_at dksX2_failsIf_0 5 rfl rfl)
theorem dX2_failsIf_6 : decode cX2_failsIf 6 = .ok (.invokevirtual 180, 3) := dk_182 0 180 (dk_at dksX2_failsIf_0 6 rfl rfl)
theorem dX2_failsIf_9 : decode cX2_failsIf 9 = .ok (.return_, 1) := dk_177 (dk_at dksX2_failsIf_0 9 rfl rfl)
abbrev cX2_fails : ByteArray := prog_14_method_46_code
def yX2_fails : MethodName := ⟨RX2, "fails", "(I)V"⟩
def dkwX2_fails_0 : List UInt8 := [42, 180, 0, 174, 154, 0, 16, 42, 27, 181, 0, 174, 42, 42, 180, 0, 159, 181, 0, 177, 177]
abbrev dktX2_fails_0 : List UInt8 := dkwX2_fails_0 ++ []
theorem dksX2_fails_0 : cX2_fails.data.toList.drop 0 = dktX2_fails_0 := by decide +kernel
theorem dX2_fails_0 : decode cX2_fails 0 = .ok (.aload_n 0, 1) := dk_42 (dk_at dksX2_fails_0 0 rfl rfl)
theorem dX2_fails_1 : decode cX2_fails 1 = .ok (.getfield 174, 3) := dk_180 0 174 (dk_at dksX2_fails_0 1 rfl rfl)
theorem dX2_fails_4 : decode cX2_fails 4 = .ok (.ifCond .ne 16, 3) := dk_154 0 16 (dk_at dksX2_fails_0 4 rfl rfl)
theorem dX2_fails_7 : decode cX2_fails 7 = .ok (.aload_n 0, 1) := dk_42 (dk_at dksX2_fails_0 7 rfl rfl)
theorem dX2_fails_8 : decode cX2_fails 8 = .ok (.iload_n 1, 1) := dk_27 (dk_at dksX2_fails_0 8 rfl rfl)
theorem dX2_fails_9 : decode cX2_fails 9 = .ok (.putfield 174, 3) := dk_181 0 174 (dk_at dksX2_fails_0 9 rfl rfl)
theorem dX2_fails_12 : decode cX2_fails 12 = .ok (.aload_n 0, 1) := dk_42 (dk_at dksX2_fails_0 12 rfl rfl)
theorem dX2_fails_13 : decode cX2_fails 13 = .ok (.aload_n 0, 1) := dk_42 (dk_at dksX2_fails_0 13 rfl rfl)
theorem dX2_fails_14 : decode cX2_fails 14 = .ok (.getfield 159, 3) := dk_180 0 159 (dk_at dksX2_fails_0 14 rfl rfl)
theorem dX2_fails_17 : decode cX2_fails 17 = .ok (.putfield 177, 3) := dk_181 0 177 (dk_at dksX2_fails_0 17 rfl rfl)
theorem dX2_fails_20 : decode cX2_fails 20 = .ok (.return_, 1) := dk_177 (dk_at dksX2_fails_0 20 rfl rfl)
abbrev cX2_goesOn : ByteArray := prog_14_method_48_code
def yX2_goesOn : MethodName := ⟨RX2, "goesOn", "()V"⟩
def dkwX2_goesOn_0 : List UInt8 := [42, 180, 0, 174, 154, 0, 7, 42, 182, 0, 184, 177]
abbrev dktX2_goesOn_0 : List UInt8 := dkwX2_goesOn_0 ++ []
theorem dksX2_goesOn_0 : cX2_goesOn.data.toList.drop 0 = dktX2_goesOn_0 := by decide +kernel
theorem dX2_goesOn_0 : decode cX2_goesOn 0 = .ok (.aload_n 0, 1) := dk_42 (dk_at dksX2_goesOn_0 0 rfl rfl)
theorem dX2_goesOn_1 : decode cX2_goesOn 1 = .ok (.getfield 174, 3) := dk_180 0 174 (dk_at dksX2_goesOn_0 1 rfl rfl)
theorem dX2_goesOn_4 : decode cX2_goesOn 4 = .ok (.ifCond .ne 7, 3) := dk_154 0 7 (dk_at dksX2_goesOn_0 4 rfl rfl)
theorem dX2_goesOn_7 : decode cX2_goesOn 7 = .ok (.aload_n 0, 1) := dk_42 (dk_at dksX2_goesOn_0 7 rfl rfl)
theorem dX2_goesOn_8 : decode cX2_goesOn 8 = .ok (.invokevirtual 184, 3) := dk_182 0 184 (dk_at dksX2_goesOn_0 8 rfl rfl)
theorem dX2_goesOn_11 : decode cX2_goesOn 11 = .ok (.return_, 1) := dk_177 (dk_at dksX2_goesOn_0 11 rfl rfl)
abbrev cX2_takes : ByteArray := prog_14_method_51_code
def yX2_takes : MethodName := ⟨RX2, "takes", "(II)I"⟩
def dkwX2_takes_0 : List UInt8 := [42, 27, 28, 182, 0, 199, 62, 42, 182, 0, 202, 29, 172]
abbrev dktX2_takes_0 : List UInt8 := dkwX2_takes_0 ++ []
theorem dksX2_takes_0 : cX2_takes.data.toList.drop 0 = dktX2_takes_0 := by decide +kernel
theorem dX2_takes_0 : decode cX2_takes 0 = .ok (.aload_n 0, 1) := dk_42 (dk_at dksX2_takes_0 0 rfl rfl)
theorem dX2_takes_1 : decode cX2_takes 1 = .ok (.iload_n 1, 1) := dk_27 (dk_at dksX2_takes_0 1 rfl rfl)
theorem dX2_takes_2 : decode cX2_takes 2 = .ok (.iload_n 2, 1) := dk_28 (dk_at dksX2_takes_0 2 rfl rfl)
theorem dX2_takes_3 : decode cX2_takes 3 = .ok (.invokevirtual 199, 3) := dk_182 0 199 (dk_at dksX2_takes_0 3 rfl rfl)
theorem dX2_takes_6 : decode cX2_takes 6 = .ok (.istore_n 3, 1) := dk_62 (dk_at dksX2_takes_0 6 rfl rfl)
theorem dX2_takes_7 : decode cX2_takes 7 = .ok (.aload_n 0, 1) := dk_42 (dk_at dksX2_takes_0 7 rfl rfl)
theorem dX2_takes_8 : decode cX2_takes 8 = .ok (.invokevirtual 202, 3) := dk_182 0 202 (dk_at dksX2_takes_0 8 rfl rfl)
theorem dX2_takes_11 : decode cX2_takes 11 = .ok (.iload_n 3, 1) := dk_29 (dk_at dksX2_takes_0 11 rfl rfl)
theorem dX2_takes_12 : decode cX2_takes 12 = .ok (.ireturn, 1) := dk_172 (dk_at dksX2_takes_0 12 rfl rfl)
abbrev cX2_looks : ByteArray := prog_14_method_50_code
def yX2_looks : MethodName := ⟨RX2, "looks", "(II)I"⟩
def dkwX2_looks_2 : List UInt8 := [180, 0, 171, 172]
abbrev dktX2_looks_2 : List UInt8 := dkwX2_looks_2 ++ []
def dkwX2_looks_1 : List UInt8 := [133, 184, 0, 195, 154, 0, 8, 42, 5, 182, 0, 180, 42, 180, 0, 174, 153, 0, 7, 27, 167, 0, 7, 42]
abbrev dktX2_looks_1 : List UInt8 := dkwX2_looks_1 ++ dktX2_looks_2
def dkwX2_looks_0 : List UInt8 := [42, 180, 0, 162, 5, 159, 0, 11, 42, 4, 182, 0, 180, 167, 0, 23, 42, 180, 0, 171, 133, 27, 133, 28]
abbrev dktX2_looks_0 : List UInt8 := dkwX2_looks_0 ++ dktX2_looks_1
theorem dksX2_looks_0 : cX2_looks.data.toList.drop 0 = dktX2_looks_0 := by decide +kernel
theorem dksX2_looks_1 : cX2_looks.data.toList.drop 24 = dktX2_looks_1 := dk_seg dksX2_looks_0 24 rfl rfl
theorem dksX2_looks_2 : cX2_looks.data.toList.drop 48 = dktX2_looks_2 := dk_seg dksX2_looks_1 24 rfl rfl
theorem dX2_looks_0 : decode cX2_looks 0 = .ok (.aload_n 0, 1) := dk_42 (dk_at dksX2_looks_0 0 rfl rfl)
theorem dX2_looks_1 : decode cX2_looks 1 = .ok (.getfield 162, 3) := dk_180 0 162 (dk_at dksX2_looks_0 1 rfl rfl)
theorem dX2_looks_4 : decode cX2_looks 4 = .ok (.iconst 2, 1) := dk_5 (dk_at dksX2_looks_0 4 rfl rfl)
theorem dX2_looks_5 : decode cX2_looks 5 = .ok (.if_icmp .eq 11, 3) := dk_159 0 11 (dk_at dksX2_looks_0 5 rfl rfl)
theorem dX2_looks_8 : decode cX2_looks 8 = .ok (.aload_n 0, 1) := dk_42 (dk_at dksX2_looks_0 8 rfl rfl)
theorem dX2_looks_9 : decode cX2_looks 9 = .ok (.iconst 1, 1) := dk_4 (dk_at dksX2_looks_0 9 rfl rfl)
theorem dX2_looks_10 : decode cX2_looks 10 = .ok (.invokevirtual 180, 3) := dk_182 0 180 (dk_at dksX2_looks_0 10 rfl rfl)
theorem dX2_looks_13 : decode cX2_looks 13 = .ok (.goto 23, 3) := dk_167 0 23 (dk_at dksX2_looks_0 13 rfl rfl)
theorem dX2_looks_16 : decode cX2_looks 16 = .ok (.aload_n 0, 1) := dk_42 (dk_at dksX2_looks_0 16 rfl rfl)
theorem dX2_looks_17 : decode cX2_looks 17 = .ok (.getfield 171, 3) := dk_180 0 171 (dk_at dksX2_looks_0 17 rfl rfl)
theorem dX2_looks_20 : decode cX2_looks 20 = .ok (.i2l, 1) := dk_133 (dk_at dksX2_looks_0 20 rfl rfl)
theorem dX2_looks_21 : decode cX2_looks 21 = .ok (.iload_n 1, 1) := dk_27 (dk_at dksX2_looks_0 21 rfl rfl)
theorem dX2_looks_22 : decode cX2_looks 22 = .ok (.i2l, 1) := dk_133 (dk_at dksX2_looks_0 22 rfl rfl)
theorem dX2_looks_23 : decode cX2_looks 23 = .ok (.iload_n 2, 1) := dk_28 (dk_at dksX2_looks_0 23 rfl rfl)
theorem dX2_looks_24 : decode cX2_looks 24 = .ok (.i2l, 1) := dk_133 (dk_at dksX2_looks_1 0 rfl rfl)
theorem dX2_looks_25 : decode cX2_looks 25 = .ok (.invokestatic 195, 3) := dk_184 0 195 (dk_at dksX2_looks_1 1 rfl rfl)
theorem dX2_looks_28 : decode cX2_looks 28 = .ok (.ifCond .ne 8, 3) := dk_154 0 8 (dk_at dksX2_looks_1 4 rfl rfl)
theorem dX2_looks_31 : decode cX2_looks 31 = .ok (.aload_n 0, 1) := dk_42 (dk_at dksX2_looks_1 7 rfl rfl)
theorem dX2_looks_32 : decode cX2_looks 32 = .ok (.iconst 2, 1) := dk_5 (dk_at dksX2_looks_1 8 rfl rfl)
theorem dX2_looks_33 : decode cX2_looks 33 = .ok (.invokevirtual 180, 3) := dk_182 0 180 (dk_at dksX2_looks_1 9 rfl rfl)
theorem dX2_looks_36 : decode cX2_looks 36 = .ok (.aload_n 0, 1) := dk_42 (dk_at dksX2_looks_1 12 rfl rfl)
theorem dX2_looks_37 : decode cX2_looks 37 = .ok (.getfield 174, 3) := dk_180 0 174 (dk_at dksX2_looks_1 13 rfl rfl)
theorem dX2_looks_40 : decode cX2_looks 40 = .ok (.ifCond .eq 7, 3) := dk_153 0 7 (dk_at dksX2_looks_1 16 rfl rfl)
theorem dX2_looks_43 : decode cX2_looks 43 = .ok (.iload_n 1, 1) := dk_27 (dk_at dksX2_looks_1 19 rfl rfl)
theorem dX2_looks_44 : decode cX2_looks 44 = .ok (.goto 7, 3) := dk_167 0 7 (dk_at dksX2_looks_1 20 rfl rfl)
theorem dX2_looks_47 : decode cX2_looks 47 = .ok (.aload_n 0, 1) := dk_42 (dk_at dksX2_looks_1 23 rfl rfl)
theorem dX2_looks_48 : decode cX2_looks 48 = .ok (.getfield 171, 3) := dk_180 0 171 (dk_at dksX2_looks_2 0 rfl rfl)
theorem dX2_looks_51 : decode cX2_looks 51 = .ok (.ireturn, 1) := dk_172 (dk_at dksX2_looks_2 3 rfl rfl)
abbrev cX2_line : ByteArray := prog_14_method_55_code
def yX2_line : MethodName := ⟨RX2, "line", "()V"⟩
def dkwX2_line_5 : List UInt8 := [181, 0, 205, 42, 182, 0, 202, 167, 0, 8, 42, 4, 182, 0, 180, 177]
abbrev dktX2_line_5 : List UInt8 := dkwX2_line_5 ++ []
def dkwX2_line_4 : List UInt8 := [27, 96, 46, 79, 167, 0, 34, 42, 18, 239, 182, 0, 220, 153, 0, 20, 42, 182, 0, 240, 60, 42, 4]
abbrev dktX2_line_4 : List UInt8 := dkwX2_line_4 ++ dktX2_line_5
def dkwX2_line_3 : List UInt8 := [180, 0, 13, 16, 9, 27, 96, 42, 180, 0, 174, 154, 0, 7, 3, 167, 0, 12, 42, 180, 0, 13, 16, 9]
abbrev dktX2_line_3 : List UInt8 := dkwX2_line_3 ++ dktX2_line_4
def dkwX2_line_2 : List UInt8 := [167, 0, 86, 42, 18, 237, 182, 0, 220, 153, 0, 46, 42, 182, 0, 202, 42, 3, 8, 182, 0, 212, 60, 42]
abbrev dktX2_line_2 : List UInt8 := dkwX2_line_2 ++ dktX2_line_3
def dkwX2_line_1 : List UInt8 := [153, 0, 10, 42, 182, 0, 229, 167, 0, 102, 42, 18, 232, 182, 0, 220, 153, 0, 10, 42, 182, 0, 234]
abbrev dktX2_line_1 : List UInt8 := dkwX2_line_1 ++ dktX2_line_2
def dkwX2_line_0 : List UInt8 := [42, 18, 218, 182, 0, 220, 153, 0, 10, 42, 182, 0, 224, 167, 0, 118, 42, 18, 227, 182, 0, 220]
abbrev dktX2_line_0 : List UInt8 := dkwX2_line_0 ++ dktX2_line_1
theorem dksX2_line_0 : cX2_line.data.toList.drop 0 = dktX2_line_0 := by decide +kernel
theorem dksX2_line_1 : cX2_line.data.toList.drop 22 = dktX2_line_1 := dk_seg dksX2_line_0 22 rfl rfl
theorem dksX2_line_2 : cX2_line.data.toList.drop 45 = dktX2_line_2 := dk_seg dksX2_line_1 23 rfl rfl
theorem dksX2_line_3 : cX2_line.data.toList.drop 69 = dktX2_line_3 := dk_seg dksX2_line_2 24 rfl rfl
theorem dksX2_line_4 : cX2_line.data.toList.drop 93 = dktX2_line_4 := dk_seg dksX2_line_3 24 rfl rfl
theorem dksX2_line_5 : cX2_line.data.toList.drop 116 = dktX2_line_5 := dk_seg dksX2_line_4 23 rfl rfl
theorem dX2_line_0 : decode cX2_line 0 = .ok (.aload_n 0, 1) := dk_42 (dk_at dksX2_line_0 0 rfl rfl)
theorem dX2_line_1 : decode cX2_line 1 = .ok (.ldc 218, 2) := dk_18 218 (dk_at dksX2_line_0 1 rfl rfl)
theorem dX2_line_3 : decode cX2_line 3 = .ok (.invokevirtual 220, 3) := dk_182 0 220 (dk_at dksX2_line_0 3 rfl rfl)
theorem dX2_line_6 : decode cX2_line 6 = .ok (.ifCond .eq 10, 3) := dk_153 0 10 (dk_at dksX2_line_0 6 rfl rfl)
theorem dX2_line_9 : decode cX2_line 9 = .ok (.aload_n 0, 1) := dk_42 (dk_at dksX2_line_0 9 rfl rfl)
theorem dX2_line_10 : decode cX2_line 10 = .ok (.invokevirtual 224, 3) := dk_182 0 224 (dk_at dksX2_line_0 10 rfl rfl)
theorem dX2_line_13 : decode cX2_line 13 = .ok (.goto 118, 3) := dk_167 0 118 (dk_at dksX2_line_0 13 rfl rfl)
theorem dX2_line_16 : decode cX2_line 16 = .ok (.aload_n 0, 1) := dk_42 (dk_at dksX2_line_0 16 rfl rfl)
theorem dX2_line_17 : decode cX2_line 17 = .ok (.ldc 227, 2) := dk_18 227 (dk_at dksX2_line_0 17 rfl rfl)
theorem dX2_line_19 : decode cX2_line 19 = .ok (.invokevirtual 220, 3) := dk_182 0 220 (dk_at dksX2_line_0 19 rfl rfl)
theorem dX2_line_22 : decode cX2_line 22 = .ok (.ifCond .eq 10, 3) := dk_153 0 10 (dk_at dksX2_line_1 0 rfl rfl)
theorem dX2_line_25 : decode cX2_line 25 = .ok (.aload_n 0, 1) := dk_42 (dk_at dksX2_line_1 3 rfl rfl)
theorem dX2_line_26 : decode cX2_line 26 = .ok (.invokevirtual 229, 3) := dk_182 0 229 (dk_at dksX2_line_1 4 rfl rfl)
theorem dX2_line_29 : decode cX2_line 29 = .ok (.goto 102, 3) := dk_167 0 102 (dk_at dksX2_line_1 7 rfl rfl)
theorem dX2_line_32 : decode cX2_line 32 = .ok (.aload_n 0, 1) := dk_42 (dk_at dksX2_line_1 10 rfl rfl)
theorem dX2_line_33 : decode cX2_line 33 = .ok (.ldc 232, 2) := dk_18 232 (dk_at dksX2_line_1 11 rfl rfl)
theorem dX2_line_35 : decode cX2_line 35 = .ok (.invokevirtual 220, 3) := dk_182 0 220 (dk_at dksX2_line_1 13 rfl rfl)
theorem dX2_line_38 : decode cX2_line 38 = .ok (.ifCond .eq 10, 3) := dk_153 0 10 (dk_at dksX2_line_1 16 rfl rfl)
theorem dX2_line_41 : decode cX2_line 41 = .ok (.aload_n 0, 1) := dk_42 (dk_at dksX2_line_1 19 rfl rfl)
theorem dX2_line_42 : decode cX2_line 42 = .ok (.invokevirtual 234, 3) := dk_182 0 234 (dk_at dksX2_line_1 20 rfl rfl)
theorem dX2_line_45 : decode cX2_line 45 = .ok (.goto 86, 3) := dk_167 0 86 (dk_at dksX2_line_2 0 rfl rfl)
theorem dX2_line_48 : decode cX2_line 48 = .ok (.aload_n 0, 1) := dk_42 (dk_at dksX2_line_2 3 rfl rfl)
theorem dX2_line_49 : decode cX2_line 49 = .ok (.ldc 237, 2) := dk_18 237 (dk_at dksX2_line_2 4 rfl rfl)
theorem dX2_line_51 : decode cX2_line 51 = .ok (.invokevirtual 220, 3) := dk_182 0 220 (dk_at dksX2_line_2 6 rfl rfl)
theorem dX2_line_54 : decode cX2_line 54 = .ok (.ifCond .eq 46, 3) := dk_153 0 46 (dk_at dksX2_line_2 9 rfl rfl)
theorem dX2_line_57 : decode cX2_line 57 = .ok (.aload_n 0, 1) := dk_42 (dk_at dksX2_line_2 12 rfl rfl)
theorem dX2_line_58 : decode cX2_line 58 = .ok (.invokevirtual 202, 3) := dk_182 0 202 (dk_at dksX2_line_2 13 rfl rfl)
theorem dX2_line_61 : decode cX2_line 61 = .ok (.aload_n 0, 1) := dk_42 (dk_at dksX2_line_2 16 rfl rfl)
theorem dX2_line_62 : decode cX2_line 62 = .ok (.iconst 0, 1) := dk_3 (dk_at dksX2_line_2 17 rfl rfl)
theorem dX2_line_63 : decode cX2_line 63 = .ok (.iconst 5, 1) := dk_8 (dk_at dksX2_line_2 18 rfl rfl)
theorem dX2_line_64 : decode cX2_line 64 = .ok (.invokevirtual 212, 3) := dk_182 0 212 (dk_at dksX2_line_2 19 rfl rfl)
theorem dX2_line_67 : decode cX2_line 67 = .ok (.istore_n 1, 1) := dk_60 (dk_at dksX2_line_2 22 rfl rfl)
theorem dX2_line_68 : decode cX2_line 68 = .ok (.aload_n 0, 1) := dk_42 (dk_at dksX2_line_2 23 rfl rfl)
theorem dX2_line_69 : decode cX2_line 69 = .ok (.getfield 13, 3) := dk_180 0 13 (dk_at dksX2_line_3 0 rfl rfl)
theorem dX2_line_72 : decode cX2_line 72 = .ok (.bipush 9, 2) := dk_16 9 (dk_at dksX2_line_3 3 rfl rfl)
theorem dX2_line_74 : decode cX2_line 74 = .ok (.iload_n 1, 1) := dk_27 (dk_at dksX2_line_3 5 rfl rfl)
theorem dX2_line_75 : decode cX2_line 75 = .ok (.iadd, 1) := dk_96 (dk_at dksX2_line_3 6 rfl rfl)
theorem dX2_line_76 : decode cX2_line 76 = .ok (.aload_n 0, 1) := dk_42 (dk_at dksX2_line_3 7 rfl rfl)
theorem dX2_line_77 : decode cX2_line 77 = .ok (.getfield 174, 3) := dk_180 0 174 (dk_at dksX2_line_3 8 rfl rfl)
theorem dX2_line_80 : decode cX2_line 80 = .ok (.ifCond .ne 7, 3) := dk_154 0 7 (dk_at dksX2_line_3 11 rfl rfl)
theorem dX2_line_83 : decode cX2_line 83 = .ok (.iconst 0, 1) := dk_3 (dk_at dksX2_line_3 14 rfl rfl)
theorem dX2_line_84 : decode cX2_line 84 = .ok (.goto 12, 3) := dk_167 0 12 (dk_at dksX2_line_3 15 rfl rfl)
theorem dX2_line_87 : decode cX2_line 87 = .ok (.aload_n 0, 1) := dk_42 (dk_at dksX2_line_3 18 rfl rfl)
theorem dX2_line_88 : decode cX2_line 88 = .ok (.getfield 13, 3) := dk_180 0 13 (dk_at dksX2_line_3 19 rfl rfl)
theorem dX2_line_91 : decode cX2_line 91 = .ok (.bipush 9, 2) := dk_16 9 (dk_at dksX2_line_3 22 rfl rfl)
theorem dX2_line_93 : decode cX2_line 93 = .ok (.iload_n 1, 1) := dk_27 (dk_at dksX2_line_4 0 rfl rfl)
theorem dX2_line_94 : decode cX2_line 94 = .ok (.iadd, 1) := dk_96 (dk_at dksX2_line_4 1 rfl rfl)
theorem dX2_line_95 : decode cX2_line 95 = .ok (.iaload, 1) := dk_46 (dk_at dksX2_line_4 2 rfl rfl)
theorem dX2_line_96 : decode cX2_line 96 = .ok (.iastore, 1) := dk_79 (dk_at dksX2_line_4 3 rfl rfl)
theorem dX2_line_97 : decode cX2_line 97 = .ok (.goto 34, 3) := dk_167 0 34 (dk_at dksX2_line_4 4 rfl rfl)
theorem dX2_line_100 : decode cX2_line 100 = .ok (.aload_n 0, 1) := dk_42 (dk_at dksX2_line_4 7 rfl rfl)
theorem dX2_line_101 : decode cX2_line 101 = .ok (.ldc 239, 2) := dk_18 239 (dk_at dksX2_line_4 8 rfl rfl)
theorem dX2_line_103 : decode cX2_line 103 = .ok (.invokevirtual 220, 3) := dk_182 0 220 (dk_at dksX2_line_4 10 rfl rfl)
theorem dX2_line_106 : decode cX2_line 106 = .ok (.ifCond .eq 20, 3) := dk_153 0 20 (dk_at dksX2_line_4 13 rfl rfl)
theorem dX2_line_109 : decode cX2_line 109 = .ok (.aload_n 0, 1) := dk_42 (dk_at dksX2_line_4 16 rfl rfl)
theorem dX2_line_110 : decode cX2_line 110 = .ok (.invokevirtual 240, 3) := dk_182 0 240 (dk_at dksX2_line_4 17 rfl rfl)
theorem dX2_line_113 : decode cX2_line 113 = .ok (.istore_n 1, 1) := dk_60 (dk_at dksX2_line_4 20 rfl rfl)
theorem dX2_line_114 : decode cX2_line 114 = .ok (.aload_n 0, 1) := dk_42 (dk_at dksX2_line_4 21 rfl rfl)
theorem dX2_line_115 : decode cX2_line 115 = .ok (.iconst 1, 1) := dk_4 (dk_at dksX2_line_4 22 rfl rfl)
theorem dX2_line_116 : decode cX2_line 116 = .ok (.putfield 205, 3) := dk_181 0 205 (dk_at dksX2_line_5 0 rfl rfl)
theorem dX2_line_119 : decode cX2_line 119 = .ok (.aload_n 0, 1) := dk_42 (dk_at dksX2_line_5 3 rfl rfl)
theorem dX2_line_120 : decode cX2_line 120 = .ok (.invokevirtual 202, 3) := dk_182 0 202 (dk_at dksX2_line_5 4 rfl rfl)
theorem dX2_line_123 : decode cX2_line 123 = .ok (.goto 8, 3) := dk_167 0 8 (dk_at dksX2_line_5 7 rfl rfl)
theorem dX2_line_126 : decode cX2_line 126 = .ok (.aload_n 0, 1) := dk_42 (dk_at dksX2_line_5 10 rfl rfl)
theorem dX2_line_127 : decode cX2_line 127 = .ok (.iconst 1, 1) := dk_4 (dk_at dksX2_line_5 11 rfl rfl)
theorem dX2_line_128 : decode cX2_line 128 = .ok (.invokevirtual 180, 3) := dk_182 0 180 (dk_at dksX2_line_5 12 rfl rfl)
theorem dX2_line_131 : decode cX2_line 131 = .ok (.return_, 1) := dk_177 (dk_at dksX2_line_5 15 rfl rfl)
abbrev cX2_townLine : ByteArray := prog_14_method_52_code
def yX2_townLine : MethodName := ⟨RX2, "townLine", "()V"⟩
def dkwX2_townLine_5 : List UInt8 := [16, 14, 27, 96, 29, 79, 42, 180, 0, 7, 4, 92, 46, 4, 96, 79, 177]
abbrev dktX2_townLine_5 : List UInt8 := dkwX2_townLine_5 ++ []
def dkwX2_townLine_4 : List UInt8 := [182, 0, 212, 62, 42, 180, 0, 174, 154, 0, 32, 42, 180, 0, 7, 5, 27, 96, 28, 79, 42, 180, 0, 7]
abbrev dktX2_townLine_4 : List UInt8 := dkwX2_townLine_4 ++ dktX2_townLine_5
def dkwX2_townLine_3 : List UInt8 := [4, 167, 0, 4, 3, 6, 182, 0, 208, 132, 3, 1, 167, 255, 219, 42, 182, 0, 202, 42, 3, 8]
abbrev dktX2_townLine_3 : List UInt8 := dkwX2_townLine_3 ++ dktX2_townLine_4
def dkwX2_townLine_2 : List UInt8 := [27, 162, 0, 38, 42, 42, 180, 0, 174, 154, 0, 19, 42, 180, 0, 7, 5, 29, 96, 46, 28, 160, 0, 7]
abbrev dktX2_townLine_2 : List UInt8 := dkwX2_townLine_2 ++ dktX2_townLine_3
def dkwX2_townLine_1 : List UInt8 := [182, 0, 208, 42, 182, 0, 202, 42, 182, 0, 90, 60, 42, 3, 17, 39, 15, 182, 0, 199, 61, 3, 62, 29]
abbrev dktX2_townLine_1 : List UInt8 := dkwX2_townLine_1 ++ dktX2_townLine_2
def dkwX2_townLine_0 : List UInt8 := [42, 42, 182, 0, 90, 16, 12, 159, 0, 10, 42, 180, 0, 205, 153, 0, 7, 4, 167, 0, 4, 3, 7]
abbrev dktX2_townLine_0 : List UInt8 := dkwX2_townLine_0 ++ dktX2_townLine_1
theorem dksX2_townLine_0 : cX2_townLine.data.toList.drop 0 = dktX2_townLine_0 := by decide +kernel
theorem dksX2_townLine_1 : cX2_townLine.data.toList.drop 23 = dktX2_townLine_1 := dk_seg dksX2_townLine_0 23 rfl rfl
theorem dksX2_townLine_2 : cX2_townLine.data.toList.drop 47 = dktX2_townLine_2 := dk_seg dksX2_townLine_1 24 rfl rfl
theorem dksX2_townLine_3 : cX2_townLine.data.toList.drop 71 = dktX2_townLine_3 := dk_seg dksX2_townLine_2 24 rfl rfl
theorem dksX2_townLine_4 : cX2_townLine.data.toList.drop 93 = dktX2_townLine_4 := dk_seg dksX2_townLine_3 22 rfl rfl
theorem dksX2_townLine_5 : cX2_townLine.data.toList.drop 117 = dktX2_townLine_5 := dk_seg dksX2_townLine_4 24 rfl rfl
theorem dX2_townLine_0 : decode cX2_townLine 0 = .ok (.aload_n 0, 1) := dk_42 (dk_at dksX2_townLine_0 0 rfl rfl)
theorem dX2_townLine_1 : decode cX2_townLine 1 = .ok (.aload_n 0, 1) := dk_42 (dk_at dksX2_townLine_0 1 rfl rfl)
theorem dX2_townLine_2 : decode cX2_townLine 2 = .ok (.invokevirtual 90, 3) := dk_182 0 90 (dk_at dksX2_townLine_0 2 rfl rfl)
theorem dX2_townLine_5 : decode cX2_townLine 5 = .ok (.bipush 12, 2) := dk_16 12 (dk_at dksX2_townLine_0 5 rfl rfl)
theorem dX2_townLine_7 : decode cX2_townLine 7 = .ok (.if_icmp .eq 10, 3) := dk_159 0 10 (dk_at dksX2_townLine_0 7 rfl rfl)
theorem dX2_townLine_10 : decode cX2_townLine 10 = .ok (.aload_n 0, 1) := dk_42 (dk_at dksX2_townLine_0 10 rfl rfl)
theorem dX2_townLine_11 : decode cX2_townLine 11 = .ok (.getfield 205, 3) := dk_180 0 205 (dk_at dksX2_townLine_0 11 rfl rfl)
theorem dX2_townLine_14 : decode cX2_townLine 14 = .ok (.ifCond .eq 7, 3) := dk_153 0 7 (dk_at dksX2_townLine_0 14 rfl rfl)
theorem dX2_townLine_17 : decode cX2_townLine 17 = .ok (.iconst 1, 1) := dk_4 (dk_at dksX2_townLine_0 17 rfl rfl)
theorem dX2_townLine_18 : decode cX2_townLine 18 = .ok (.goto 4, 3) := dk_167 0 4 (dk_at dksX2_townLine_0 18 rfl rfl)
theorem dX2_townLine_21 : decode cX2_townLine 21 = .ok (.iconst 0, 1) := dk_3 (dk_at dksX2_townLine_0 21 rfl rfl)
theorem dX2_townLine_22 : decode cX2_townLine 22 = .ok (.iconst 4, 1) := dk_7 (dk_at dksX2_townLine_0 22 rfl rfl)
theorem dX2_townLine_23 : decode cX2_townLine 23 = .ok (.invokevirtual 208, 3) := dk_182 0 208 (dk_at dksX2_townLine_1 0 rfl rfl)
theorem dX2_townLine_26 : decode cX2_townLine 26 = .ok (.aload_n 0, 1) := dk_42 (dk_at dksX2_townLine_1 3 rfl rfl)
theorem dX2_townLine_27 : decode cX2_townLine 27 = .ok (.invokevirtual 202, 3) := dk_182 0 202 (dk_at dksX2_townLine_1 4 rfl rfl)
theorem dX2_townLine_30 : decode cX2_townLine 30 = .ok (.aload_n 0, 1) := dk_42 (dk_at dksX2_townLine_1 7 rfl rfl)
theorem dX2_townLine_31 : decode cX2_townLine 31 = .ok (.invokevirtual 90, 3) := dk_182 0 90 (dk_at dksX2_townLine_1 8 rfl rfl)
theorem dX2_townLine_34 : decode cX2_townLine 34 = .ok (.istore_n 1, 1) := dk_60 (dk_at dksX2_townLine_1 11 rfl rfl)
theorem dX2_townLine_35 : decode cX2_townLine 35 = .ok (.aload_n 0, 1) := dk_42 (dk_at dksX2_townLine_1 12 rfl rfl)
theorem dX2_townLine_36 : decode cX2_townLine 36 = .ok (.iconst 0, 1) := dk_3 (dk_at dksX2_townLine_1 13 rfl rfl)
theorem dX2_townLine_37 : decode cX2_townLine 37 = .ok (.sipush 9999, 3) := dk_17 39 15 (dk_at dksX2_townLine_1 14 rfl rfl)
theorem dX2_townLine_40 : decode cX2_townLine 40 = .ok (.invokevirtual 199, 3) := dk_182 0 199 (dk_at dksX2_townLine_1 17 rfl rfl)
theorem dX2_townLine_43 : decode cX2_townLine 43 = .ok (.istore_n 2, 1) := dk_61 (dk_at dksX2_townLine_1 20 rfl rfl)
theorem dX2_townLine_44 : decode cX2_townLine 44 = .ok (.iconst 0, 1) := dk_3 (dk_at dksX2_townLine_1 21 rfl rfl)
theorem dX2_townLine_45 : decode cX2_townLine 45 = .ok (.istore_n 3, 1) := dk_62 (dk_at dksX2_townLine_1 22 rfl rfl)
theorem dX2_townLine_46 : decode cX2_townLine 46 = .ok (.iload_n 3, 1) := dk_29 (dk_at dksX2_townLine_1 23 rfl rfl)
theorem dX2_townLine_47 : decode cX2_townLine 47 = .ok (.iload_n 1, 1) := dk_27 (dk_at dksX2_townLine_2 0 rfl rfl)
theorem dX2_townLine_48 : decode cX2_townLine 48 = .ok (.if_icmp .ge 38, 3) := dk_162 0 38 (dk_at dksX2_townLine_2 1 rfl rfl)
theorem dX2_townLine_51 : decode cX2_townLine 51 = .ok (.aload_n 0, 1) := dk_42 (dk_at dksX2_townLine_2 4 rfl rfl)
theorem dX2_townLine_52 : decode cX2_townLine 52 = .ok (.aload_n 0, 1) := dk_42 (dk_at dksX2_townLine_2 5 rfl rfl)
theorem dX2_townLine_53 : decode cX2_townLine 53 = .ok (.getfield 174, 3) := dk_180 0 174 (dk_at dksX2_townLine_2 6 rfl rfl)
theorem dX2_townLine_56 : decode cX2_townLine 56 = .ok (.ifCond .ne 19, 3) := dk_154 0 19 (dk_at dksX2_townLine_2 9 rfl rfl)
theorem dX2_townLine_59 : decode cX2_townLine 59 = .ok (.aload_n 0, 1) := dk_42 (dk_at dksX2_townLine_2 12 rfl rfl)
theorem dX2_townLine_60 : decode cX2_townLine 60 = .ok (.getfield 7, 3) := dk_180 0 7 (dk_at dksX2_townLine_2 13 rfl rfl)
theorem dX2_townLine_63 : decode cX2_townLine 63 = .ok (.iconst 2, 1) := dk_5 (dk_at dksX2_townLine_2 16 rfl rfl)
theorem dX2_townLine_64 : decode cX2_townLine 64 = .ok (.iload_n 3, 1) := dk_29 (dk_at dksX2_townLine_2 17 rfl rfl)
theorem dX2_townLine_65 : decode cX2_townLine 65 = .ok (.iadd, 1) := dk_96 (dk_at dksX2_townLine_2 18 rfl rfl)
theorem dX2_townLine_66 : decode cX2_townLine 66 = .ok (.iaload, 1) := dk_46 (dk_at dksX2_townLine_2 19 rfl rfl)
theorem dX2_townLine_67 : decode cX2_townLine 67 = .ok (.iload_n 2, 1) := dk_28 (dk_at dksX2_townLine_2 20 rfl rfl)
theorem dX2_townLine_68 : decode cX2_townLine 68 = .ok (.if_icmp .ne 7, 3) := dk_160 0 7 (dk_at dksX2_townLine_2 21 rfl rfl)
theorem dX2_townLine_71 : decode cX2_townLine 71 = .ok (.iconst 1, 1) := dk_4 (dk_at dksX2_townLine_3 0 rfl rfl)
theorem dX2_townLine_72 : decode cX2_townLine 72 = .ok (.goto 4, 3) := dk_167 0 4 (dk_at dksX2_townLine_3 1 rfl rfl)
theorem dX2_townLine_75 : decode cX2_townLine 75 = .ok (.iconst 0, 1) := dk_3 (dk_at dksX2_townLine_3 4 rfl rfl)
theorem dX2_townLine_76 : decode cX2_townLine 76 = .ok (.iconst 3, 1) := dk_6 (dk_at dksX2_townLine_3 5 rfl rfl)
theorem dX2_townLine_77 : decode cX2_townLine 77 = .ok (.invokevirtual 208, 3) := dk_182 0 208 (dk_at dksX2_townLine_3 6 rfl rfl)
theorem dX2_townLine_80 : decode cX2_townLine 80 = .ok (.iinc 3 1, 3) := dk_132 3 1 (dk_at dksX2_townLine_3 9 rfl rfl)
theorem dX2_townLine_83 : decode cX2_townLine 83 = .ok (.goto (-37), 3) := dk_167 255 219 (dk_at dksX2_townLine_3 12 rfl rfl)
theorem dX2_townLine_86 : decode cX2_townLine 86 = .ok (.aload_n 0, 1) := dk_42 (dk_at dksX2_townLine_3 15 rfl rfl)
theorem dX2_townLine_87 : decode cX2_townLine 87 = .ok (.invokevirtual 202, 3) := dk_182 0 202 (dk_at dksX2_townLine_3 16 rfl rfl)
theorem dX2_townLine_90 : decode cX2_townLine 90 = .ok (.aload_n 0, 1) := dk_42 (dk_at dksX2_townLine_3 19 rfl rfl)
theorem dX2_townLine_91 : decode cX2_townLine 91 = .ok (.iconst 0, 1) := dk_3 (dk_at dksX2_townLine_3 20 rfl rfl)
theorem dX2_townLine_92 : decode cX2_townLine 92 = .ok (.iconst 5, 1) := dk_8 (dk_at dksX2_townLine_3 21 rfl rfl)
theorem dX2_townLine_93 : decode cX2_townLine 93 = .ok (.invokevirtual 212, 3) := dk_182 0 212 (dk_at dksX2_townLine_4 0 rfl rfl)
theorem dX2_townLine_96 : decode cX2_townLine 96 = .ok (.istore_n 3, 1) := dk_62 (dk_at dksX2_townLine_4 3 rfl rfl)
theorem dX2_townLine_97 : decode cX2_townLine 97 = .ok (.aload_n 0, 1) := dk_42 (dk_at dksX2_townLine_4 4 rfl rfl)
theorem dX2_townLine_98 : decode cX2_townLine 98 = .ok (.getfield 174, 3) := dk_180 0 174 (dk_at dksX2_townLine_4 5 rfl rfl)
theorem dX2_townLine_101 : decode cX2_townLine 101 = .ok (.ifCond .ne 32, 3) := dk_154 0 32 (dk_at dksX2_townLine_4 8 rfl rfl)
theorem dX2_townLine_104 : decode cX2_townLine 104 = .ok (.aload_n 0, 1) := dk_42 (dk_at dksX2_townLine_4 11 rfl rfl)
theorem dX2_townLine_105 : decode cX2_townLine 105 = .ok (.getfield 7, 3) := dk_180 0 7 (dk_at dksX2_townLine_4 12 rfl rfl)
theorem dX2_townLine_108 : decode cX2_townLine 108 = .ok (.iconst 2, 1) := dk_5 (dk_at dksX2_townLine_4 15 rfl rfl)
theorem dX2_townLine_109 : decode cX2_townLine 109 = .ok (.iload_n 1, 1) := dk_27 (dk_at dksX2_townLine_4 16 rfl rfl)
theorem dX2_townLine_110 : decode cX2_townLine 110 = .ok (.iadd, 1) := dk_96 (dk_at dksX2_townLine_4 17 rfl rfl)
theorem dX2_townLine_111 : decode cX2_townLine 111 = .ok (.iload_n 2, 1) := dk_28 (dk_at dksX2_townLine_4 18 rfl rfl)
theorem dX2_townLine_112 : decode cX2_townLine 112 = .ok (.iastore, 1) := dk_79 (dk_at dksX2_townLine_4 19 rfl rfl)
theorem dX2_townLine_113 : decode cX2_townLine 113 = .ok (.aload_n 0, 1) := dk_42 (dk_at dksX2_townLine_4 20 rfl rfl)
theorem dX2_townLine_114 : decode cX2_townLine 114 = .ok (.getfield 7, 3) := dk_180 0 7 (dk_at dksX2_townLine_4 21 rfl rfl)
theorem dX2_townLine_117 : decode cX2_townLine 117 = .ok (.bipush 14, 2) := dk_16 14 (dk_at dksX2_townLine_5 0 rfl rfl)
theorem dX2_townLine_119 : decode cX2_townLine 119 = .ok (.iload_n 1, 1) := dk_27 (dk_at dksX2_townLine_5 2 rfl rfl)
theorem dX2_townLine_120 : decode cX2_townLine 120 = .ok (.iadd, 1) := dk_96 (dk_at dksX2_townLine_5 3 rfl rfl)
theorem dX2_townLine_121 : decode cX2_townLine 121 = .ok (.iload_n 3, 1) := dk_29 (dk_at dksX2_townLine_5 4 rfl rfl)
theorem dX2_townLine_122 : decode cX2_townLine 122 = .ok (.iastore, 1) := dk_79 (dk_at dksX2_townLine_5 5 rfl rfl)
theorem dX2_townLine_123 : decode cX2_townLine 123 = .ok (.aload_n 0, 1) := dk_42 (dk_at dksX2_townLine_5 6 rfl rfl)
theorem dX2_townLine_124 : decode cX2_townLine 124 = .ok (.getfield 7, 3) := dk_180 0 7 (dk_at dksX2_townLine_5 7 rfl rfl)
theorem dX2_townLine_127 : decode cX2_townLine 127 = .ok (.iconst 1, 1) := dk_4 (dk_at dksX2_townLine_5 10 rfl rfl)
theorem dX2_townLine_128 : decode cX2_townLine 128 = .ok (.dup2, 1) := dk_92 (dk_at dksX2_townLine_5 11 rfl rfl)
theorem dX2_townLine_129 : decode cX2_townLine 129 = .ok (.iaload, 1) := dk_46 (dk_at dksX2_townLine_5 12 rfl rfl)
theorem dX2_townLine_130 : decode cX2_townLine 130 = .ok (.iconst 1, 1) := dk_4 (dk_at dksX2_townLine_5 13 rfl rfl)
theorem dX2_townLine_131 : decode cX2_townLine 131 = .ok (.iadd, 1) := dk_96 (dk_at dksX2_townLine_5 14 rfl rfl)
theorem dX2_townLine_132 : decode cX2_townLine 132 = .ok (.iastore, 1) := dk_79 (dk_at dksX2_townLine_5 15 rfl rfl)
theorem dX2_townLine_133 : decode cX2_townLine 133 = .ok (.return_, 1) := dk_177 (dk_at dksX2_townLine_5 16 rfl rfl)
abbrev cX2_towns : ByteArray := prog_14_method_10_code
def yX2_towns : MethodName := ⟨RX2, "towns", "()I"⟩
def dkwX2_towns_0 : List UInt8 := [42, 180, 0, 7, 4, 46, 172]
abbrev dktX2_towns_0 : List UInt8 := dkwX2_towns_0 ++ []
theorem dksX2_towns_0 : cX2_towns.data.toList.drop 0 = dktX2_towns_0 := by decide +kernel
theorem dX2_towns_0 : decode cX2_towns 0 = .ok (.aload_n 0, 1) := dk_42 (dk_at dksX2_towns_0 0 rfl rfl)
theorem dX2_towns_1 : decode cX2_towns 1 = .ok (.getfield 7, 3) := dk_180 0 7 (dk_at dksX2_towns_0 1 rfl rfl)
theorem dX2_towns_4 : decode cX2_towns 4 = .ok (.iconst 1, 1) := dk_4 (dk_at dksX2_towns_0 4 rfl rfl)
theorem dX2_towns_5 : decode cX2_towns 5 = .ok (.iaload, 1) := dk_46 (dk_at dksX2_towns_0 5 rfl rfl)
theorem dX2_towns_6 : decode cX2_towns 6 = .ok (.ireturn, 1) := dk_172 (dk_at dksX2_towns_0 6 rfl rfl)
abbrev cX2_letterLine : ByteArray := prog_14_method_53_code
def yX2_letterLine : MethodName := ⟨RX2, "letterLine", "()V"⟩
def dkwX2_letterLine_4 : List UInt8 := [42, 182, 0, 202, 42, 3, 8, 182, 0, 212, 60, 42, 180, 0, 174, 154, 0, 8, 42, 27, 182, 0, 215, 177]
abbrev dktX2_letterLine_4 : List UInt8 := dkwX2_letterLine_4 ++ []
def dkwX2_letterLine_3 : List UInt8 := [27, 28, 16, 63, 160, 0, 7, 2, 167, 0, 7, 28, 16, 48, 100, 182, 0, 133, 132, 1, 1, 167, 255, 207]
abbrev dktX2_letterLine_3 : List UInt8 := dkwX2_letterLine_3 ++ dktX2_letterLine_4
def dkwX2_letterLine_2 : List UInt8 := [154, 0, 48, 27, 8, 162, 0, 43, 42, 42, 180, 0, 159, 27, 96, 182, 0, 156, 61, 42, 42, 182, 0, 109]
abbrev dktX2_letterLine_2 : List UInt8 := dkwX2_letterLine_2 ++ dktX2_letterLine_3
def dkwX2_letterLine_1 : List UInt8 := [42, 180, 0, 162, 8, 159, 0, 7, 4, 167, 0, 4, 3, 4, 182, 0, 208, 3, 60, 42, 180, 0, 174]
abbrev dktX2_letterLine_1 : List UInt8 := dkwX2_letterLine_1 ++ dktX2_letterLine_2
def dkwX2_letterLine_0 : List UInt8 := [42, 42, 182, 0, 109, 16, 24, 160, 0, 7, 4, 167, 0, 4, 3, 7, 182, 0, 208, 42, 182, 0, 202, 42]
abbrev dktX2_letterLine_0 : List UInt8 := dkwX2_letterLine_0 ++ dktX2_letterLine_1
theorem dksX2_letterLine_0 : cX2_letterLine.data.toList.drop 0 = dktX2_letterLine_0 := by decide +kernel
theorem dksX2_letterLine_1 : cX2_letterLine.data.toList.drop 24 = dktX2_letterLine_1 := dk_seg dksX2_letterLine_0 24 rfl rfl
theorem dksX2_letterLine_2 : cX2_letterLine.data.toList.drop 47 = dktX2_letterLine_2 := dk_seg dksX2_letterLine_1 23 rfl rfl
theorem dksX2_letterLine_3 : cX2_letterLine.data.toList.drop 71 = dktX2_letterLine_3 := dk_seg dksX2_letterLine_2 24 rfl rfl
theorem dksX2_letterLine_4 : cX2_letterLine.data.toList.drop 95 = dktX2_letterLine_4 := dk_seg dksX2_letterLine_3 24 rfl rfl
theorem dX2_letterLine_0 : decode cX2_letterLine 0 = .ok (.aload_n 0, 1) := dk_42 (dk_at dksX2_letterLine_0 0 rfl rfl)
theorem dX2_letterLine_1 : decode cX2_letterLine 1 = .ok (.aload_n 0, 1) := dk_42 (dk_at dksX2_letterLine_0 1 rfl rfl)
theorem dX2_letterLine_2 : decode cX2_letterLine 2 = .ok (.invokevirtual 109, 3) := dk_182 0 109 (dk_at dksX2_letterLine_0 2 rfl rfl)
theorem dX2_letterLine_5 : decode cX2_letterLine 5 = .ok (.bipush 24, 2) := dk_16 24 (dk_at dksX2_letterLine_0 5 rfl rfl)
theorem dX2_letterLine_7 : decode cX2_letterLine 7 = .ok (.if_icmp .ne 7, 3) := dk_160 0 7 (dk_at dksX2_letterLine_0 7 rfl rfl)
theorem dX2_letterLine_10 : decode cX2_letterLine 10 = .ok (.iconst 1, 1) := dk_4 (dk_at dksX2_letterLine_0 10 rfl rfl)
theorem dX2_letterLine_11 : decode cX2_letterLine 11 = .ok (.goto 4, 3) := dk_167 0 4 (dk_at dksX2_letterLine_0 11 rfl rfl)
theorem dX2_letterLine_14 : decode cX2_letterLine 14 = .ok (.iconst 0, 1) := dk_3 (dk_at dksX2_letterLine_0 14 rfl rfl)
theorem dX2_letterLine_15 : decode cX2_letterLine 15 = .ok (.iconst 4, 1) := dk_7 (dk_at dksX2_letterLine_0 15 rfl rfl)
theorem dX2_letterLine_16 : decode cX2_letterLine 16 = .ok (.invokevirtual 208, 3) := dk_182 0 208 (dk_at dksX2_letterLine_0 16 rfl rfl)
theorem dX2_letterLine_19 : decode cX2_letterLine 19 = .ok (.aload_n 0, 1) := dk_42 (dk_at dksX2_letterLine_0 19 rfl rfl)
theorem dX2_letterLine_20 : decode cX2_letterLine 20 = .ok (.invokevirtual 202, 3) := dk_182 0 202 (dk_at dksX2_letterLine_0 20 rfl rfl)
theorem dX2_letterLine_23 : decode cX2_letterLine 23 = .ok (.aload_n 0, 1) := dk_42 (dk_at dksX2_letterLine_0 23 rfl rfl)
theorem dX2_letterLine_24 : decode cX2_letterLine 24 = .ok (.aload_n 0, 1) := dk_42 (dk_at dksX2_letterLine_1 0 rfl rfl)
theorem dX2_letterLine_25 : decode cX2_letterLine 25 = .ok (.getfield 162, 3) := dk_180 0 162 (dk_at dksX2_letterLine_1 1 rfl rfl)
theorem dX2_letterLine_28 : decode cX2_letterLine 28 = .ok (.iconst 5, 1) := dk_8 (dk_at dksX2_letterLine_1 4 rfl rfl)
theorem dX2_letterLine_29 : decode cX2_letterLine 29 = .ok (.if_icmp .eq 7, 3) := dk_159 0 7 (dk_at dksX2_letterLine_1 5 rfl rfl)
theorem dX2_letterLine_32 : decode cX2_letterLine 32 = .ok (.iconst 1, 1) := dk_4 (dk_at dksX2_letterLine_1 8 rfl rfl)
theorem dX2_letterLine_33 : decode cX2_letterLine 33 = .ok (.goto 4, 3) := dk_167 0 4 (dk_at dksX2_letterLine_1 9 rfl rfl)
theorem dX2_letterLine_36 : decode cX2_letterLine 36 = .ok (.iconst 0, 1) := dk_3 (dk_at dksX2_letterLine_1 12 rfl rfl)
theorem dX2_letterLine_37 : decode cX2_letterLine 37 = .ok (.iconst 1, 1) := dk_4 (dk_at dksX2_letterLine_1 13 rfl rfl)
theorem dX2_letterLine_38 : decode cX2_letterLine 38 = .ok (.invokevirtual 208, 3) := dk_182 0 208 (dk_at dksX2_letterLine_1 14 rfl rfl)
theorem dX2_letterLine_41 : decode cX2_letterLine 41 = .ok (.iconst 0, 1) := dk_3 (dk_at dksX2_letterLine_1 17 rfl rfl)
theorem dX2_letterLine_42 : decode cX2_letterLine 42 = .ok (.istore_n 1, 1) := dk_60 (dk_at dksX2_letterLine_1 18 rfl rfl)
theorem dX2_letterLine_43 : decode cX2_letterLine 43 = .ok (.aload_n 0, 1) := dk_42 (dk_at dksX2_letterLine_1 19 rfl rfl)
theorem dX2_letterLine_44 : decode cX2_letterLine 44 = .ok (.getfield 174, 3) := dk_180 0 174 (dk_at dksX2_letterLine_1 20 rfl rfl)
theorem dX2_letterLine_47 : decode cX2_letterLine 47 = .ok (.ifCond .ne 48, 3) := dk_154 0 48 (dk_at dksX2_letterLine_2 0 rfl rfl)
theorem dX2_letterLine_50 : decode cX2_letterLine 50 = .ok (.iload_n 1, 1) := dk_27 (dk_at dksX2_letterLine_2 3 rfl rfl)
theorem dX2_letterLine_51 : decode cX2_letterLine 51 = .ok (.iconst 5, 1) := dk_8 (dk_at dksX2_letterLine_2 4 rfl rfl)
theorem dX2_letterLine_52 : decode cX2_letterLine 52 = .ok (.if_icmp .ge 43, 3) := dk_162 0 43 (dk_at dksX2_letterLine_2 5 rfl rfl)
theorem dX2_letterLine_55 : decode cX2_letterLine 55 = .ok (.aload_n 0, 1) := dk_42 (dk_at dksX2_letterLine_2 8 rfl rfl)
theorem dX2_letterLine_56 : decode cX2_letterLine 56 = .ok (.aload_n 0, 1) := dk_42 (dk_at dksX2_letterLine_2 9 rfl rfl)
theorem dX2_letterLine_57 : decode cX2_letterLine 57 = .ok (.getfield 159, 3) := dk_180 0 159 (dk_at dksX2_letterLine_2 10 rfl rfl)
theorem dX2_letterLine_60 : decode cX2_letterLine 60 = .ok (.iload_n 1, 1) := dk_27 (dk_at dksX2_letterLine_2 13 rfl rfl)
theorem dX2_letterLine_61 : decode cX2_letterLine 61 = .ok (.iadd, 1) := dk_96 (dk_at dksX2_letterLine_2 14 rfl rfl)
theorem dX2_letterLine_62 : decode cX2_letterLine 62 = .ok (.invokevirtual 156, 3) := dk_182 0 156 (dk_at dksX2_letterLine_2 15 rfl rfl)
theorem dX2_letterLine_65 : decode cX2_letterLine 65 = .ok (.istore_n 2, 1) := dk_61 (dk_at dksX2_letterLine_2 18 rfl rfl)
theorem dX2_letterLine_66 : decode cX2_letterLine 66 = .ok (.aload_n 0, 1) := dk_42 (dk_at dksX2_letterLine_2 19 rfl rfl)
theorem dX2_letterLine_67 : decode cX2_letterLine 67 = .ok (.aload_n 0, 1) := dk_42 (dk_at dksX2_letterLine_2 20 rfl rfl)
theorem dX2_letterLine_68 : decode cX2_letterLine 68 = .ok (.invokevirtual 109, 3) := dk_182 0 109 (dk_at dksX2_letterLine_2 21 rfl rfl)
theorem dX2_letterLine_71 : decode cX2_letterLine 71 = .ok (.iload_n 1, 1) := dk_27 (dk_at dksX2_letterLine_3 0 rfl rfl)
theorem dX2_letterLine_72 : decode cX2_letterLine 72 = .ok (.iload_n 2, 1) := dk_28 (dk_at dksX2_letterLine_3 1 rfl rfl)
theorem dX2_letterLine_73 : decode cX2_letterLine 73 = .ok (.bipush 63, 2) := dk_16 63 (dk_at dksX2_letterLine_3 2 rfl rfl)
theorem dX2_letterLine_75 : decode cX2_letterLine 75 = .ok (.if_icmp .ne 7, 3) := dk_160 0 7 (dk_at dksX2_letterLine_3 4 rfl rfl)
theorem dX2_letterLine_78 : decode cX2_letterLine 78 = .ok (.iconst (-1), 1) := dk_2 (dk_at dksX2_letterLine_3 7 rfl rfl)
theorem dX2_letterLine_79 : decode cX2_letterLine 79 = .ok (.goto 7, 3) := dk_167 0 7 (dk_at dksX2_letterLine_3 8 rfl rfl)
theorem dX2_letterLine_82 : decode cX2_letterLine 82 = .ok (.iload_n 2, 1) := dk_28 (dk_at dksX2_letterLine_3 11 rfl rfl)
theorem dX2_letterLine_83 : decode cX2_letterLine 83 = .ok (.bipush 48, 2) := dk_16 48 (dk_at dksX2_letterLine_3 12 rfl rfl)
theorem dX2_letterLine_85 : decode cX2_letterLine 85 = .ok (.isub, 1) := dk_100 (dk_at dksX2_letterLine_3 14 rfl rfl)
theorem dX2_letterLine_86 : decode cX2_letterLine 86 = .ok (.invokevirtual 133, 3) := dk_182 0 133 (dk_at dksX2_letterLine_3 15 rfl rfl)
theorem dX2_letterLine_89 : decode cX2_letterLine 89 = .ok (.iinc 1 1, 3) := dk_132 1 1 (dk_at dksX2_letterLine_3 18 rfl rfl)
theorem dX2_letterLine_92 : decode cX2_letterLine 92 = .ok (.goto (-49), 3) := dk_167 255 207 (dk_at dksX2_letterLine_3 21 rfl rfl)
theorem dX2_letterLine_95 : decode cX2_letterLine 95 = .ok (.aload_n 0, 1) := dk_42 (dk_at dksX2_letterLine_4 0 rfl rfl)
theorem dX2_letterLine_96 : decode cX2_letterLine 96 = .ok (.invokevirtual 202, 3) := dk_182 0 202 (dk_at dksX2_letterLine_4 1 rfl rfl)
theorem dX2_letterLine_99 : decode cX2_letterLine 99 = .ok (.aload_n 0, 1) := dk_42 (dk_at dksX2_letterLine_4 4 rfl rfl)
theorem dX2_letterLine_100 : decode cX2_letterLine 100 = .ok (.iconst 0, 1) := dk_3 (dk_at dksX2_letterLine_4 5 rfl rfl)
theorem dX2_letterLine_101 : decode cX2_letterLine 101 = .ok (.iconst 5, 1) := dk_8 (dk_at dksX2_letterLine_4 6 rfl rfl)
theorem dX2_letterLine_102 : decode cX2_letterLine 102 = .ok (.invokevirtual 212, 3) := dk_182 0 212 (dk_at dksX2_letterLine_4 7 rfl rfl)
theorem dX2_letterLine_105 : decode cX2_letterLine 105 = .ok (.istore_n 1, 1) := dk_60 (dk_at dksX2_letterLine_4 10 rfl rfl)
theorem dX2_letterLine_106 : decode cX2_letterLine 106 = .ok (.aload_n 0, 1) := dk_42 (dk_at dksX2_letterLine_4 11 rfl rfl)
theorem dX2_letterLine_107 : decode cX2_letterLine 107 = .ok (.getfield 174, 3) := dk_180 0 174 (dk_at dksX2_letterLine_4 12 rfl rfl)
theorem dX2_letterLine_110 : decode cX2_letterLine 110 = .ok (.ifCond .ne 8, 3) := dk_154 0 8 (dk_at dksX2_letterLine_4 15 rfl rfl)
theorem dX2_letterLine_113 : decode cX2_letterLine 113 = .ok (.aload_n 0, 1) := dk_42 (dk_at dksX2_letterLine_4 18 rfl rfl)
theorem dX2_letterLine_114 : decode cX2_letterLine 114 = .ok (.iload_n 1, 1) := dk_27 (dk_at dksX2_letterLine_4 19 rfl rfl)
theorem dX2_letterLine_115 : decode cX2_letterLine 115 = .ok (.invokevirtual 215, 3) := dk_182 0 215 (dk_at dksX2_letterLine_4 20 rfl rfl)
theorem dX2_letterLine_118 : decode cX2_letterLine 118 = .ok (.return_, 1) := dk_177 (dk_at dksX2_letterLine_4 23 rfl rfl)
abbrev cX2_letters : ByteArray := prog_14_method_11_code
def yX2_letters : MethodName := ⟨RX2, "letters", "()I"⟩
def dkwX2_letters_0 : List UInt8 := [42, 180, 0, 13, 5, 46, 172]
abbrev dktX2_letters_0 : List UInt8 := dkwX2_letters_0 ++ []
theorem dksX2_letters_0 : cX2_letters.data.toList.drop 0 = dktX2_letters_0 := by decide +kernel
theorem dX2_letters_0 : decode cX2_letters 0 = .ok (.aload_n 0, 1) := dk_42 (dk_at dksX2_letters_0 0 rfl rfl)
theorem dX2_letters_1 : decode cX2_letters 1 = .ok (.getfield 13, 3) := dk_180 0 13 (dk_at dksX2_letters_0 1 rfl rfl)
theorem dX2_letters_4 : decode cX2_letters 4 = .ok (.iconst 2, 1) := dk_5 (dk_at dksX2_letters_0 4 rfl rfl)
theorem dX2_letters_5 : decode cX2_letters 5 = .ok (.iaload, 1) := dk_46 (dk_at dksX2_letters_0 5 rfl rfl)
theorem dX2_letters_6 : decode cX2_letters 6 = .ok (.ireturn, 1) := dk_172 (dk_at dksX2_letters_0 6 rfl rfl)
abbrev cX2_lays : ByteArray := prog_14_method_13_code
def yX2_lays : MethodName := ⟨RX2, "lays", "(III)V"⟩
def dkwX2_lays_0 : List UInt8 := [42, 180, 0, 13, 16, 33, 16, 10, 27, 104, 96, 28, 96, 29, 79, 177]
abbrev dktX2_lays_0 : List UInt8 := dkwX2_lays_0 ++ []
theorem dksX2_lays_0 : cX2_lays.data.toList.drop 0 = dktX2_lays_0 := by decide +kernel
theorem dX2_lays_0 : decode cX2_lays 0 = .ok (.aload_n 0, 1) := dk_42 (dk_at dksX2_lays_0 0 rfl rfl)
theorem dX2_lays_1 : decode cX2_lays 1 = .ok (.getfield 13, 3) := dk_180 0 13 (dk_at dksX2_lays_0 1 rfl rfl)
theorem dX2_lays_4 : decode cX2_lays 4 = .ok (.bipush 33, 2) := dk_16 33 (dk_at dksX2_lays_0 4 rfl rfl)
theorem dX2_lays_6 : decode cX2_lays 6 = .ok (.bipush 10, 2) := dk_16 10 (dk_at dksX2_lays_0 6 rfl rfl)
theorem dX2_lays_8 : decode cX2_lays 8 = .ok (.iload_n 1, 1) := dk_27 (dk_at dksX2_lays_0 8 rfl rfl)
theorem dX2_lays_9 : decode cX2_lays 9 = .ok (.imul, 1) := dk_104 (dk_at dksX2_lays_0 9 rfl rfl)
theorem dX2_lays_10 : decode cX2_lays 10 = .ok (.iadd, 1) := dk_96 (dk_at dksX2_lays_0 10 rfl rfl)
theorem dX2_lays_11 : decode cX2_lays 11 = .ok (.iload_n 2, 1) := dk_28 (dk_at dksX2_lays_0 11 rfl rfl)
theorem dX2_lays_12 : decode cX2_lays 12 = .ok (.iadd, 1) := dk_96 (dk_at dksX2_lays_0 12 rfl rfl)
theorem dX2_lays_13 : decode cX2_lays 13 = .ok (.iload_n 3, 1) := dk_29 (dk_at dksX2_lays_0 13 rfl rfl)
theorem dX2_lays_14 : decode cX2_lays 14 = .ok (.iastore, 1) := dk_79 (dk_at dksX2_lays_0 14 rfl rfl)
theorem dX2_lays_15 : decode cX2_lays 15 = .ok (.return_, 1) := dk_177 (dk_at dksX2_lays_0 15 rfl rfl)
abbrev cX2_newLetter : ByteArray := prog_14_method_36_code
def yX2_newLetter : MethodName := ⟨RX2, "newLetter", "(I)V"⟩
def dkwX2_newLetter_2 : List UInt8 := [5, 92, 46, 4, 96, 79, 177]
abbrev dktX2_newLetter_2 : List UInt8 := dkwX2_newLetter_2 ++ []
def dkwX2_newLetter_1 : List UInt8 := [3, 182, 0, 133, 42, 28, 16, 8, 3, 182, 0, 133, 42, 28, 16, 9, 2, 182, 0, 133, 42, 180, 0, 13]
abbrev dktX2_newLetter_1 : List UInt8 := dkwX2_newLetter_1 ++ dktX2_newLetter_2
def dkwX2_newLetter_0 : List UInt8 := [42, 182, 0, 109, 61, 42, 28, 8, 27, 182, 0, 133, 42, 28, 16, 6, 3, 182, 0, 133, 42, 28, 16, 7]
abbrev dktX2_newLetter_0 : List UInt8 := dkwX2_newLetter_0 ++ dktX2_newLetter_1
theorem dksX2_newLetter_0 : cX2_newLetter.data.toList.drop 0 = dktX2_newLetter_0 := by decide +kernel
theorem dksX2_newLetter_1 : cX2_newLetter.data.toList.drop 24 = dktX2_newLetter_1 := dk_seg dksX2_newLetter_0 24 rfl rfl
theorem dksX2_newLetter_2 : cX2_newLetter.data.toList.drop 48 = dktX2_newLetter_2 := dk_seg dksX2_newLetter_1 24 rfl rfl
theorem dX2_newLetter_0 : decode cX2_newLetter 0 = .ok (.aload_n 0, 1) := dk_42 (dk_at dksX2_newLetter_0 0 rfl rfl)
theorem dX2_newLetter_1 : decode cX2_newLetter 1 = .ok (.invokevirtual 109, 3) := dk_182 0 109 (dk_at dksX2_newLetter_0 1 rfl rfl)
theorem dX2_newLetter_4 : decode cX2_newLetter 4 = .ok (.istore_n 2, 1) := dk_61 (dk_at dksX2_newLetter_0 4 rfl rfl)
theorem dX2_newLetter_5 : decode cX2_newLetter 5 = .ok (.aload_n 0, 1) := dk_42 (dk_at dksX2_newLetter_0 5 rfl rfl)
theorem dX2_newLetter_6 : decode cX2_newLetter 6 = .ok (.iload_n 2, 1) := dk_28 (dk_at dksX2_newLetter_0 6 rfl rfl)
theorem dX2_newLetter_7 : decode cX2_newLetter 7 = .ok (.iconst 5, 1) := dk_8 (dk_at dksX2_newLetter_0 7 rfl rfl)
theorem dX2_newLetter_8 : decode cX2_newLetter 8 = .ok (.iload_n 1, 1) := dk_27 (dk_at dksX2_newLetter_0 8 rfl rfl)
theorem dX2_newLetter_9 : decode cX2_newLetter 9 = .ok (.invokevirtual 133, 3) := dk_182 0 133 (dk_at dksX2_newLetter_0 9 rfl rfl)
theorem dX2_newLetter_12 : decode cX2_newLetter 12 = .ok (.aload_n 0, 1) := dk_42 (dk_at dksX2_newLetter_0 12 rfl rfl)
theorem dX2_newLetter_13 : decode cX2_newLetter 13 = .ok (.iload_n 2, 1) := dk_28 (dk_at dksX2_newLetter_0 13 rfl rfl)
theorem dX2_newLetter_14 : decode cX2_newLetter 14 = .ok (.bipush 6, 2) := dk_16 6 (dk_at dksX2_newLetter_0 14 rfl rfl)
theorem dX2_newLetter_16 : decode cX2_newLetter 16 = .ok (.iconst 0, 1) := dk_3 (dk_at dksX2_newLetter_0 16 rfl rfl)
theorem dX2_newLetter_17 : decode cX2_newLetter 17 = .ok (.invokevirtual 133, 3) := dk_182 0 133 (dk_at dksX2_newLetter_0 17 rfl rfl)
theorem dX2_newLetter_20 : decode cX2_newLetter 20 = .ok (.aload_n 0, 1) := dk_42 (dk_at dksX2_newLetter_0 20 rfl rfl)
theorem dX2_newLetter_21 : decode cX2_newLetter 21 = .ok (.iload_n 2, 1) := dk_28 (dk_at dksX2_newLetter_0 21 rfl rfl)
theorem dX2_newLetter_22 : decode cX2_newLetter 22 = .ok (.bipush 7, 2) := dk_16 7 (dk_at dksX2_newLetter_0 22 rfl rfl)
theorem dX2_newLetter_24 : decode cX2_newLetter 24 = .ok (.iconst 0, 1) := dk_3 (dk_at dksX2_newLetter_1 0 rfl rfl)
theorem dX2_newLetter_25 : decode cX2_newLetter 25 = .ok (.invokevirtual 133, 3) := dk_182 0 133 (dk_at dksX2_newLetter_1 1 rfl rfl)
theorem dX2_newLetter_28 : decode cX2_newLetter 28 = .ok (.aload_n 0, 1) := dk_42 (dk_at dksX2_newLetter_1 4 rfl rfl)
theorem dX2_newLetter_29 : decode cX2_newLetter 29 = .ok (.iload_n 2, 1) := dk_28 (dk_at dksX2_newLetter_1 5 rfl rfl)
theorem dX2_newLetter_30 : decode cX2_newLetter 30 = .ok (.bipush 8, 2) := dk_16 8 (dk_at dksX2_newLetter_1 6 rfl rfl)
theorem dX2_newLetter_32 : decode cX2_newLetter 32 = .ok (.iconst 0, 1) := dk_3 (dk_at dksX2_newLetter_1 8 rfl rfl)
theorem dX2_newLetter_33 : decode cX2_newLetter 33 = .ok (.invokevirtual 133, 3) := dk_182 0 133 (dk_at dksX2_newLetter_1 9 rfl rfl)
theorem dX2_newLetter_36 : decode cX2_newLetter 36 = .ok (.aload_n 0, 1) := dk_42 (dk_at dksX2_newLetter_1 12 rfl rfl)
theorem dX2_newLetter_37 : decode cX2_newLetter 37 = .ok (.iload_n 2, 1) := dk_28 (dk_at dksX2_newLetter_1 13 rfl rfl)
theorem dX2_newLetter_38 : decode cX2_newLetter 38 = .ok (.bipush 9, 2) := dk_16 9 (dk_at dksX2_newLetter_1 14 rfl rfl)
theorem dX2_newLetter_40 : decode cX2_newLetter 40 = .ok (.iconst (-1), 1) := dk_2 (dk_at dksX2_newLetter_1 16 rfl rfl)
theorem dX2_newLetter_41 : decode cX2_newLetter 41 = .ok (.invokevirtual 133, 3) := dk_182 0 133 (dk_at dksX2_newLetter_1 17 rfl rfl)
theorem dX2_newLetter_44 : decode cX2_newLetter 44 = .ok (.aload_n 0, 1) := dk_42 (dk_at dksX2_newLetter_1 20 rfl rfl)
theorem dX2_newLetter_45 : decode cX2_newLetter 45 = .ok (.getfield 13, 3) := dk_180 0 13 (dk_at dksX2_newLetter_1 21 rfl rfl)
theorem dX2_newLetter_48 : decode cX2_newLetter 48 = .ok (.iconst 2, 1) := dk_5 (dk_at dksX2_newLetter_2 0 rfl rfl)
theorem dX2_newLetter_49 : decode cX2_newLetter 49 = .ok (.dup2, 1) := dk_92 (dk_at dksX2_newLetter_2 1 rfl rfl)
theorem dX2_newLetter_50 : decode cX2_newLetter 50 = .ok (.iaload, 1) := dk_46 (dk_at dksX2_newLetter_2 2 rfl rfl)
theorem dX2_newLetter_51 : decode cX2_newLetter 51 = .ok (.iconst 1, 1) := dk_4 (dk_at dksX2_newLetter_2 3 rfl rfl)
theorem dX2_newLetter_52 : decode cX2_newLetter 52 = .ok (.iadd, 1) := dk_96 (dk_at dksX2_newLetter_2 4 rfl rfl)
theorem dX2_newLetter_53 : decode cX2_newLetter 53 = .ok (.iastore, 1) := dk_79 (dk_at dksX2_newLetter_2 5 rfl rfl)
theorem dX2_newLetter_54 : decode cX2_newLetter 54 = .ok (.return_, 1) := dk_177 (dk_at dksX2_newLetter_2 6 rfl rfl)
abbrev cX2_sumLine : ByteArray := prog_14_method_54_code
def yX2_sumLine : MethodName := ⟨RX2, "sumLine", "()V"⟩
def dkwX2_sumLine_1 : List UInt8 := [154, 0, 12, 42, 180, 0, 13, 6, 27, 96, 28, 79, 177]
abbrev dktX2_sumLine_1 : List UInt8 := dkwX2_sumLine_1 ++ []
def dkwX2_sumLine_0 : List UInt8 := [42, 182, 0, 202, 42, 3, 8, 182, 0, 212, 60, 42, 3, 16, 9, 182, 0, 212, 61, 42, 180, 0, 174]
abbrev dktX2_sumLine_0 : List UInt8 := dkwX2_sumLine_0 ++ dktX2_sumLine_1
theorem dksX2_sumLine_0 : cX2_sumLine.data.toList.drop 0 = dktX2_sumLine_0 := by decide +kernel
theorem dksX2_sumLine_1 : cX2_sumLine.data.toList.drop 23 = dktX2_sumLine_1 := dk_seg dksX2_sumLine_0 23 rfl rfl
theorem dX2_sumLine_0 : decode cX2_sumLine 0 = .ok (.aload_n 0, 1) := dk_42 (dk_at dksX2_sumLine_0 0 rfl rfl)
theorem dX2_sumLine_1 : decode cX2_sumLine 1 = .ok (.invokevirtual 202, 3) := dk_182 0 202 (dk_at dksX2_sumLine_0 1 rfl rfl)
theorem dX2_sumLine_4 : decode cX2_sumLine 4 = .ok (.aload_n 0, 1) := dk_42 (dk_at dksX2_sumLine_0 4 rfl rfl)
theorem dX2_sumLine_5 : decode cX2_sumLine 5 = .ok (.iconst 0, 1) := dk_3 (dk_at dksX2_sumLine_0 5 rfl rfl)
theorem dX2_sumLine_6 : decode cX2_sumLine 6 = .ok (.iconst 5, 1) := dk_8 (dk_at dksX2_sumLine_0 6 rfl rfl)
theorem dX2_sumLine_7 : decode cX2_sumLine 7 = .ok (.invokevirtual 212, 3) := dk_182 0 212 (dk_at dksX2_sumLine_0 7 rfl rfl)
theorem dX2_sumLine_10 : decode cX2_sumLine 10 = .ok (.istore_n 1, 1) := dk_60 (dk_at dksX2_sumLine_0 10 rfl rfl)
theorem dX2_sumLine_11 : decode cX2_sumLine 11 = .ok (.aload_n 0, 1) := dk_42 (dk_at dksX2_sumLine_0 11 rfl rfl)
theorem dX2_sumLine_12 : decode cX2_sumLine 12 = .ok (.iconst 0, 1) := dk_3 (dk_at dksX2_sumLine_0 12 rfl rfl)
theorem dX2_sumLine_13 : decode cX2_sumLine 13 = .ok (.bipush 9, 2) := dk_16 9 (dk_at dksX2_sumLine_0 13 rfl rfl)
theorem dX2_sumLine_15 : decode cX2_sumLine 15 = .ok (.invokevirtual 212, 3) := dk_182 0 212 (dk_at dksX2_sumLine_0 15 rfl rfl)
theorem dX2_sumLine_18 : decode cX2_sumLine 18 = .ok (.istore_n 2, 1) := dk_61 (dk_at dksX2_sumLine_0 18 rfl rfl)
theorem dX2_sumLine_19 : decode cX2_sumLine 19 = .ok (.aload_n 0, 1) := dk_42 (dk_at dksX2_sumLine_0 19 rfl rfl)
theorem dX2_sumLine_20 : decode cX2_sumLine 20 = .ok (.getfield 174, 3) := dk_180 0 174 (dk_at dksX2_sumLine_0 20 rfl rfl)
theorem dX2_sumLine_23 : decode cX2_sumLine 23 = .ok (.ifCond .ne 12, 3) := dk_154 0 12 (dk_at dksX2_sumLine_1 0 rfl rfl)
theorem dX2_sumLine_26 : decode cX2_sumLine 26 = .ok (.aload_n 0, 1) := dk_42 (dk_at dksX2_sumLine_1 3 rfl rfl)
theorem dX2_sumLine_27 : decode cX2_sumLine 27 = .ok (.getfield 13, 3) := dk_180 0 13 (dk_at dksX2_sumLine_1 4 rfl rfl)
theorem dX2_sumLine_30 : decode cX2_sumLine 30 = .ok (.iconst 3, 1) := dk_6 (dk_at dksX2_sumLine_1 7 rfl rfl)
theorem dX2_sumLine_31 : decode cX2_sumLine 31 = .ok (.iload_n 1, 1) := dk_27 (dk_at dksX2_sumLine_1 8 rfl rfl)
theorem dX2_sumLine_32 : decode cX2_sumLine 32 = .ok (.iadd, 1) := dk_96 (dk_at dksX2_sumLine_1 9 rfl rfl)
theorem dX2_sumLine_33 : decode cX2_sumLine 33 = .ok (.iload_n 2, 1) := dk_28 (dk_at dksX2_sumLine_1 10 rfl rfl)
theorem dX2_sumLine_34 : decode cX2_sumLine 34 = .ok (.iastore, 1) := dk_79 (dk_at dksX2_sumLine_1 11 rfl rfl)
theorem dX2_sumLine_35 : decode cX2_sumLine 35 = .ok (.return_, 1) := dk_177 (dk_at dksX2_sumLine_1 12 rfl rfl)
abbrev cX2_sortsAll : ByteArray := prog_14_method_34_code
def yX2_sortsAll : MethodName := ⟨RX2, "sortsAll", "()I"⟩
def dkwX2_sortsAll_2 : List UInt8 := [27, 172]
abbrev dktX2_sortsAll_2 : List UInt8 := dkwX2_sortsAll_2 ++ []
def dkwX2_sortsAll_1 : List UInt8 := [28, 182, 0, 137, 2, 159, 0, 7, 4, 167, 0, 4, 3, 184, 0, 86, 96, 60, 132, 2, 1, 167, 255, 215]
abbrev dktX2_sortsAll_1 : List UInt8 := dkwX2_sortsAll_1 ++ dktX2_sortsAll_2
def dkwX2_sortsAll_0 : List UInt8 := [3, 60, 3, 61, 28, 42, 182, 0, 109, 162, 0, 39, 42, 28, 16, 6, 182, 0, 74, 154, 0, 23, 27, 42]
abbrev dktX2_sortsAll_0 : List UInt8 := dkwX2_sortsAll_0 ++ dktX2_sortsAll_1
theorem dksX2_sortsAll_0 : cX2_sortsAll.data.toList.drop 0 = dktX2_sortsAll_0 := by decide +kernel
theorem dksX2_sortsAll_1 : cX2_sortsAll.data.toList.drop 24 = dktX2_sortsAll_1 := dk_seg dksX2_sortsAll_0 24 rfl rfl
theorem dksX2_sortsAll_2 : cX2_sortsAll.data.toList.drop 48 = dktX2_sortsAll_2 := dk_seg dksX2_sortsAll_1 24 rfl rfl
theorem dX2_sortsAll_0 : decode cX2_sortsAll 0 = .ok (.iconst 0, 1) := dk_3 (dk_at dksX2_sortsAll_0 0 rfl rfl)
theorem dX2_sortsAll_1 : decode cX2_sortsAll 1 = .ok (.istore_n 1, 1) := dk_60 (dk_at dksX2_sortsAll_0 1 rfl rfl)
theorem dX2_sortsAll_2 : decode cX2_sortsAll 2 = .ok (.iconst 0, 1) := dk_3 (dk_at dksX2_sortsAll_0 2 rfl rfl)
theorem dX2_sortsAll_3 : decode cX2_sortsAll 3 = .ok (.istore_n 2, 1) := dk_61 (dk_at dksX2_sortsAll_0 3 rfl rfl)
theorem dX2_sortsAll_4 : decode cX2_sortsAll 4 = .ok (.iload_n 2, 1) := dk_28 (dk_at dksX2_sortsAll_0 4 rfl rfl)
theorem dX2_sortsAll_5 : decode cX2_sortsAll 5 = .ok (.aload_n 0, 1) := dk_42 (dk_at dksX2_sortsAll_0 5 rfl rfl)
theorem dX2_sortsAll_6 : decode cX2_sortsAll 6 = .ok (.invokevirtual 109, 3) := dk_182 0 109 (dk_at dksX2_sortsAll_0 6 rfl rfl)
theorem dX2_sortsAll_9 : decode cX2_sortsAll 9 = .ok (.if_icmp .ge 39, 3) := dk_162 0 39 (dk_at dksX2_sortsAll_0 9 rfl rfl)
theorem dX2_sortsAll_12 : decode cX2_sortsAll 12 = .ok (.aload_n 0, 1) := dk_42 (dk_at dksX2_sortsAll_0 12 rfl rfl)
theorem dX2_sortsAll_13 : decode cX2_sortsAll 13 = .ok (.iload_n 2, 1) := dk_28 (dk_at dksX2_sortsAll_0 13 rfl rfl)
theorem dX2_sortsAll_14 : decode cX2_sortsAll 14 = .ok (.bipush 6, 2) := dk_16 6 (dk_at dksX2_sortsAll_0 14 rfl rfl)
theorem dX2_sortsAll_16 : decode cX2_sortsAll 16 = .ok (.invokevirtual 74, 3) := dk_182 0 74 (dk_at dksX2_sortsAll_0 16 rfl rfl)
theorem dX2_sortsAll_19 : decode cX2_sortsAll 19 = .ok (.ifCond .ne 23, 3) := dk_154 0 23 (dk_at dksX2_sortsAll_0 19 rfl rfl)
theorem dX2_sortsAll_22 : decode cX2_sortsAll 22 = .ok (.iload_n 1, 1) := dk_27 (dk_at dksX2_sortsAll_0 22 rfl rfl)
theorem dX2_sortsAll_23 : decode cX2_sortsAll 23 = .ok (.aload_n 0, 1) := dk_42 (dk_at dksX2_sortsAll_0 23 rfl rfl)
theorem dX2_sortsAll_24 : decode cX2_sortsAll 24 = .ok (.iload_n 2, 1) := dk_28 (dk_at dksX2_sortsAll_1 0 rfl rfl)
theorem dX2_sortsAll_25 : decode cX2_sortsAll 25 = .ok (.invokevirtual 137, 3) := dk_182 0 137 (dk_at dksX2_sortsAll_1 1 rfl rfl)
theorem dX2_sortsAll_28 : decode cX2_sortsAll 28 = .ok (.iconst (-1), 1) := dk_2 (dk_at dksX2_sortsAll_1 4 rfl rfl)
theorem dX2_sortsAll_29 : decode cX2_sortsAll 29 = .ok (.if_icmp .eq 7, 3) := dk_159 0 7 (dk_at dksX2_sortsAll_1 5 rfl rfl)
theorem dX2_sortsAll_32 : decode cX2_sortsAll 32 = .ok (.iconst 1, 1) := dk_4 (dk_at dksX2_sortsAll_1 8 rfl rfl)
theorem dX2_sortsAll_33 : decode cX2_sortsAll 33 = .ok (.goto 4, 3) := dk_167 0 4 (dk_at dksX2_sortsAll_1 9 rfl rfl)
theorem dX2_sortsAll_36 : decode cX2_sortsAll 36 = .ok (.iconst 0, 1) := dk_3 (dk_at dksX2_sortsAll_1 12 rfl rfl)
theorem dX2_sortsAll_37 : decode cX2_sortsAll 37 = .ok (.invokestatic 86, 3) := dk_184 0 86 (dk_at dksX2_sortsAll_1 13 rfl rfl)
theorem dX2_sortsAll_40 : decode cX2_sortsAll 40 = .ok (.iadd, 1) := dk_96 (dk_at dksX2_sortsAll_1 16 rfl rfl)
theorem dX2_sortsAll_41 : decode cX2_sortsAll 41 = .ok (.istore_n 1, 1) := dk_60 (dk_at dksX2_sortsAll_1 17 rfl rfl)
theorem dX2_sortsAll_42 : decode cX2_sortsAll 42 = .ok (.iinc 2 1, 3) := dk_132 2 1 (dk_at dksX2_sortsAll_1 18 rfl rfl)
theorem dX2_sortsAll_45 : decode cX2_sortsAll 45 = .ok (.goto (-41), 3) := dk_167 255 215 (dk_at dksX2_sortsAll_1 21 rfl rfl)
theorem dX2_sortsAll_48 : decode cX2_sortsAll 48 = .ok (.iload_n 1, 1) := dk_27 (dk_at dksX2_sortsAll_2 0 rfl rfl)
theorem dX2_sortsAll_49 : decode cX2_sortsAll 49 = .ok (.ireturn, 1) := dk_172 (dk_at dksX2_sortsAll_2 1 rfl rfl)
abbrev cX2_l : ByteArray := prog_14_method_12_code
def yX2_l : MethodName := ⟨RX2, "l", "(II)I"⟩
def dkwX2_l_0 : List UInt8 := [42, 180, 0, 13, 16, 33, 16, 10, 27, 104, 96, 28, 96, 46, 172]
abbrev dktX2_l_0 : List UInt8 := dkwX2_l_0 ++ []
theorem dksX2_l_0 : cX2_l.data.toList.drop 0 = dktX2_l_0 := by decide +kernel
theorem dX2_l_0 : decode cX2_l 0 = .ok (.aload_n 0, 1) := dk_42 (dk_at dksX2_l_0 0 rfl rfl)
theorem dX2_l_1 : decode cX2_l 1 = .ok (.getfield 13, 3) := dk_180 0 13 (dk_at dksX2_l_0 1 rfl rfl)
theorem dX2_l_4 : decode cX2_l 4 = .ok (.bipush 33, 2) := dk_16 33 (dk_at dksX2_l_0 4 rfl rfl)
theorem dX2_l_6 : decode cX2_l 6 = .ok (.bipush 10, 2) := dk_16 10 (dk_at dksX2_l_0 6 rfl rfl)
theorem dX2_l_8 : decode cX2_l 8 = .ok (.iload_n 1, 1) := dk_27 (dk_at dksX2_l_0 8 rfl rfl)
theorem dX2_l_9 : decode cX2_l 9 = .ok (.imul, 1) := dk_104 (dk_at dksX2_l_0 9 rfl rfl)
theorem dX2_l_10 : decode cX2_l 10 = .ok (.iadd, 1) := dk_96 (dk_at dksX2_l_0 10 rfl rfl)
theorem dX2_l_11 : decode cX2_l 11 = .ok (.iload_n 2, 1) := dk_28 (dk_at dksX2_l_0 11 rfl rfl)
theorem dX2_l_12 : decode cX2_l 12 = .ok (.iadd, 1) := dk_96 (dk_at dksX2_l_0 12 rfl rfl)
theorem dX2_l_13 : decode cX2_l 13 = .ok (.iaload, 1) := dk_46 (dk_at dksX2_l_0 13 rfl rfl)
theorem dX2_l_14 : decode cX2_l 14 = .ok (.ireturn, 1) := dk_172 (dk_at dksX2_l_0 14 rfl rfl)
abbrev cX2_sorts : ByteArray := prog_14_method_33_code
def yX2_sorts : MethodName := ⟨RX2, "sorts", "(I)I"⟩
def dkwX2_sorts_5 : List UInt8 := [42, 180, 0, 13, 16, 21, 21, 4, 96, 92, 46, 4, 96, 79, 29, 172]
abbrev dktX2_sorts_5 : List UInt8 := dkwX2_sorts_5 ++ []
def dkwX2_sorts_4 : List UInt8 := [21, 4, 96, 46, 42, 180, 0, 7, 3, 46, 160, 0, 28, 42, 180, 0, 13, 16, 15, 21, 4, 96, 3, 79]
abbrev dktX2_sorts_4 : List UInt8 := dkwX2_sorts_4 ++ dktX2_sorts_5
def dkwX2_sorts_3 : List UInt8 := [46, 4, 96, 79, 42, 180, 0, 13, 16, 15, 21, 4, 96, 92, 46, 4, 96, 79, 42, 180, 0, 13, 16, 15]
abbrev dktX2_sorts_3 : List UInt8 := dkwX2_sorts_3 ++ dktX2_sorts_4
def dkwX2_sorts_2 : List UInt8 := [16, 6, 4, 182, 0, 133, 42, 27, 16, 9, 29, 182, 0, 133, 42, 180, 0, 13, 16, 27, 21, 4, 96, 92]
abbrev dktX2_sorts_2 : List UInt8 := dkwX2_sorts_2 ++ dktX2_sorts_3
def dkwX2_sorts_1 : List UInt8 := [182, 0, 133, 2, 172, 42, 27, 182, 0, 121, 62, 42, 180, 0, 7, 16, 14, 29, 96, 46, 54, 4, 42, 27]
abbrev dktX2_sorts_1 : List UInt8 := dkwX2_sorts_1 ++ dktX2_sorts_2
def dkwX2_sorts_0 : List UInt8 := [42, 27, 182, 0, 130, 61, 28, 153, 0, 21, 42, 27, 16, 6, 5, 182, 0, 133, 42, 27, 16, 8, 28]
abbrev dktX2_sorts_0 : List UInt8 := dkwX2_sorts_0 ++ dktX2_sorts_1
theorem dksX2_sorts_0 : cX2_sorts.data.toList.drop 0 = dktX2_sorts_0 := by decide +kernel
theorem dksX2_sorts_1 : cX2_sorts.data.toList.drop 23 = dktX2_sorts_1 := dk_seg dksX2_sorts_0 23 rfl rfl
theorem dksX2_sorts_2 : cX2_sorts.data.toList.drop 47 = dktX2_sorts_2 := dk_seg dksX2_sorts_1 24 rfl rfl
theorem dksX2_sorts_3 : cX2_sorts.data.toList.drop 71 = dktX2_sorts_3 := dk_seg dksX2_sorts_2 24 rfl rfl
theorem dksX2_sorts_4 : cX2_sorts.data.toList.drop 95 = dktX2_sorts_4 := dk_seg dksX2_sorts_3 24 rfl rfl
theorem dksX2_sorts_5 : cX2_sorts.data.toList.drop 119 = dktX2_sorts_5 := dk_seg dksX2_sorts_4 24 rfl rfl
theorem dX2_sorts_0 : decode cX2_sorts 0 = .ok (.aload_n 0, 1) := dk_42 (dk_at dksX2_sorts_0 0 rfl rfl)
theorem dX2_sorts_1 : decode cX2_sorts 1 = .ok (.iload_n 1, 1) := dk_27 (dk_at dksX2_sorts_0 1 rfl rfl)
theorem dX2_sorts_2 : decode cX2_sorts 2 = .ok (.invokevirtual 130, 3) := dk_182 0 130 (dk_at dksX2_sorts_0 2 rfl rfl)
theorem dX2_sorts_5 : decode cX2_sorts 5 = .ok (.istore_n 2, 1) := dk_61 (dk_at dksX2_sorts_0 5 rfl rfl)
theorem dX2_sorts_6 : decode cX2_sorts 6 = .ok (.iload_n 2, 1) := dk_28 (dk_at dksX2_sorts_0 6 rfl rfl)
theorem dX2_sorts_7 : decode cX2_sorts 7 = .ok (.ifCond .eq 21, 3) := dk_153 0 21 (dk_at dksX2_sorts_0 7 rfl rfl)
theorem dX2_sorts_10 : decode cX2_sorts 10 = .ok (.aload_n 0, 1) := dk_42 (dk_at dksX2_sorts_0 10 rfl rfl)
theorem dX2_sorts_11 : decode cX2_sorts 11 = .ok (.iload_n 1, 1) := dk_27 (dk_at dksX2_sorts_0 11 rfl rfl)
theorem dX2_sorts_12 : decode cX2_sorts 12 = .ok (.bipush 6, 2) := dk_16 6 (dk_at dksX2_sorts_0 12 rfl rfl)
theorem dX2_sorts_14 : decode cX2_sorts 14 = .ok (.iconst 2, 1) := dk_5 (dk_at dksX2_sorts_0 14 rfl rfl)
theorem dX2_sorts_15 : decode cX2_sorts 15 = .ok (.invokevirtual 133, 3) := dk_182 0 133 (dk_at dksX2_sorts_0 15 rfl rfl)
theorem dX2_sorts_18 : decode cX2_sorts 18 = .ok (.aload_n 0, 1) := dk_42 (dk_at dksX2_sorts_0 18 rfl rfl)
theorem dX2_sorts_19 : decode cX2_sorts 19 = .ok (.iload_n 1, 1) := dk_27 (dk_at dksX2_sorts_0 19 rfl rfl)
theorem dX2_sorts_20 : decode cX2_sorts 20 = .ok (.bipush 8, 2) := dk_16 8 (dk_at dksX2_sorts_0 20 rfl rfl)
theorem dX2_sorts_22 : decode cX2_sorts 22 = .ok (.iload_n 2, 1) := dk_28 (dk_at dksX2_sorts_0 22 rfl rfl)
theorem dX2_sorts_23 : decode cX2_sorts 23 = .ok (.invokevirtual 133, 3) := dk_182 0 133 (dk_at dksX2_sorts_1 0 rfl rfl)
theorem dX2_sorts_26 : decode cX2_sorts 26 = .ok (.iconst (-1), 1) := dk_2 (dk_at dksX2_sorts_1 3 rfl rfl)
theorem dX2_sorts_27 : decode cX2_sorts 27 = .ok (.ireturn, 1) := dk_172 (dk_at dksX2_sorts_1 4 rfl rfl)
theorem dX2_sorts_28 : decode cX2_sorts 28 = .ok (.aload_n 0, 1) := dk_42 (dk_at dksX2_sorts_1 5 rfl rfl)
theorem dX2_sorts_29 : decode cX2_sorts 29 = .ok (.iload_n 1, 1) := dk_27 (dk_at dksX2_sorts_1 6 rfl rfl)
theorem dX2_sorts_30 : decode cX2_sorts 30 = .ok (.invokevirtual 121, 3) := dk_182 0 121 (dk_at dksX2_sorts_1 7 rfl rfl)
theorem dX2_sorts_33 : decode cX2_sorts 33 = .ok (.istore_n 3, 1) := dk_62 (dk_at dksX2_sorts_1 10 rfl rfl)
theorem dX2_sorts_34 : decode cX2_sorts 34 = .ok (.aload_n 0, 1) := dk_42 (dk_at dksX2_sorts_1 11 rfl rfl)
theorem dX2_sorts_35 : decode cX2_sorts 35 = .ok (.getfield 7, 3) := dk_180 0 7 (dk_at dksX2_sorts_1 12 rfl rfl)
theorem dX2_sorts_38 : decode cX2_sorts 38 = .ok (.bipush 14, 2) := dk_16 14 (dk_at dksX2_sorts_1 15 rfl rfl)
theorem dX2_sorts_40 : decode cX2_sorts 40 = .ok (.iload_n 3, 1) := dk_29 (dk_at dksX2_sorts_1 17 rfl rfl)
theorem dX2_sorts_41 : decode cX2_sorts 41 = .ok (.iadd, 1) := dk_96 (dk_at dksX2_sorts_1 18 rfl rfl)
theorem dX2_sorts_42 : decode cX2_sorts 42 = .ok (.iaload, 1) := dk_46 (dk_at dksX2_sorts_1 19 rfl rfl)
theorem dX2_sorts_43 : decode cX2_sorts 43 = .ok (.istore 4, 2) := dk_54 4 (dk_at dksX2_sorts_1 20 rfl rfl)
theorem dX2_sorts_45 : decode cX2_sorts 45 = .ok (.aload_n 0, 1) := dk_42 (dk_at dksX2_sorts_1 22 rfl rfl)
theorem dX2_sorts_46 : decode cX2_sorts 46 = .ok (.iload_n 1, 1) := dk_27 (dk_at dksX2_sorts_1 23 rfl rfl)
theorem dX2_sorts_47 : decode cX2_sorts 47 = .ok (.bipush 6, 2) := dk_16 6 (dk_at dksX2_sorts_2 0 rfl rfl)
theorem dX2_sorts_49 : decode cX2_sorts 49 = .ok (.iconst 1, 1) := dk_4 (dk_at dksX2_sorts_2 2 rfl rfl)
theorem dX2_sorts_50 : decode cX2_sorts 50 = .ok (.invokevirtual 133, 3) := dk_182 0 133 (dk_at dksX2_sorts_2 3 rfl rfl)
theorem dX2_sorts_53 : decode cX2_sorts 53 = .ok (.aload_n 0, 1) := dk_42 (dk_at dksX2_sorts_2 6 rfl rfl)
theorem dX2_sorts_54 : decode cX2_sorts 54 = .ok (.iload_n 1, 1) := dk_27 (dk_at dksX2_sorts_2 7 rfl rfl)
theorem dX2_sorts_55 : decode cX2_sorts 55 = .ok (.bipush 9, 2) := dk_16 9 (dk_at dksX2_sorts_2 8 rfl rfl)
theorem dX2_sorts_57 : decode cX2_sorts 57 = .ok (.iload_n 3, 1) := dk_29 (dk_at dksX2_sorts_2 10 rfl rfl)
theorem dX2_sorts_58 : decode cX2_sorts 58 = .ok (.invokevirtual 133, 3) := dk_182 0 133 (dk_at dksX2_sorts_2 11 rfl rfl)
theorem dX2_sorts_61 : decode cX2_sorts 61 = .ok (.aload_n 0, 1) := dk_42 (dk_at dksX2_sorts_2 14 rfl rfl)
theorem dX2_sorts_62 : decode cX2_sorts 62 = .ok (.getfield 13, 3) := dk_180 0 13 (dk_at dksX2_sorts_2 15 rfl rfl)
theorem dX2_sorts_65 : decode cX2_sorts 65 = .ok (.bipush 27, 2) := dk_16 27 (dk_at dksX2_sorts_2 18 rfl rfl)
theorem dX2_sorts_67 : decode cX2_sorts 67 = .ok (.iload 4, 2) := dk_21 4 (dk_at dksX2_sorts_2 20 rfl rfl)
theorem dX2_sorts_69 : decode cX2_sorts 69 = .ok (.iadd, 1) := dk_96 (dk_at dksX2_sorts_2 22 rfl rfl)
theorem dX2_sorts_70 : decode cX2_sorts 70 = .ok (.dup2, 1) := dk_92 (dk_at dksX2_sorts_2 23 rfl rfl)
theorem dX2_sorts_71 : decode cX2_sorts 71 = .ok (.iaload, 1) := dk_46 (dk_at dksX2_sorts_3 0 rfl rfl)
theorem dX2_sorts_72 : decode cX2_sorts 72 = .ok (.iconst 1, 1) := dk_4 (dk_at dksX2_sorts_3 1 rfl rfl)
theorem dX2_sorts_73 : decode cX2_sorts 73 = .ok (.iadd, 1) := dk_96 (dk_at dksX2_sorts_3 2 rfl rfl)
theorem dX2_sorts_74 : decode cX2_sorts 74 = .ok (.iastore, 1) := dk_79 (dk_at dksX2_sorts_3 3 rfl rfl)
theorem dX2_sorts_75 : decode cX2_sorts 75 = .ok (.aload_n 0, 1) := dk_42 (dk_at dksX2_sorts_3 4 rfl rfl)
theorem dX2_sorts_76 : decode cX2_sorts 76 = .ok (.getfield 13, 3) := dk_180 0 13 (dk_at dksX2_sorts_3 5 rfl rfl)
theorem dX2_sorts_79 : decode cX2_sorts 79 = .ok (.bipush 15, 2) := dk_16 15 (dk_at dksX2_sorts_3 8 rfl rfl)
theorem dX2_sorts_81 : decode cX2_sorts 81 = .ok (.iload 4, 2) := dk_21 4 (dk_at dksX2_sorts_3 10 rfl rfl)
theorem dX2_sorts_83 : decode cX2_sorts 83 = .ok (.iadd, 1) := dk_96 (dk_at dksX2_sorts_3 12 rfl rfl)
theorem dX2_sorts_84 : decode cX2_sorts 84 = .ok (.dup2, 1) := dk_92 (dk_at dksX2_sorts_3 13 rfl rfl)
theorem dX2_sorts_85 : decode cX2_sorts 85 = .ok (.iaload, 1) := dk_46 (dk_at dksX2_sorts_3 14 rfl rfl)
theorem dX2_sorts_86 : decode cX2_sorts 86 = .ok (.iconst 1, 1) := dk_4 (dk_at dksX2_sorts_3 15 rfl rfl)
theorem dX2_sorts_87 : decode cX2_sorts 87 = .ok (.iadd, 1) := dk_96 (dk_at dksX2_sorts_3 16 rfl rfl)
theorem dX2_sorts_88 : decode cX2_sorts 88 = .ok (.iastore, 1) := dk_79 (dk_at dksX2_sorts_3 17 rfl rfl)
theorem dX2_sorts_89 : decode cX2_sorts 89 = .ok (.aload_n 0, 1) := dk_42 (dk_at dksX2_sorts_3 18 rfl rfl)
theorem dX2_sorts_90 : decode cX2_sorts 90 = .ok (.getfield 13, 3) := dk_180 0 13 (dk_at dksX2_sorts_3 19 rfl rfl)
theorem dX2_sorts_93 : decode cX2_sorts 93 = .ok (.bipush 15, 2) := dk_16 15 (dk_at dksX2_sorts_3 22 rfl rfl)
theorem dX2_sorts_95 : decode cX2_sorts 95 = .ok (.iload 4, 2) := dk_21 4 (dk_at dksX2_sorts_4 0 rfl rfl)
theorem dX2_sorts_97 : decode cX2_sorts 97 = .ok (.iadd, 1) := dk_96 (dk_at dksX2_sorts_4 2 rfl rfl)
theorem dX2_sorts_98 : decode cX2_sorts 98 = .ok (.iaload, 1) := dk_46 (dk_at dksX2_sorts_4 3 rfl rfl)
theorem dX2_sorts_99 : decode cX2_sorts 99 = .ok (.aload_n 0, 1) := dk_42 (dk_at dksX2_sorts_4 4 rfl rfl)
theorem dX2_sorts_100 : decode cX2_sorts 100 = .ok (.getfield 7, 3) := dk_180 0 7 (dk_at dksX2_sorts_4 5 rfl rfl)
theorem dX2_sorts_103 : decode cX2_sorts 103 = .ok (.iconst 0, 1) := dk_3 (dk_at dksX2_sorts_4 8 rfl rfl)
theorem dX2_sorts_104 : decode cX2_sorts 104 = .ok (.iaload, 1) := dk_46 (dk_at dksX2_sorts_4 9 rfl rfl)
theorem dX2_sorts_105 : decode cX2_sorts 105 = .ok (.if_icmp .ne 28, 3) := dk_160 0 28 (dk_at dksX2_sorts_4 10 rfl rfl)
theorem dX2_sorts_108 : decode cX2_sorts 108 = .ok (.aload_n 0, 1) := dk_42 (dk_at dksX2_sorts_4 13 rfl rfl)
theorem dX2_sorts_109 : decode cX2_sorts 109 = .ok (.getfield 13, 3) := dk_180 0 13 (dk_at dksX2_sorts_4 14 rfl rfl)
theorem dX2_sorts_112 : decode cX2_sorts 112 = .ok (.bipush 15, 2) := dk_16 15 (dk_at dksX2_sorts_4 17 rfl rfl)
theorem dX2_sorts_114 : decode cX2_sorts 114 = .ok (.iload 4, 2) := dk_21 4 (dk_at dksX2_sorts_4 19 rfl rfl)
theorem dX2_sorts_116 : decode cX2_sorts 116 = .ok (.iadd, 1) := dk_96 (dk_at dksX2_sorts_4 21 rfl rfl)
theorem dX2_sorts_117 : decode cX2_sorts 117 = .ok (.iconst 0, 1) := dk_3 (dk_at dksX2_sorts_4 22 rfl rfl)
theorem dX2_sorts_118 : decode cX2_sorts 118 = .ok (.iastore, 1) := dk_79 (dk_at dksX2_sorts_4 23 rfl rfl)
theorem dX2_sorts_119 : decode cX2_sorts 119 = .ok (.aload_n 0, 1) := dk_42 (dk_at dksX2_sorts_5 0 rfl rfl)
theorem dX2_sorts_120 : decode cX2_sorts 120 = .ok (.getfield 13, 3) := dk_180 0 13 (dk_at dksX2_sorts_5 1 rfl rfl)
theorem dX2_sorts_123 : decode cX2_sorts 123 = .ok (.bipush 21, 2) := dk_16 21 (dk_at dksX2_sorts_5 4 rfl rfl)
theorem dX2_sorts_125 : decode cX2_sorts 125 = .ok (.iload 4, 2) := dk_21 4 (dk_at dksX2_sorts_5 6 rfl rfl)
theorem dX2_sorts_127 : decode cX2_sorts 127 = .ok (.iadd, 1) := dk_96 (dk_at dksX2_sorts_5 8 rfl rfl)
theorem dX2_sorts_128 : decode cX2_sorts 128 = .ok (.dup2, 1) := dk_92 (dk_at dksX2_sorts_5 9 rfl rfl)
theorem dX2_sorts_129 : decode cX2_sorts 129 = .ok (.iaload, 1) := dk_46 (dk_at dksX2_sorts_5 10 rfl rfl)
theorem dX2_sorts_130 : decode cX2_sorts 130 = .ok (.iconst 1, 1) := dk_4 (dk_at dksX2_sorts_5 11 rfl rfl)
theorem dX2_sorts_131 : decode cX2_sorts 131 = .ok (.iadd, 1) := dk_96 (dk_at dksX2_sorts_5 12 rfl rfl)
theorem dX2_sorts_132 : decode cX2_sorts 132 = .ok (.iastore, 1) := dk_79 (dk_at dksX2_sorts_5 13 rfl rfl)
theorem dX2_sorts_133 : decode cX2_sorts 133 = .ok (.iload_n 3, 1) := dk_29 (dk_at dksX2_sorts_5 14 rfl rfl)
theorem dX2_sorts_134 : decode cX2_sorts 134 = .ok (.ireturn, 1) := dk_172 (dk_at dksX2_sorts_5 15 rfl rfl)
abbrev cX2_causeNow : ByteArray := prog_14_method_32_code
def yX2_causeNow : MethodName := ⟨RX2, "causeNow", "(I)I"⟩
def dkwX2_causeNow_1 : List UInt8 := [42, 27, 182, 0, 121, 96, 46, 96, 46, 154, 0, 7, 7, 167, 0, 4, 3, 172]
abbrev dktX2_causeNow_1 : List UInt8 := dkwX2_causeNow_1 ++ []
def dkwX2_causeNow_0 : List UInt8 := [42, 27, 182, 0, 127, 61, 28, 153, 0, 5, 28, 172, 42, 180, 0, 13, 16, 9, 42, 180, 0, 7, 16, 14]
abbrev dktX2_causeNow_0 : List UInt8 := dkwX2_causeNow_0 ++ dktX2_causeNow_1
theorem dksX2_causeNow_0 : cX2_causeNow.data.toList.drop 0 = dktX2_causeNow_0 := by decide +kernel
theorem dksX2_causeNow_1 : cX2_causeNow.data.toList.drop 24 = dktX2_causeNow_1 := dk_seg dksX2_causeNow_0 24 rfl rfl
theorem dX2_causeNow_0 : decode cX2_causeNow 0 = .ok (.aload_n 0, 1) := dk_42 (dk_at dksX2_causeNow_0 0 rfl rfl)
theorem dX2_causeNow_1 : decode cX2_causeNow 1 = .ok (.iload_n 1, 1) := dk_27 (dk_at dksX2_causeNow_0 1 rfl rfl)
theorem dX2_causeNow_2 : decode cX2_causeNow 2 = .ok (.invokevirtual 127, 3) := dk_182 0 127 (dk_at dksX2_causeNow_0 2 rfl rfl)
theorem dX2_causeNow_5 : decode cX2_causeNow 5 = .ok (.istore_n 2, 1) := dk_61 (dk_at dksX2_causeNow_0 5 rfl rfl)
theorem dX2_causeNow_6 : decode cX2_causeNow 6 = .ok (.iload_n 2, 1) := dk_28 (dk_at dksX2_causeNow_0 6 rfl rfl)
theorem dX2_causeNow_7 : decode cX2_causeNow 7 = .ok (.ifCond .eq 5, 3) := dk_153 0 5 (dk_at dksX2_causeNow_0 7 rfl rfl)
theorem dX2_causeNow_10 : decode cX2_causeNow 10 = .ok (.iload_n 2, 1) := dk_28 (dk_at dksX2_causeNow_0 10 rfl rfl)
theorem dX2_causeNow_11 : decode cX2_causeNow 11 = .ok (.ireturn, 1) := dk_172 (dk_at dksX2_causeNow_0 11 rfl rfl)
theorem dX2_causeNow_12 : decode cX2_causeNow 12 = .ok (.aload_n 0, 1) := dk_42 (dk_at dksX2_causeNow_0 12 rfl rfl)
theorem dX2_causeNow_13 : decode cX2_causeNow 13 = .ok (.getfield 13, 3) := dk_180 0 13 (dk_at dksX2_causeNow_0 13 rfl rfl)
theorem dX2_causeNow_16 : decode cX2_causeNow 16 = .ok (.bipush 9, 2) := dk_16 9 (dk_at dksX2_causeNow_0 16 rfl rfl)
theorem dX2_causeNow_18 : decode cX2_causeNow 18 = .ok (.aload_n 0, 1) := dk_42 (dk_at dksX2_causeNow_0 18 rfl rfl)
theorem dX2_causeNow_19 : decode cX2_causeNow 19 = .ok (.getfield 7, 3) := dk_180 0 7 (dk_at dksX2_causeNow_0 19 rfl rfl)
theorem dX2_causeNow_22 : decode cX2_causeNow 22 = .ok (.bipush 14, 2) := dk_16 14 (dk_at dksX2_causeNow_0 22 rfl rfl)
theorem dX2_causeNow_24 : decode cX2_causeNow 24 = .ok (.aload_n 0, 1) := dk_42 (dk_at dksX2_causeNow_1 0 rfl rfl)
theorem dX2_causeNow_25 : decode cX2_causeNow 25 = .ok (.iload_n 1, 1) := dk_27 (dk_at dksX2_causeNow_1 1 rfl rfl)
theorem dX2_causeNow_26 : decode cX2_causeNow 26 = .ok (.invokevirtual 121, 3) := dk_182 0 121 (dk_at dksX2_causeNow_1 2 rfl rfl)
theorem dX2_causeNow_29 : decode cX2_causeNow 29 = .ok (.iadd, 1) := dk_96 (dk_at dksX2_causeNow_1 5 rfl rfl)
theorem dX2_causeNow_30 : decode cX2_causeNow 30 = .ok (.iaload, 1) := dk_46 (dk_at dksX2_causeNow_1 6 rfl rfl)
theorem dX2_causeNow_31 : decode cX2_causeNow 31 = .ok (.iadd, 1) := dk_96 (dk_at dksX2_causeNow_1 7 rfl rfl)
theorem dX2_causeNow_32 : decode cX2_causeNow 32 = .ok (.iaload, 1) := dk_46 (dk_at dksX2_causeNow_1 8 rfl rfl)
theorem dX2_causeNow_33 : decode cX2_causeNow 33 = .ok (.ifCond .ne 7, 3) := dk_154 0 7 (dk_at dksX2_causeNow_1 9 rfl rfl)
theorem dX2_causeNow_36 : decode cX2_causeNow 36 = .ok (.iconst 4, 1) := dk_7 (dk_at dksX2_causeNow_1 12 rfl rfl)
theorem dX2_causeNow_37 : decode cX2_causeNow 37 = .ok (.goto 4, 3) := dk_167 0 4 (dk_at dksX2_causeNow_1 13 rfl rfl)
theorem dX2_causeNow_40 : decode cX2_causeNow 40 = .ok (.iconst 0, 1) := dk_3 (dk_at dksX2_causeNow_1 16 rfl rfl)
theorem dX2_causeNow_41 : decode cX2_causeNow 41 = .ok (.ireturn, 1) := dk_172 (dk_at dksX2_causeNow_1 17 rfl rfl)
abbrev cX2_whyOf : ByteArray := prog_14_method_31_code
def yX2_whyOf : MethodName := ⟨RX2, "whyOf", "(I)I"⟩
def dkwX2_whyOf_1 : List UInt8 := [42, 27, 182, 0, 124, 154, 0, 7, 5, 167, 0, 4, 6, 172]
abbrev dktX2_whyOf_1 : List UInt8 := dkwX2_whyOf_1 ++ []
def dkwX2_whyOf_0 : List UInt8 := [42, 27, 182, 0, 121, 2, 159, 0, 5, 3, 172, 42, 27, 182, 0, 103, 6, 164, 0, 7, 4, 167, 0, 16]
abbrev dktX2_whyOf_0 : List UInt8 := dkwX2_whyOf_0 ++ dktX2_whyOf_1
theorem dksX2_whyOf_0 : cX2_whyOf.data.toList.drop 0 = dktX2_whyOf_0 := by decide +kernel
theorem dksX2_whyOf_1 : cX2_whyOf.data.toList.drop 24 = dktX2_whyOf_1 := dk_seg dksX2_whyOf_0 24 rfl rfl
theorem dX2_whyOf_0 : decode cX2_whyOf 0 = .ok (.aload_n 0, 1) := dk_42 (dk_at dksX2_whyOf_0 0 rfl rfl)
theorem dX2_whyOf_1 : decode cX2_whyOf 1 = .ok (.iload_n 1, 1) := dk_27 (dk_at dksX2_whyOf_0 1 rfl rfl)
theorem dX2_whyOf_2 : decode cX2_whyOf 2 = .ok (.invokevirtual 121, 3) := dk_182 0 121 (dk_at dksX2_whyOf_0 2 rfl rfl)
theorem dX2_whyOf_5 : decode cX2_whyOf 5 = .ok (.iconst (-1), 1) := dk_2 (dk_at dksX2_whyOf_0 5 rfl rfl)
theorem dX2_whyOf_6 : decode cX2_whyOf 6 = .ok (.if_icmp .eq 5, 3) := dk_159 0 5 (dk_at dksX2_whyOf_0 6 rfl rfl)
theorem dX2_whyOf_9 : decode cX2_whyOf 9 = .ok (.iconst 0, 1) := dk_3 (dk_at dksX2_whyOf_0 9 rfl rfl)
theorem dX2_whyOf_10 : decode cX2_whyOf 10 = .ok (.ireturn, 1) := dk_172 (dk_at dksX2_whyOf_0 10 rfl rfl)
theorem dX2_whyOf_11 : decode cX2_whyOf 11 = .ok (.aload_n 0, 1) := dk_42 (dk_at dksX2_whyOf_0 11 rfl rfl)
theorem dX2_whyOf_12 : decode cX2_whyOf 12 = .ok (.iload_n 1, 1) := dk_27 (dk_at dksX2_whyOf_0 12 rfl rfl)
theorem dX2_whyOf_13 : decode cX2_whyOf 13 = .ok (.invokevirtual 103, 3) := dk_182 0 103 (dk_at dksX2_whyOf_0 13 rfl rfl)
theorem dX2_whyOf_16 : decode cX2_whyOf 16 = .ok (.iconst 3, 1) := dk_6 (dk_at dksX2_whyOf_0 16 rfl rfl)
theorem dX2_whyOf_17 : decode cX2_whyOf 17 = .ok (.if_icmp .le 7, 3) := dk_164 0 7 (dk_at dksX2_whyOf_0 17 rfl rfl)
theorem dX2_whyOf_20 : decode cX2_whyOf 20 = .ok (.iconst 1, 1) := dk_4 (dk_at dksX2_whyOf_0 20 rfl rfl)
theorem dX2_whyOf_21 : decode cX2_whyOf 21 = .ok (.goto 16, 3) := dk_167 0 16 (dk_at dksX2_whyOf_0 21 rfl rfl)
theorem dX2_whyOf_24 : decode cX2_whyOf 24 = .ok (.aload_n 0, 1) := dk_42 (dk_at dksX2_whyOf_1 0 rfl rfl)
theorem dX2_whyOf_25 : decode cX2_whyOf 25 = .ok (.iload_n 1, 1) := dk_27 (dk_at dksX2_whyOf_1 1 rfl rfl)
theorem dX2_whyOf_26 : decode cX2_whyOf 26 = .ok (.invokevirtual 124, 3) := dk_182 0 124 (dk_at dksX2_whyOf_1 2 rfl rfl)
theorem dX2_whyOf_29 : decode cX2_whyOf 29 = .ok (.ifCond .ne 7, 3) := dk_154 0 7 (dk_at dksX2_whyOf_1 5 rfl rfl)
theorem dX2_whyOf_32 : decode cX2_whyOf 32 = .ok (.iconst 2, 1) := dk_5 (dk_at dksX2_whyOf_1 8 rfl rfl)
theorem dX2_whyOf_33 : decode cX2_whyOf 33 = .ok (.goto 4, 3) := dk_167 0 4 (dk_at dksX2_whyOf_1 9 rfl rfl)
theorem dX2_whyOf_36 : decode cX2_whyOf 36 = .ok (.iconst 3, 1) := dk_6 (dk_at dksX2_whyOf_1 12 rfl rfl)
theorem dX2_whyOf_37 : decode cX2_whyOf 37 = .ok (.ireturn, 1) := dk_172 (dk_at dksX2_whyOf_1 13 rfl rfl)
abbrev cX2_decidedFor : ByteArray := prog_14_method_30_code
def yX2_decidedFor : MethodName := ⟨RX2, "decidedFor", "(I)I"⟩
def dkwX2_decidedFor_0 : List UInt8 := [42, 27, 182, 0, 112, 61, 28, 2, 159, 0, 7, 28, 167, 0, 8, 42, 27, 182, 0, 118, 172]
abbrev dktX2_decidedFor_0 : List UInt8 := dkwX2_decidedFor_0 ++ []
theorem dksX2_decidedFor_0 : cX2_decidedFor.data.toList.drop 0 = dktX2_decidedFor_0 := by decide +kernel
theorem dX2_decidedFor_0 : decode cX2_decidedFor 0 = .ok (.aload_n 0, 1) := dk_42 (dk_at dksX2_decidedFor_0 0 rfl rfl)
theorem dX2_decidedFor_1 : decode cX2_decidedFor 1 = .ok (.iload_n 1, 1) := dk_27 (dk_at dksX2_decidedFor_0 1 rfl rfl)
theorem dX2_decidedFor_2 : decode cX2_decidedFor 2 = .ok (.invokevirtual 112, 3) := dk_182 0 112 (dk_at dksX2_decidedFor_0 2 rfl rfl)
theorem dX2_decidedFor_5 : decode cX2_decidedFor 5 = .ok (.istore_n 2, 1) := dk_61 (dk_at dksX2_decidedFor_0 5 rfl rfl)
theorem dX2_decidedFor_6 : decode cX2_decidedFor 6 = .ok (.iload_n 2, 1) := dk_28 (dk_at dksX2_decidedFor_0 6 rfl rfl)
theorem dX2_decidedFor_7 : decode cX2_decidedFor 7 = .ok (.iconst (-1), 1) := dk_2 (dk_at dksX2_decidedFor_0 7 rfl rfl)
theorem dX2_decidedFor_8 : decode cX2_decidedFor 8 = .ok (.if_icmp .eq 7, 3) := dk_159 0 7 (dk_at dksX2_decidedFor_0 8 rfl rfl)
theorem dX2_decidedFor_11 : decode cX2_decidedFor 11 = .ok (.iload_n 2, 1) := dk_28 (dk_at dksX2_decidedFor_0 11 rfl rfl)
theorem dX2_decidedFor_12 : decode cX2_decidedFor 12 = .ok (.goto 8, 3) := dk_167 0 8 (dk_at dksX2_decidedFor_0 12 rfl rfl)
theorem dX2_decidedFor_15 : decode cX2_decidedFor 15 = .ok (.aload_n 0, 1) := dk_42 (dk_at dksX2_decidedFor_0 15 rfl rfl)
theorem dX2_decidedFor_16 : decode cX2_decidedFor 16 = .ok (.iload_n 1, 1) := dk_27 (dk_at dksX2_decidedFor_0 16 rfl rfl)
theorem dX2_decidedFor_17 : decode cX2_decidedFor 17 = .ok (.invokevirtual 118, 3) := dk_182 0 118 (dk_at dksX2_decidedFor_0 17 rfl rfl)
theorem dX2_decidedFor_20 : decode cX2_decidedFor 20 = .ok (.ireturn, 1) := dk_172 (dk_at dksX2_decidedFor_0 20 rfl rfl)
abbrev cX2_bySelf : ByteArray := prog_14_method_28_code
def yX2_bySelf : MethodName := ⟨RX2, "bySelf", "(I)I"⟩
def dkwX2_bySelf_1 : List UInt8 := [28, 182, 0, 100, 154, 0, 9, 132, 2, 1, 167, 255, 244, 28, 172]
abbrev dktX2_bySelf_1 : List UInt8 := dkwX2_bySelf_1 ++ []
def dkwX2_bySelf_0 : List UInt8 := [42, 27, 182, 0, 103, 6, 163, 0, 12, 42, 27, 182, 0, 106, 4, 159, 0, 5, 2, 172, 3, 61, 42, 27]
abbrev dktX2_bySelf_0 : List UInt8 := dkwX2_bySelf_0 ++ dktX2_bySelf_1
theorem dksX2_bySelf_0 : cX2_bySelf.data.toList.drop 0 = dktX2_bySelf_0 := by decide +kernel
theorem dksX2_bySelf_1 : cX2_bySelf.data.toList.drop 24 = dktX2_bySelf_1 := dk_seg dksX2_bySelf_0 24 rfl rfl
theorem dX2_bySelf_0 : decode cX2_bySelf 0 = .ok (.aload_n 0, 1) := dk_42 (dk_at dksX2_bySelf_0 0 rfl rfl)
theorem dX2_bySelf_1 : decode cX2_bySelf 1 = .ok (.iload_n 1, 1) := dk_27 (dk_at dksX2_bySelf_0 1 rfl rfl)
theorem dX2_bySelf_2 : decode cX2_bySelf 2 = .ok (.invokevirtual 103, 3) := dk_182 0 103 (dk_at dksX2_bySelf_0 2 rfl rfl)
theorem dX2_bySelf_5 : decode cX2_bySelf 5 = .ok (.iconst 3, 1) := dk_6 (dk_at dksX2_bySelf_0 5 rfl rfl)
theorem dX2_bySelf_6 : decode cX2_bySelf 6 = .ok (.if_icmp .gt 12, 3) := dk_163 0 12 (dk_at dksX2_bySelf_0 6 rfl rfl)
theorem dX2_bySelf_9 : decode cX2_bySelf 9 = .ok (.aload_n 0, 1) := dk_42 (dk_at dksX2_bySelf_0 9 rfl rfl)
theorem dX2_bySelf_10 : decode cX2_bySelf 10 = .ok (.iload_n 1, 1) := dk_27 (dk_at dksX2_bySelf_0 10 rfl rfl)
theorem dX2_bySelf_11 : decode cX2_bySelf 11 = .ok (.invokevirtual 106, 3) := dk_182 0 106 (dk_at dksX2_bySelf_0 11 rfl rfl)
theorem dX2_bySelf_14 : decode cX2_bySelf 14 = .ok (.iconst 1, 1) := dk_4 (dk_at dksX2_bySelf_0 14 rfl rfl)
theorem dX2_bySelf_15 : decode cX2_bySelf 15 = .ok (.if_icmp .eq 5, 3) := dk_159 0 5 (dk_at dksX2_bySelf_0 15 rfl rfl)
theorem dX2_bySelf_18 : decode cX2_bySelf 18 = .ok (.iconst (-1), 1) := dk_2 (dk_at dksX2_bySelf_0 18 rfl rfl)
theorem dX2_bySelf_19 : decode cX2_bySelf 19 = .ok (.ireturn, 1) := dk_172 (dk_at dksX2_bySelf_0 19 rfl rfl)
theorem dX2_bySelf_20 : decode cX2_bySelf 20 = .ok (.iconst 0, 1) := dk_3 (dk_at dksX2_bySelf_0 20 rfl rfl)
theorem dX2_bySelf_21 : decode cX2_bySelf 21 = .ok (.istore_n 2, 1) := dk_61 (dk_at dksX2_bySelf_0 21 rfl rfl)
theorem dX2_bySelf_22 : decode cX2_bySelf 22 = .ok (.aload_n 0, 1) := dk_42 (dk_at dksX2_bySelf_0 22 rfl rfl)
theorem dX2_bySelf_23 : decode cX2_bySelf 23 = .ok (.iload_n 1, 1) := dk_27 (dk_at dksX2_bySelf_0 23 rfl rfl)
theorem dX2_bySelf_24 : decode cX2_bySelf 24 = .ok (.iload_n 2, 1) := dk_28 (dk_at dksX2_bySelf_1 0 rfl rfl)
theorem dX2_bySelf_25 : decode cX2_bySelf 25 = .ok (.invokevirtual 100, 3) := dk_182 0 100 (dk_at dksX2_bySelf_1 1 rfl rfl)
theorem dX2_bySelf_28 : decode cX2_bySelf 28 = .ok (.ifCond .ne 9, 3) := dk_154 0 9 (dk_at dksX2_bySelf_1 4 rfl rfl)
theorem dX2_bySelf_31 : decode cX2_bySelf 31 = .ok (.iinc 2 1, 3) := dk_132 2 1 (dk_at dksX2_bySelf_1 7 rfl rfl)
theorem dX2_bySelf_34 : decode cX2_bySelf 34 = .ok (.goto (-12), 3) := dk_167 255 244 (dk_at dksX2_bySelf_1 10 rfl rfl)
theorem dX2_bySelf_37 : decode cX2_bySelf 37 = .ok (.iload_n 2, 1) := dk_28 (dk_at dksX2_bySelf_1 13 rfl rfl)
theorem dX2_bySelf_38 : decode cX2_bySelf 38 = .ok (.ireturn, 1) := dk_172 (dk_at dksX2_bySelf_1 14 rfl rfl)
abbrev cX2_unread : ByteArray := prog_14_method_23_code
def yX2_unread : MethodName := ⟨RX2, "unread", "(I)I"⟩
def dkwX2_unread_1 : List UInt8 := [3, 184, 0, 86, 96, 61, 132, 3, 1, 167, 255, 227, 28, 172]
abbrev dktX2_unread_1 : List UInt8 := dkwX2_unread_1 ++ []
def dkwX2_unread_0 : List UInt8 := [3, 61, 3, 62, 29, 8, 162, 0, 30, 28, 42, 27, 29, 182, 0, 74, 2, 160, 0, 7, 4, 167, 0, 4]
abbrev dktX2_unread_0 : List UInt8 := dkwX2_unread_0 ++ dktX2_unread_1
theorem dksX2_unread_0 : cX2_unread.data.toList.drop 0 = dktX2_unread_0 := by decide +kernel
theorem dksX2_unread_1 : cX2_unread.data.toList.drop 24 = dktX2_unread_1 := dk_seg dksX2_unread_0 24 rfl rfl
theorem dX2_unread_0 : decode cX2_unread 0 = .ok (.iconst 0, 1) := dk_3 (dk_at dksX2_unread_0 0 rfl rfl)
theorem dX2_unread_1 : decode cX2_unread 1 = .ok (.istore_n 2, 1) := dk_61 (dk_at dksX2_unread_0 1 rfl rfl)
theorem dX2_unread_2 : decode cX2_unread 2 = .ok (.iconst 0, 1) := dk_3 (dk_at dksX2_unread_0 2 rfl rfl)
theorem dX2_unread_3 : decode cX2_unread 3 = .ok (.istore_n 3, 1) := dk_62 (dk_at dksX2_unread_0 3 rfl rfl)
theorem dX2_unread_4 : decode cX2_unread 4 = .ok (.iload_n 3, 1) := dk_29 (dk_at dksX2_unread_0 4 rfl rfl)
theorem dX2_unread_5 : decode cX2_unread 5 = .ok (.iconst 5, 1) := dk_8 (dk_at dksX2_unread_0 5 rfl rfl)
theorem dX2_unread_6 : decode cX2_unread 6 = .ok (.if_icmp .ge 30, 3) := dk_162 0 30 (dk_at dksX2_unread_0 6 rfl rfl)
theorem dX2_unread_9 : decode cX2_unread 9 = .ok (.iload_n 2, 1) := dk_28 (dk_at dksX2_unread_0 9 rfl rfl)
theorem dX2_unread_10 : decode cX2_unread 10 = .ok (.aload_n 0, 1) := dk_42 (dk_at dksX2_unread_0 10 rfl rfl)
theorem dX2_unread_11 : decode cX2_unread 11 = .ok (.iload_n 1, 1) := dk_27 (dk_at dksX2_unread_0 11 rfl rfl)
theorem dX2_unread_12 : decode cX2_unread 12 = .ok (.iload_n 3, 1) := dk_29 (dk_at dksX2_unread_0 12 rfl rfl)
theorem dX2_unread_13 : decode cX2_unread 13 = .ok (.invokevirtual 74, 3) := dk_182 0 74 (dk_at dksX2_unread_0 13 rfl rfl)
theorem dX2_unread_16 : decode cX2_unread 16 = .ok (.iconst (-1), 1) := dk_2 (dk_at dksX2_unread_0 16 rfl rfl)
theorem dX2_unread_17 : decode cX2_unread 17 = .ok (.if_icmp .ne 7, 3) := dk_160 0 7 (dk_at dksX2_unread_0 17 rfl rfl)
theorem dX2_unread_20 : decode cX2_unread 20 = .ok (.iconst 1, 1) := dk_4 (dk_at dksX2_unread_0 20 rfl rfl)
theorem dX2_unread_21 : decode cX2_unread 21 = .ok (.goto 4, 3) := dk_167 0 4 (dk_at dksX2_unread_0 21 rfl rfl)
theorem dX2_unread_24 : decode cX2_unread 24 = .ok (.iconst 0, 1) := dk_3 (dk_at dksX2_unread_1 0 rfl rfl)
theorem dX2_unread_25 : decode cX2_unread 25 = .ok (.invokestatic 86, 3) := dk_184 0 86 (dk_at dksX2_unread_1 1 rfl rfl)
theorem dX2_unread_28 : decode cX2_unread 28 = .ok (.iadd, 1) := dk_96 (dk_at dksX2_unread_1 4 rfl rfl)
theorem dX2_unread_29 : decode cX2_unread 29 = .ok (.istore_n 2, 1) := dk_61 (dk_at dksX2_unread_1 5 rfl rfl)
theorem dX2_unread_30 : decode cX2_unread 30 = .ok (.iinc 3 1, 3) := dk_132 3 1 (dk_at dksX2_unread_1 6 rfl rfl)
theorem dX2_unread_33 : decode cX2_unread 33 = .ok (.goto (-29), 3) := dk_167 255 227 (dk_at dksX2_unread_1 9 rfl rfl)
theorem dX2_unread_36 : decode cX2_unread 36 = .ok (.iload_n 2, 1) := dk_28 (dk_at dksX2_unread_1 12 rfl rfl)
theorem dX2_unread_37 : decode cX2_unread 37 = .ok (.ireturn, 1) := dk_172 (dk_at dksX2_unread_1 13 rfl rfl)
abbrev cX2_flag : ByteArray := prog_14_method_4_code
def yX2_flag : MethodName := ⟨RX2, "flag", "(Z)I"⟩
def dkwX2_flag_0 : List UInt8 := [26, 153, 0, 7, 4, 167, 0, 4, 3, 172]
abbrev dktX2_flag_0 : List UInt8 := dkwX2_flag_0 ++ []
theorem dksX2_flag_0 : cX2_flag.data.toList.drop 0 = dktX2_flag_0 := by decide +kernel
theorem dX2_flag_0 : decode cX2_flag 0 = .ok (.iload_n 0, 1) := dk_26 (dk_at dksX2_flag_0 0 rfl rfl)
theorem dX2_flag_1 : decode cX2_flag 1 = .ok (.ifCond .eq 7, 3) := dk_153 0 7 (dk_at dksX2_flag_0 1 rfl rfl)
theorem dX2_flag_4 : decode cX2_flag 4 = .ok (.iconst 1, 1) := dk_4 (dk_at dksX2_flag_0 4 rfl rfl)
theorem dX2_flag_5 : decode cX2_flag 5 = .ok (.goto 4, 3) := dk_167 0 4 (dk_at dksX2_flag_0 5 rfl rfl)
theorem dX2_flag_8 : decode cX2_flag 8 = .ok (.iconst 0, 1) := dk_3 (dk_at dksX2_flag_0 8 rfl rfl)
theorem dX2_flag_9 : decode cX2_flag 9 = .ok (.ireturn, 1) := dk_172 (dk_at dksX2_flag_0 9 rfl rfl)
abbrev cX2_bestTowns : ByteArray := prog_14_method_27_code
def yX2_bestTowns : MethodName := ⟨RX2, "bestTowns", "(I)I"⟩
def dkwX2_bestTowns_1 : List UInt8 := [132, 3, 1, 167, 255, 233, 28, 172]
abbrev dktX2_bestTowns_1 : List UInt8 := dkwX2_bestTowns_1 ++ []
def dkwX2_bestTowns_0 : List UInt8 := [3, 61, 3, 62, 29, 42, 182, 0, 90, 162, 0, 21, 28, 42, 27, 29, 182, 0, 100, 184, 0, 86, 96, 61]
abbrev dktX2_bestTowns_0 : List UInt8 := dkwX2_bestTowns_0 ++ dktX2_bestTowns_1
theorem dksX2_bestTowns_0 : cX2_bestTowns.data.toList.drop 0 = dktX2_bestTowns_0 := by decide +kernel
theorem dksX2_bestTowns_1 : cX2_bestTowns.data.toList.drop 24 = dktX2_bestTowns_1 := dk_seg dksX2_bestTowns_0 24 rfl rfl
theorem dX2_bestTowns_0 : decode cX2_bestTowns 0 = .ok (.iconst 0, 1) := dk_3 (dk_at dksX2_bestTowns_0 0 rfl rfl)
theorem dX2_bestTowns_1 : decode cX2_bestTowns 1 = .ok (.istore_n 2, 1) := dk_61 (dk_at dksX2_bestTowns_0 1 rfl rfl)
theorem dX2_bestTowns_2 : decode cX2_bestTowns 2 = .ok (.iconst 0, 1) := dk_3 (dk_at dksX2_bestTowns_0 2 rfl rfl)
theorem dX2_bestTowns_3 : decode cX2_bestTowns 3 = .ok (.istore_n 3, 1) := dk_62 (dk_at dksX2_bestTowns_0 3 rfl rfl)
theorem dX2_bestTowns_4 : decode cX2_bestTowns 4 = .ok (.iload_n 3, 1) := dk_29 (dk_at dksX2_bestTowns_0 4 rfl rfl)
theorem dX2_bestTowns_5 : decode cX2_bestTowns 5 = .ok (.aload_n 0, 1) := dk_42 (dk_at dksX2_bestTowns_0 5 rfl rfl)
theorem dX2_bestTowns_6 : decode cX2_bestTowns 6 = .ok (.invokevirtual 90, 3) := dk_182 0 90 (dk_at dksX2_bestTowns_0 6 rfl rfl)
theorem dX2_bestTowns_9 : decode cX2_bestTowns 9 = .ok (.if_icmp .ge 21, 3) := dk_162 0 21 (dk_at dksX2_bestTowns_0 9 rfl rfl)
theorem dX2_bestTowns_12 : decode cX2_bestTowns 12 = .ok (.iload_n 2, 1) := dk_28 (dk_at dksX2_bestTowns_0 12 rfl rfl)
theorem dX2_bestTowns_13 : decode cX2_bestTowns 13 = .ok (.aload_n 0, 1) := dk_42 (dk_at dksX2_bestTowns_0 13 rfl rfl)
theorem dX2_bestTowns_14 : decode cX2_bestTowns 14 = .ok (.iload_n 1, 1) := dk_27 (dk_at dksX2_bestTowns_0 14 rfl rfl)
theorem dX2_bestTowns_15 : decode cX2_bestTowns 15 = .ok (.iload_n 3, 1) := dk_29 (dk_at dksX2_bestTowns_0 15 rfl rfl)
theorem dX2_bestTowns_16 : decode cX2_bestTowns 16 = .ok (.invokevirtual 100, 3) := dk_182 0 100 (dk_at dksX2_bestTowns_0 16 rfl rfl)
theorem dX2_bestTowns_19 : decode cX2_bestTowns 19 = .ok (.invokestatic 86, 3) := dk_184 0 86 (dk_at dksX2_bestTowns_0 19 rfl rfl)
theorem dX2_bestTowns_22 : decode cX2_bestTowns 22 = .ok (.iadd, 1) := dk_96 (dk_at dksX2_bestTowns_0 22 rfl rfl)
theorem dX2_bestTowns_23 : decode cX2_bestTowns 23 = .ok (.istore_n 2, 1) := dk_61 (dk_at dksX2_bestTowns_0 23 rfl rfl)
theorem dX2_bestTowns_24 : decode cX2_bestTowns 24 = .ok (.iinc 3 1, 3) := dk_132 3 1 (dk_at dksX2_bestTowns_1 0 rfl rfl)
theorem dX2_bestTowns_27 : decode cX2_bestTowns 27 = .ok (.goto (-23), 3) := dk_167 255 233 (dk_at dksX2_bestTowns_1 3 rfl rfl)
theorem dX2_bestTowns_30 : decode cX2_bestTowns 30 = .ok (.iload_n 2, 1) := dk_28 (dk_at dksX2_bestTowns_1 6 rfl rfl)
theorem dX2_bestTowns_31 : decode cX2_bestTowns 31 = .ok (.ireturn, 1) := dk_172 (dk_at dksX2_bestTowns_1 7 rfl rfl)
abbrev cX2_isBest : ByteArray := prog_14_method_26_code
def yX2_isBest : MethodName := ⟨RX2, "isBest", "(II)Z"⟩
def dkwX2_isBest_1 : List UInt8 := [160, 0, 7, 4, 167, 0, 4, 3, 172]
abbrev dktX2_isBest_1 : List UInt8 := dkwX2_isBest_1 ++ []
def dkwX2_isBest_0 : List UInt8 := [42, 27, 28, 182, 0, 94, 62, 29, 42, 180, 0, 13, 3, 46, 163, 0, 16, 29, 42, 27, 182, 0, 97]
abbrev dktX2_isBest_0 : List UInt8 := dkwX2_isBest_0 ++ dktX2_isBest_1
theorem dksX2_isBest_0 : cX2_isBest.data.toList.drop 0 = dktX2_isBest_0 := by decide +kernel
theorem dksX2_isBest_1 : cX2_isBest.data.toList.drop 23 = dktX2_isBest_1 := dk_seg dksX2_isBest_0 23 rfl rfl
theorem dX2_isBest_0 : decode cX2_isBest 0 = .ok (.aload_n 0, 1) := dk_42 (dk_at dksX2_isBest_0 0 rfl rfl)
theorem dX2_isBest_1 : decode cX2_isBest 1 = .ok (.iload_n 1, 1) := dk_27 (dk_at dksX2_isBest_0 1 rfl rfl)
theorem dX2_isBest_2 : decode cX2_isBest 2 = .ok (.iload_n 2, 1) := dk_28 (dk_at dksX2_isBest_0 2 rfl rfl)
theorem dX2_isBest_3 : decode cX2_isBest 3 = .ok (.invokevirtual 94, 3) := dk_182 0 94 (dk_at dksX2_isBest_0 3 rfl rfl)
theorem dX2_isBest_6 : decode cX2_isBest 6 = .ok (.istore_n 3, 1) := dk_62 (dk_at dksX2_isBest_0 6 rfl rfl)
theorem dX2_isBest_7 : decode cX2_isBest 7 = .ok (.iload_n 3, 1) := dk_29 (dk_at dksX2_isBest_0 7 rfl rfl)
theorem dX2_isBest_8 : decode cX2_isBest 8 = .ok (.aload_n 0, 1) := dk_42 (dk_at dksX2_isBest_0 8 rfl rfl)
theorem dX2_isBest_9 : decode cX2_isBest 9 = .ok (.getfield 13, 3) := dk_180 0 13 (dk_at dksX2_isBest_0 9 rfl rfl)
theorem dX2_isBest_12 : decode cX2_isBest 12 = .ok (.iconst 0, 1) := dk_3 (dk_at dksX2_isBest_0 12 rfl rfl)
theorem dX2_isBest_13 : decode cX2_isBest 13 = .ok (.iaload, 1) := dk_46 (dk_at dksX2_isBest_0 13 rfl rfl)
theorem dX2_isBest_14 : decode cX2_isBest 14 = .ok (.if_icmp .gt 16, 3) := dk_163 0 16 (dk_at dksX2_isBest_0 14 rfl rfl)
theorem dX2_isBest_17 : decode cX2_isBest 17 = .ok (.iload_n 3, 1) := dk_29 (dk_at dksX2_isBest_0 17 rfl rfl)
theorem dX2_isBest_18 : decode cX2_isBest 18 = .ok (.aload_n 0, 1) := dk_42 (dk_at dksX2_isBest_0 18 rfl rfl)
theorem dX2_isBest_19 : decode cX2_isBest 19 = .ok (.iload_n 1, 1) := dk_27 (dk_at dksX2_isBest_0 19 rfl rfl)
theorem dX2_isBest_20 : decode cX2_isBest 20 = .ok (.invokevirtual 97, 3) := dk_182 0 97 (dk_at dksX2_isBest_0 20 rfl rfl)
theorem dX2_isBest_23 : decode cX2_isBest 23 = .ok (.if_icmp .ne 7, 3) := dk_160 0 7 (dk_at dksX2_isBest_1 0 rfl rfl)
theorem dX2_isBest_26 : decode cX2_isBest 26 = .ok (.iconst 1, 1) := dk_4 (dk_at dksX2_isBest_1 3 rfl rfl)
theorem dX2_isBest_27 : decode cX2_isBest 27 = .ok (.goto 4, 3) := dk_167 0 4 (dk_at dksX2_isBest_1 4 rfl rfl)
theorem dX2_isBest_30 : decode cX2_isBest 30 = .ok (.iconst 0, 1) := dk_3 (dk_at dksX2_isBest_1 7 rfl rfl)
theorem dX2_isBest_31 : decode cX2_isBest 31 = .ok (.ireturn, 1) := dk_172 (dk_at dksX2_isBest_1 8 rfl rfl)
abbrev cX2_farTown : ByteArray := prog_14_method_22_code
def yX2_farTown : MethodName := ⟨RX2, "farTown", "(II)I"⟩
def dkwX2_farTown_0 : List UInt8 := [42, 27, 42, 28, 182, 0, 80, 182, 0, 83, 172]
abbrev dktX2_farTown_0 : List UInt8 := dkwX2_farTown_0 ++ []
theorem dksX2_farTown_0 : cX2_farTown.data.toList.drop 0 = dktX2_farTown_0 := by decide +kernel
theorem dX2_farTown_0 : decode cX2_farTown 0 = .ok (.aload_n 0, 1) := dk_42 (dk_at dksX2_farTown_0 0 rfl rfl)
theorem dX2_farTown_1 : decode cX2_farTown 1 = .ok (.iload_n 1, 1) := dk_27 (dk_at dksX2_farTown_0 1 rfl rfl)
theorem dX2_farTown_2 : decode cX2_farTown 2 = .ok (.aload_n 0, 1) := dk_42 (dk_at dksX2_farTown_0 2 rfl rfl)
theorem dX2_farTown_3 : decode cX2_farTown 3 = .ok (.iload_n 2, 1) := dk_28 (dk_at dksX2_farTown_0 3 rfl rfl)
theorem dX2_farTown_4 : decode cX2_farTown 4 = .ok (.invokevirtual 80, 3) := dk_182 0 80 (dk_at dksX2_farTown_0 4 rfl rfl)
theorem dX2_farTown_7 : decode cX2_farTown 7 = .ok (.invokevirtual 83, 3) := dk_182 0 83 (dk_at dksX2_farTown_0 7 rfl rfl)
theorem dX2_farTown_10 : decode cX2_farTown 10 = .ok (.ireturn, 1) := dk_172 (dk_at dksX2_farTown_0 10 rfl rfl)
abbrev cX2_codeAt : ByteArray := prog_14_method_17_code
def yX2_codeAt : MethodName := ⟨RX2, "codeAt", "(I)I"⟩
def dkwX2_codeAt_0 : List UInt8 := [42, 180, 0, 7, 5, 27, 96, 46, 184, 0, 55, 172]
abbrev dktX2_codeAt_0 : List UInt8 := dkwX2_codeAt_0 ++ []
theorem dksX2_codeAt_0 : cX2_codeAt.data.toList.drop 0 = dktX2_codeAt_0 := by decide +kernel
theorem dX2_codeAt_0 : decode cX2_codeAt 0 = .ok (.aload_n 0, 1) := dk_42 (dk_at dksX2_codeAt_0 0 rfl rfl)
theorem dX2_codeAt_1 : decode cX2_codeAt 1 = .ok (.getfield 7, 3) := dk_180 0 7 (dk_at dksX2_codeAt_0 1 rfl rfl)
theorem dX2_codeAt_4 : decode cX2_codeAt 4 = .ok (.iconst 2, 1) := dk_5 (dk_at dksX2_codeAt_0 4 rfl rfl)
theorem dX2_codeAt_5 : decode cX2_codeAt 5 = .ok (.iload_n 1, 1) := dk_27 (dk_at dksX2_codeAt_0 5 rfl rfl)
theorem dX2_codeAt_6 : decode cX2_codeAt 6 = .ok (.iadd, 1) := dk_96 (dk_at dksX2_codeAt_0 6 rfl rfl)
theorem dX2_codeAt_7 : decode cX2_codeAt 7 = .ok (.iaload, 1) := dk_46 (dk_at dksX2_codeAt_0 7 rfl rfl)
theorem dX2_codeAt_8 : decode cX2_codeAt 8 = .ok (.invokestatic 55, 3) := dk_184 0 55 (dk_at dksX2_codeAt_0 8 rfl rfl)
theorem dX2_codeAt_11 : decode cX2_codeAt 11 = .ok (.ireturn, 1) := dk_172 (dk_at dksX2_codeAt_0 11 rfl rfl)
abbrev cX2_codeOf : ByteArray := prog_14_method_15_code
def yX2_codeOf : MethodName := ⟨RX2, "codeOf", "(I)I"⟩
def dkwX2_codeOf_0 : List UInt8 := [16, 10, 26, 104, 26, 184, 0, 51, 96, 172]
abbrev dktX2_codeOf_0 : List UInt8 := dkwX2_codeOf_0 ++ []
theorem dksX2_codeOf_0 : cX2_codeOf.data.toList.drop 0 = dktX2_codeOf_0 := by decide +kernel
theorem dX2_codeOf_0 : decode cX2_codeOf 0 = .ok (.bipush 10, 2) := dk_16 10 (dk_at dksX2_codeOf_0 0 rfl rfl)
theorem dX2_codeOf_2 : decode cX2_codeOf 2 = .ok (.iload_n 0, 1) := dk_26 (dk_at dksX2_codeOf_0 2 rfl rfl)
theorem dX2_codeOf_3 : decode cX2_codeOf 3 = .ok (.imul, 1) := dk_104 (dk_at dksX2_codeOf_0 3 rfl rfl)
theorem dX2_codeOf_4 : decode cX2_codeOf 4 = .ok (.iload_n 0, 1) := dk_26 (dk_at dksX2_codeOf_0 4 rfl rfl)
theorem dX2_codeOf_5 : decode cX2_codeOf 5 = .ok (.invokestatic 51, 3) := dk_184 0 51 (dk_at dksX2_codeOf_0 5 rfl rfl)
theorem dX2_codeOf_8 : decode cX2_codeOf 8 = .ok (.iadd, 1) := dk_96 (dk_at dksX2_codeOf_0 8 rfl rfl)
theorem dX2_codeOf_9 : decode cX2_codeOf 9 = .ok (.ireturn, 1) := dk_172 (dk_at dksX2_codeOf_0 9 rfl rfl)
abbrev cX2_checkOf : ByteArray := prog_14_method_14_code
def yX2_checkOf : MethodName := ⟨RX2, "checkOf", "(I)I"⟩
def dkwX2_checkOf_1 : List UInt8 := [96, 26, 16, 10, 112, 96, 60, 16, 10, 27, 16, 10, 112, 100, 16, 10, 112, 172]
abbrev dktX2_checkOf_1 : List UInt8 := dkwX2_checkOf_1 ++ []
def dkwX2_checkOf_0 : List UInt8 := [6, 26, 17, 3, 232, 108, 104, 26, 16, 100, 108, 16, 10, 112, 96, 6, 26, 16, 10, 108, 16, 10, 112, 104]
abbrev dktX2_checkOf_0 : List UInt8 := dkwX2_checkOf_0 ++ dktX2_checkOf_1
theorem dksX2_checkOf_0 : cX2_checkOf.data.toList.drop 0 = dktX2_checkOf_0 := by decide +kernel
theorem dksX2_checkOf_1 : cX2_checkOf.data.toList.drop 24 = dktX2_checkOf_1 := dk_seg dksX2_checkOf_0 24 rfl rfl
theorem dX2_checkOf_0 : decode cX2_checkOf 0 = .ok (.iconst 3, 1) := dk_6 (dk_at dksX2_checkOf_0 0 rfl rfl)
theorem dX2_checkOf_1 : decode cX2_checkOf 1 = .ok (.iload_n 0, 1) := dk_26 (dk_at dksX2_checkOf_0 1 rfl rfl)
theorem dX2_checkOf_2 : decode cX2_checkOf 2 = .ok (.sipush 1000, 3) := dk_17 3 232 (dk_at dksX2_checkOf_0 2 rfl rfl)
theorem dX2_checkOf_5 : decode cX2_checkOf 5 = .ok (.idiv, 1) := dk_108 (dk_at dksX2_checkOf_0 5 rfl rfl)
theorem dX2_checkOf_6 : decode cX2_checkOf 6 = .ok (.imul, 1) := dk_104 (dk_at dksX2_checkOf_0 6 rfl rfl)
theorem dX2_checkOf_7 : decode cX2_checkOf 7 = .ok (.iload_n 0, 1) := dk_26 (dk_at dksX2_checkOf_0 7 rfl rfl)
theorem dX2_checkOf_8 : decode cX2_checkOf 8 = .ok (.bipush 100, 2) := dk_16 100 (dk_at dksX2_checkOf_0 8 rfl rfl)
theorem dX2_checkOf_10 : decode cX2_checkOf 10 = .ok (.idiv, 1) := dk_108 (dk_at dksX2_checkOf_0 10 rfl rfl)
theorem dX2_checkOf_11 : decode cX2_checkOf 11 = .ok (.bipush 10, 2) := dk_16 10 (dk_at dksX2_checkOf_0 11 rfl rfl)
theorem dX2_checkOf_13 : decode cX2_checkOf 13 = .ok (.irem, 1) := dk_112 (dk_at dksX2_checkOf_0 13 rfl rfl)
theorem dX2_checkOf_14 : decode cX2_checkOf 14 = .ok (.iadd, 1) := dk_96 (dk_at dksX2_checkOf_0 14 rfl rfl)
theorem dX2_checkOf_15 : decode cX2_checkOf 15 = .ok (.iconst 3, 1) := dk_6 (dk_at dksX2_checkOf_0 15 rfl rfl)
theorem dX2_checkOf_16 : decode cX2_checkOf 16 = .ok (.iload_n 0, 1) := dk_26 (dk_at dksX2_checkOf_0 16 rfl rfl)
theorem dX2_checkOf_17 : decode cX2_checkOf 17 = .ok (.bipush 10, 2) := dk_16 10 (dk_at dksX2_checkOf_0 17 rfl rfl)
theorem dX2_checkOf_19 : decode cX2_checkOf 19 = .ok (.idiv, 1) := dk_108 (dk_at dksX2_checkOf_0 19 rfl rfl)
theorem dX2_checkOf_20 : decode cX2_checkOf 20 = .ok (.bipush 10, 2) := dk_16 10 (dk_at dksX2_checkOf_0 20 rfl rfl)
theorem dX2_checkOf_22 : decode cX2_checkOf 22 = .ok (.irem, 1) := dk_112 (dk_at dksX2_checkOf_0 22 rfl rfl)
theorem dX2_checkOf_23 : decode cX2_checkOf 23 = .ok (.imul, 1) := dk_104 (dk_at dksX2_checkOf_0 23 rfl rfl)
theorem dX2_checkOf_24 : decode cX2_checkOf 24 = .ok (.iadd, 1) := dk_96 (dk_at dksX2_checkOf_1 0 rfl rfl)
theorem dX2_checkOf_25 : decode cX2_checkOf 25 = .ok (.iload_n 0, 1) := dk_26 (dk_at dksX2_checkOf_1 1 rfl rfl)
theorem dX2_checkOf_26 : decode cX2_checkOf 26 = .ok (.bipush 10, 2) := dk_16 10 (dk_at dksX2_checkOf_1 2 rfl rfl)
theorem dX2_checkOf_28 : decode cX2_checkOf 28 = .ok (.irem, 1) := dk_112 (dk_at dksX2_checkOf_1 4 rfl rfl)
theorem dX2_checkOf_29 : decode cX2_checkOf 29 = .ok (.iadd, 1) := dk_96 (dk_at dksX2_checkOf_1 5 rfl rfl)
theorem dX2_checkOf_30 : decode cX2_checkOf 30 = .ok (.istore_n 1, 1) := dk_60 (dk_at dksX2_checkOf_1 6 rfl rfl)
theorem dX2_checkOf_31 : decode cX2_checkOf 31 = .ok (.bipush 10, 2) := dk_16 10 (dk_at dksX2_checkOf_1 7 rfl rfl)
theorem dX2_checkOf_33 : decode cX2_checkOf 33 = .ok (.iload_n 1, 1) := dk_27 (dk_at dksX2_checkOf_1 9 rfl rfl)
theorem dX2_checkOf_34 : decode cX2_checkOf 34 = .ok (.bipush 10, 2) := dk_16 10 (dk_at dksX2_checkOf_1 10 rfl rfl)
theorem dX2_checkOf_36 : decode cX2_checkOf 36 = .ok (.irem, 1) := dk_112 (dk_at dksX2_checkOf_1 12 rfl rfl)
theorem dX2_checkOf_37 : decode cX2_checkOf 37 = .ok (.isub, 1) := dk_100 (dk_at dksX2_checkOf_1 13 rfl rfl)
theorem dX2_checkOf_38 : decode cX2_checkOf 38 = .ok (.bipush 10, 2) := dk_16 10 (dk_at dksX2_checkOf_1 14 rfl rfl)
theorem dX2_checkOf_40 : decode cX2_checkOf 40 = .ok (.irem, 1) := dk_112 (dk_at dksX2_checkOf_1 16 rfl rfl)
theorem dX2_checkOf_41 : decode cX2_checkOf 41 = .ok (.ireturn, 1) := dk_172 (dk_at dksX2_checkOf_1 17 rfl rfl)
abbrev cX2_far : ByteArray := prog_14_method_21_code
def yX2_far : MethodName := ⟨RX2, "far", "(II)I"⟩
def dkwX2_far_1 : List UInt8 := [16, 10, 112, 184, 0, 77, 96, 62, 21, 4, 16, 10, 108, 54, 4, 132, 5, 255, 167, 255, 223, 29, 172]
abbrev dktX2_far_1 : List UInt8 := dkwX2_far_1 ++ []
def dkwX2_far_0 : List UInt8 := [3, 62, 28, 54, 4, 7, 54, 5, 21, 5, 155, 0, 34, 29, 42, 27, 21, 5, 182, 0, 74, 21, 4]
abbrev dktX2_far_0 : List UInt8 := dkwX2_far_0 ++ dktX2_far_1
theorem dksX2_far_0 : cX2_far.data.toList.drop 0 = dktX2_far_0 := by decide +kernel
theorem dksX2_far_1 : cX2_far.data.toList.drop 23 = dktX2_far_1 := dk_seg dksX2_far_0 23 rfl rfl
theorem dX2_far_0 : decode cX2_far 0 = .ok (.iconst 0, 1) := dk_3 (dk_at dksX2_far_0 0 rfl rfl)
theorem dX2_far_1 : decode cX2_far 1 = .ok (.istore_n 3, 1) := dk_62 (dk_at dksX2_far_0 1 rfl rfl)
theorem dX2_far_2 : decode cX2_far 2 = .ok (.iload_n 2, 1) := dk_28 (dk_at dksX2_far_0 2 rfl rfl)
theorem dX2_far_3 : decode cX2_far 3 = .ok (.istore 4, 2) := dk_54 4 (dk_at dksX2_far_0 3 rfl rfl)
theorem dX2_far_5 : decode cX2_far 5 = .ok (.iconst 4, 1) := dk_7 (dk_at dksX2_far_0 5 rfl rfl)
theorem dX2_far_6 : decode cX2_far 6 = .ok (.istore 5, 2) := dk_54 5 (dk_at dksX2_far_0 6 rfl rfl)
theorem dX2_far_8 : decode cX2_far 8 = .ok (.iload 5, 2) := dk_21 5 (dk_at dksX2_far_0 8 rfl rfl)
theorem dX2_far_10 : decode cX2_far 10 = .ok (.ifCond .lt 34, 3) := dk_155 0 34 (dk_at dksX2_far_0 10 rfl rfl)
theorem dX2_far_13 : decode cX2_far 13 = .ok (.iload_n 3, 1) := dk_29 (dk_at dksX2_far_0 13 rfl rfl)
theorem dX2_far_14 : decode cX2_far 14 = .ok (.aload_n 0, 1) := dk_42 (dk_at dksX2_far_0 14 rfl rfl)
theorem dX2_far_15 : decode cX2_far 15 = .ok (.iload_n 1, 1) := dk_27 (dk_at dksX2_far_0 15 rfl rfl)
theorem dX2_far_16 : decode cX2_far 16 = .ok (.iload 5, 2) := dk_21 5 (dk_at dksX2_far_0 16 rfl rfl)
theorem dX2_far_18 : decode cX2_far 18 = .ok (.invokevirtual 74, 3) := dk_182 0 74 (dk_at dksX2_far_0 18 rfl rfl)
theorem dX2_far_21 : decode cX2_far 21 = .ok (.iload 4, 2) := dk_21 4 (dk_at dksX2_far_0 21 rfl rfl)
theorem dX2_far_23 : decode cX2_far 23 = .ok (.bipush 10, 2) := dk_16 10 (dk_at dksX2_far_1 0 rfl rfl)
theorem dX2_far_25 : decode cX2_far 25 = .ok (.irem, 1) := dk_112 (dk_at dksX2_far_1 2 rfl rfl)
theorem dX2_far_26 : decode cX2_far 26 = .ok (.invokestatic 77, 3) := dk_184 0 77 (dk_at dksX2_far_1 3 rfl rfl)
theorem dX2_far_29 : decode cX2_far 29 = .ok (.iadd, 1) := dk_96 (dk_at dksX2_far_1 6 rfl rfl)
theorem dX2_far_30 : decode cX2_far 30 = .ok (.istore_n 3, 1) := dk_62 (dk_at dksX2_far_1 7 rfl rfl)
theorem dX2_far_31 : decode cX2_far 31 = .ok (.iload 4, 2) := dk_21 4 (dk_at dksX2_far_1 8 rfl rfl)
theorem dX2_far_33 : decode cX2_far 33 = .ok (.bipush 10, 2) := dk_16 10 (dk_at dksX2_far_1 10 rfl rfl)
theorem dX2_far_35 : decode cX2_far 35 = .ok (.idiv, 1) := dk_108 (dk_at dksX2_far_1 12 rfl rfl)
theorem dX2_far_36 : decode cX2_far 36 = .ok (.istore 4, 2) := dk_54 4 (dk_at dksX2_far_1 13 rfl rfl)
theorem dX2_far_38 : decode cX2_far 38 = .ok (.iinc 5 (-1), 3) := dk_132 5 255 (dk_at dksX2_far_1 15 rfl rfl)
theorem dX2_far_41 : decode cX2_far 41 = .ok (.goto (-33), 3) := dk_167 255 223 (dk_at dksX2_far_1 18 rfl rfl)
theorem dX2_far_44 : decode cX2_far 44 = .ok (.iload_n 3, 1) := dk_29 (dk_at dksX2_far_1 21 rfl rfl)
theorem dX2_far_45 : decode cX2_far 45 = .ok (.ireturn, 1) := dk_172 (dk_at dksX2_far_1 22 rfl rfl)
abbrev cX2_costOf : ByteArray := prog_14_method_20_code
def yX2_costOf : MethodName := ⟨RX2, "costOf", "(II)I"⟩
def dkwX2_costOf_1 : List UInt8 := [167, 0, 4, 5, 172]
abbrev dktX2_costOf_1 : List UInt8 := dkwX2_costOf_1 ++ []
def dkwX2_costOf_0 : List UInt8 := [26, 27, 160, 0, 7, 3, 167, 0, 21, 26, 2, 159, 0, 11, 26, 27, 184, 0, 70, 153, 0, 7, 4]
abbrev dktX2_costOf_0 : List UInt8 := dkwX2_costOf_0 ++ dktX2_costOf_1
theorem dksX2_costOf_0 : cX2_costOf.data.toList.drop 0 = dktX2_costOf_0 := by decide +kernel
theorem dksX2_costOf_1 : cX2_costOf.data.toList.drop 23 = dktX2_costOf_1 := dk_seg dksX2_costOf_0 23 rfl rfl
theorem dX2_costOf_0 : decode cX2_costOf 0 = .ok (.iload_n 0, 1) := dk_26 (dk_at dksX2_costOf_0 0 rfl rfl)
theorem dX2_costOf_1 : decode cX2_costOf 1 = .ok (.iload_n 1, 1) := dk_27 (dk_at dksX2_costOf_0 1 rfl rfl)
theorem dX2_costOf_2 : decode cX2_costOf 2 = .ok (.if_icmp .ne 7, 3) := dk_160 0 7 (dk_at dksX2_costOf_0 2 rfl rfl)
theorem dX2_costOf_5 : decode cX2_costOf 5 = .ok (.iconst 0, 1) := dk_3 (dk_at dksX2_costOf_0 5 rfl rfl)
theorem dX2_costOf_6 : decode cX2_costOf 6 = .ok (.goto 21, 3) := dk_167 0 21 (dk_at dksX2_costOf_0 6 rfl rfl)
theorem dX2_costOf_9 : decode cX2_costOf 9 = .ok (.iload_n 0, 1) := dk_26 (dk_at dksX2_costOf_0 9 rfl rfl)
theorem dX2_costOf_10 : decode cX2_costOf 10 = .ok (.iconst (-1), 1) := dk_2 (dk_at dksX2_costOf_0 10 rfl rfl)
theorem dX2_costOf_11 : decode cX2_costOf 11 = .ok (.if_icmp .eq 11, 3) := dk_159 0 11 (dk_at dksX2_costOf_0 11 rfl rfl)
theorem dX2_costOf_14 : decode cX2_costOf 14 = .ok (.iload_n 0, 1) := dk_26 (dk_at dksX2_costOf_0 14 rfl rfl)
theorem dX2_costOf_15 : decode cX2_costOf 15 = .ok (.iload_n 1, 1) := dk_27 (dk_at dksX2_costOf_0 15 rfl rfl)
theorem dX2_costOf_16 : decode cX2_costOf 16 = .ok (.invokestatic 70, 3) := dk_184 0 70 (dk_at dksX2_costOf_0 16 rfl rfl)
theorem dX2_costOf_19 : decode cX2_costOf 19 = .ok (.ifCond .eq 7, 3) := dk_153 0 7 (dk_at dksX2_costOf_0 19 rfl rfl)
theorem dX2_costOf_22 : decode cX2_costOf 22 = .ok (.iconst 1, 1) := dk_4 (dk_at dksX2_costOf_0 22 rfl rfl)
theorem dX2_costOf_23 : decode cX2_costOf 23 = .ok (.goto 4, 3) := dk_167 0 4 (dk_at dksX2_costOf_1 0 rfl rfl)
theorem dX2_costOf_26 : decode cX2_costOf 26 = .ok (.iconst 2, 1) := dk_5 (dk_at dksX2_costOf_1 3 rfl rfl)
theorem dX2_costOf_27 : decode cX2_costOf 27 = .ok (.ireturn, 1) := dk_172 (dk_at dksX2_costOf_1 4 rfl rfl)
abbrev cX2_areAlike : ByteArray := prog_14_method_19_code
def yX2_areAlike : MethodName := ⟨RX2, "areAlike", "(II)Z"⟩
def dkwX2_areAlike_3 : List UInt8 := [3, 172]
abbrev dktX2_areAlike_3 : List UInt8 := dkwX2_areAlike_3 ++ []
def dkwX2_areAlike_2 : List UInt8 := [160, 0, 9, 29, 16, 9, 159, 0, 14, 28, 8, 160, 0, 13, 29, 16, 6, 160, 0, 7, 4, 167, 0, 4]
abbrev dktX2_areAlike_2 : List UInt8 := dkwX2_areAlike_2 ++ dktX2_areAlike_3
def dkwX2_areAlike_1 : List UInt8 := [160, 0, 9, 29, 16, 7, 159, 0, 36, 28, 6, 160, 0, 9, 29, 16, 8, 159, 0, 25, 28, 7]
abbrev dktX2_areAlike_1 : List UInt8 := dkwX2_areAlike_1 ++ dktX2_areAlike_2
def dkwX2_areAlike_0 : List UInt8 := [26, 27, 184, 0, 62, 61, 26, 27, 184, 0, 67, 62, 28, 154, 0, 9, 29, 16, 6, 159, 0, 47, 28, 4]
abbrev dktX2_areAlike_0 : List UInt8 := dkwX2_areAlike_0 ++ dktX2_areAlike_1
theorem dksX2_areAlike_0 : cX2_areAlike.data.toList.drop 0 = dktX2_areAlike_0 := by decide +kernel
theorem dksX2_areAlike_1 : cX2_areAlike.data.toList.drop 24 = dktX2_areAlike_1 := dk_seg dksX2_areAlike_0 24 rfl rfl
theorem dksX2_areAlike_2 : cX2_areAlike.data.toList.drop 46 = dktX2_areAlike_2 := dk_seg dksX2_areAlike_1 22 rfl rfl
theorem dksX2_areAlike_3 : cX2_areAlike.data.toList.drop 70 = dktX2_areAlike_3 := dk_seg dksX2_areAlike_2 24 rfl rfl
theorem dX2_areAlike_0 : decode cX2_areAlike 0 = .ok (.iload_n 0, 1) := dk_26 (dk_at dksX2_areAlike_0 0 rfl rfl)
theorem dX2_areAlike_1 : decode cX2_areAlike 1 = .ok (.iload_n 1, 1) := dk_27 (dk_at dksX2_areAlike_0 1 rfl rfl)
theorem dX2_areAlike_2 : decode cX2_areAlike 2 = .ok (.invokestatic 62, 3) := dk_184 0 62 (dk_at dksX2_areAlike_0 2 rfl rfl)
theorem dX2_areAlike_5 : decode cX2_areAlike 5 = .ok (.istore_n 2, 1) := dk_61 (dk_at dksX2_areAlike_0 5 rfl rfl)
theorem dX2_areAlike_6 : decode cX2_areAlike 6 = .ok (.iload_n 0, 1) := dk_26 (dk_at dksX2_areAlike_0 6 rfl rfl)
theorem dX2_areAlike_7 : decode cX2_areAlike 7 = .ok (.iload_n 1, 1) := dk_27 (dk_at dksX2_areAlike_0 7 rfl rfl)
theorem dX2_areAlike_8 : decode cX2_areAlike 8 = .ok (.invokestatic 67, 3) := dk_184 0 67 (dk_at dksX2_areAlike_0 8 rfl rfl)
theorem dX2_areAlike_11 : decode cX2_areAlike 11 = .ok (.istore_n 3, 1) := dk_62 (dk_at dksX2_areAlike_0 11 rfl rfl)
theorem dX2_areAlike_12 : decode cX2_areAlike 12 = .ok (.iload_n 2, 1) := dk_28 (dk_at dksX2_areAlike_0 12 rfl rfl)
theorem dX2_areAlike_13 : decode cX2_areAlike 13 = .ok (.ifCond .ne 9, 3) := dk_154 0 9 (dk_at dksX2_areAlike_0 13 rfl rfl)
theorem dX2_areAlike_16 : decode cX2_areAlike 16 = .ok (.iload_n 3, 1) := dk_29 (dk_at dksX2_areAlike_0 16 rfl rfl)
theorem dX2_areAlike_17 : decode cX2_areAlike 17 = .ok (.bipush 6, 2) := dk_16 6 (dk_at dksX2_areAlike_0 17 rfl rfl)
theorem dX2_areAlike_19 : decode cX2_areAlike 19 = .ok (.if_icmp .eq 47, 3) := dk_159 0 47 (dk_at dksX2_areAlike_0 19 rfl rfl)
theorem dX2_areAlike_22 : decode cX2_areAlike 22 = .ok (.iload_n 2, 1) := dk_28 (dk_at dksX2_areAlike_0 22 rfl rfl)
theorem dX2_areAlike_23 : decode cX2_areAlike 23 = .ok (.iconst 1, 1) := dk_4 (dk_at dksX2_areAlike_0 23 rfl rfl)
theorem dX2_areAlike_24 : decode cX2_areAlike 24 = .ok (.if_icmp .ne 9, 3) := dk_160 0 9 (dk_at dksX2_areAlike_1 0 rfl rfl)
theorem dX2_areAlike_27 : decode cX2_areAlike 27 = .ok (.iload_n 3, 1) := dk_29 (dk_at dksX2_areAlike_1 3 rfl rfl)
theorem dX2_areAlike_28 : decode cX2_areAlike 28 = .ok (.bipush 7, 2) := dk_16 7 (dk_at dksX2_areAlike_1 4 rfl rfl)
theorem dX2_areAlike_30 : decode cX2_areAlike 30 = .ok (.if_icmp .eq 36, 3) := dk_159 0 36 (dk_at dksX2_areAlike_1 6 rfl rfl)
theorem dX2_areAlike_33 : decode cX2_areAlike 33 = .ok (.iload_n 2, 1) := dk_28 (dk_at dksX2_areAlike_1 9 rfl rfl)
theorem dX2_areAlike_34 : decode cX2_areAlike 34 = .ok (.iconst 3, 1) := dk_6 (dk_at dksX2_areAlike_1 10 rfl rfl)
theorem dX2_areAlike_35 : decode cX2_areAlike 35 = .ok (.if_icmp .ne 9, 3) := dk_160 0 9 (dk_at dksX2_areAlike_1 11 rfl rfl)
theorem dX2_areAlike_38 : decode cX2_areAlike 38 = .ok (.iload_n 3, 1) := dk_29 (dk_at dksX2_areAlike_1 14 rfl rfl)
theorem dX2_areAlike_39 : decode cX2_areAlike 39 = .ok (.bipush 8, 2) := dk_16 8 (dk_at dksX2_areAlike_1 15 rfl rfl)
theorem dX2_areAlike_41 : decode cX2_areAlike 41 = .ok (.if_icmp .eq 25, 3) := dk_159 0 25 (dk_at dksX2_areAlike_1 17 rfl rfl)
theorem dX2_areAlike_44 : decode cX2_areAlike 44 = .ok (.iload_n 2, 1) := dk_28 (dk_at dksX2_areAlike_1 20 rfl rfl)
theorem dX2_areAlike_45 : decode cX2_areAlike 45 = .ok (.iconst 4, 1) := dk_7 (dk_at dksX2_areAlike_1 21 rfl rfl)
theorem dX2_areAlike_46 : decode cX2_areAlike 46 = .ok (.if_icmp .ne 9, 3) := dk_160 0 9 (dk_at dksX2_areAlike_2 0 rfl rfl)
theorem dX2_areAlike_49 : decode cX2_areAlike 49 = .ok (.iload_n 3, 1) := dk_29 (dk_at dksX2_areAlike_2 3 rfl rfl)
theorem dX2_areAlike_50 : decode cX2_areAlike 50 = .ok (.bipush 9, 2) := dk_16 9 (dk_at dksX2_areAlike_2 4 rfl rfl)
theorem dX2_areAlike_52 : decode cX2_areAlike 52 = .ok (.if_icmp .eq 14, 3) := dk_159 0 14 (dk_at dksX2_areAlike_2 6 rfl rfl)
theorem dX2_areAlike_55 : decode cX2_areAlike 55 = .ok (.iload_n 2, 1) := dk_28 (dk_at dksX2_areAlike_2 9 rfl rfl)
theorem dX2_areAlike_56 : decode cX2_areAlike 56 = .ok (.iconst 5, 1) := dk_8 (dk_at dksX2_areAlike_2 10 rfl rfl)
theorem dX2_areAlike_57 : decode cX2_areAlike 57 = .ok (.if_icmp .ne 13, 3) := dk_160 0 13 (dk_at dksX2_areAlike_2 11 rfl rfl)
theorem dX2_areAlike_60 : decode cX2_areAlike 60 = .ok (.iload_n 3, 1) := dk_29 (dk_at dksX2_areAlike_2 14 rfl rfl)
theorem dX2_areAlike_61 : decode cX2_areAlike 61 = .ok (.bipush 6, 2) := dk_16 6 (dk_at dksX2_areAlike_2 15 rfl rfl)
theorem dX2_areAlike_63 : decode cX2_areAlike 63 = .ok (.if_icmp .ne 7, 3) := dk_160 0 7 (dk_at dksX2_areAlike_2 17 rfl rfl)
theorem dX2_areAlike_66 : decode cX2_areAlike 66 = .ok (.iconst 1, 1) := dk_4 (dk_at dksX2_areAlike_2 20 rfl rfl)
theorem dX2_areAlike_67 : decode cX2_areAlike 67 = .ok (.goto 4, 3) := dk_167 0 4 (dk_at dksX2_areAlike_2 21 rfl rfl)
theorem dX2_areAlike_70 : decode cX2_areAlike 70 = .ok (.iconst 0, 1) := dk_3 (dk_at dksX2_areAlike_3 0 rfl rfl)
theorem dX2_areAlike_71 : decode cX2_areAlike 71 = .ok (.ireturn, 1) := dk_172 (dk_at dksX2_areAlike_3 1 rfl rfl)
abbrev cX2_leastFar : ByteArray := prog_14_method_24_code
def yX2_leastFar : MethodName := ⟨RX2, "leastFar", "(I)I"⟩
def dkwX2_leastFar_1 : List UInt8 := [132, 3, 1, 167, 255, 234, 28, 172]
abbrev dktX2_leastFar_1 : List UInt8 := dkwX2_leastFar_1 ++ []
def dkwX2_leastFar_0 : List UInt8 := [16, 10, 61, 3, 62, 29, 42, 182, 0, 90, 162, 0, 20, 28, 42, 27, 29, 182, 0, 94, 184, 0, 62, 61]
abbrev dktX2_leastFar_0 : List UInt8 := dkwX2_leastFar_0 ++ dktX2_leastFar_1
theorem dksX2_leastFar_0 : cX2_leastFar.data.toList.drop 0 = dktX2_leastFar_0 := by decide +kernel
theorem dksX2_leastFar_1 : cX2_leastFar.data.toList.drop 24 = dktX2_leastFar_1 := dk_seg dksX2_leastFar_0 24 rfl rfl
theorem dX2_leastFar_0 : decode cX2_leastFar 0 = .ok (.bipush 10, 2) := dk_16 10 (dk_at dksX2_leastFar_0 0 rfl rfl)
theorem dX2_leastFar_2 : decode cX2_leastFar 2 = .ok (.istore_n 2, 1) := dk_61 (dk_at dksX2_leastFar_0 2 rfl rfl)
theorem dX2_leastFar_3 : decode cX2_leastFar 3 = .ok (.iconst 0, 1) := dk_3 (dk_at dksX2_leastFar_0 3 rfl rfl)
theorem dX2_leastFar_4 : decode cX2_leastFar 4 = .ok (.istore_n 3, 1) := dk_62 (dk_at dksX2_leastFar_0 4 rfl rfl)
theorem dX2_leastFar_5 : decode cX2_leastFar 5 = .ok (.iload_n 3, 1) := dk_29 (dk_at dksX2_leastFar_0 5 rfl rfl)
theorem dX2_leastFar_6 : decode cX2_leastFar 6 = .ok (.aload_n 0, 1) := dk_42 (dk_at dksX2_leastFar_0 6 rfl rfl)
theorem dX2_leastFar_7 : decode cX2_leastFar 7 = .ok (.invokevirtual 90, 3) := dk_182 0 90 (dk_at dksX2_leastFar_0 7 rfl rfl)
theorem dX2_leastFar_10 : decode cX2_leastFar 10 = .ok (.if_icmp .ge 20, 3) := dk_162 0 20 (dk_at dksX2_leastFar_0 10 rfl rfl)
theorem dX2_leastFar_13 : decode cX2_leastFar 13 = .ok (.iload_n 2, 1) := dk_28 (dk_at dksX2_leastFar_0 13 rfl rfl)
theorem dX2_leastFar_14 : decode cX2_leastFar 14 = .ok (.aload_n 0, 1) := dk_42 (dk_at dksX2_leastFar_0 14 rfl rfl)
theorem dX2_leastFar_15 : decode cX2_leastFar 15 = .ok (.iload_n 1, 1) := dk_27 (dk_at dksX2_leastFar_0 15 rfl rfl)
theorem dX2_leastFar_16 : decode cX2_leastFar 16 = .ok (.iload_n 3, 1) := dk_29 (dk_at dksX2_leastFar_0 16 rfl rfl)
theorem dX2_leastFar_17 : decode cX2_leastFar 17 = .ok (.invokevirtual 94, 3) := dk_182 0 94 (dk_at dksX2_leastFar_0 17 rfl rfl)
theorem dX2_leastFar_20 : decode cX2_leastFar 20 = .ok (.invokestatic 62, 3) := dk_184 0 62 (dk_at dksX2_leastFar_0 20 rfl rfl)
theorem dX2_leastFar_23 : decode cX2_leastFar 23 = .ok (.istore_n 2, 1) := dk_61 (dk_at dksX2_leastFar_0 23 rfl rfl)
theorem dX2_leastFar_24 : decode cX2_leastFar 24 = .ok (.iinc 3 1, 3) := dk_132 3 1 (dk_at dksX2_leastFar_1 0 rfl rfl)
theorem dX2_leastFar_27 : decode cX2_leastFar 27 = .ok (.goto (-22), 3) := dk_167 255 234 (dk_at dksX2_leastFar_1 3 rfl rfl)
theorem dX2_leastFar_30 : decode cX2_leastFar 30 = .ok (.iload_n 2, 1) := dk_28 (dk_at dksX2_leastFar_1 6 rfl rfl)
theorem dX2_leastFar_31 : decode cX2_leastFar 31 = .ok (.ireturn, 1) := dk_172 (dk_at dksX2_leastFar_1 7 rfl rfl)
abbrev cX2_byBundle : ByteArray := prog_14_method_29_code
def yX2_byBundle : MethodName := ⟨RX2, "byBundle", "(I)I"⟩
def dkwX2_byBundle_7 : List UInt8 := [132, 5, 1, 167, 255, 197, 21, 4, 172]
abbrev dktX2_byBundle_7 : List UInt8 := dkwX2_byBundle_7 ++ []
def dkwX2_byBundle_6 : List UInt8 := [180, 0, 13, 6, 28, 96, 46, 160, 0, 15, 21, 4, 2, 159, 0, 5, 2, 172, 21, 5, 54, 4]
abbrev dktX2_byBundle_6 : List UInt8 := dkwX2_byBundle_6 ++ dktX2_byBundle_7
def dkwX2_byBundle_5 : List UInt8 := [21, 5, 182, 0, 100, 153, 0, 40, 29, 42, 21, 5, 182, 0, 80, 184, 0, 115, 96, 16, 10, 112, 42]
abbrev dktX2_byBundle_5 : List UInt8 := dkwX2_byBundle_5 ++ dktX2_byBundle_6
def dkwX2_byBundle_4 : List UInt8 := [132, 4, 1, 167, 255, 196, 2, 54, 4, 3, 54, 5, 21, 5, 42, 182, 0, 90, 162, 0, 56, 42, 27]
abbrev dktX2_byBundle_4 : List UInt8 := dkwX2_byBundle_4 ++ dktX2_byBundle_5
def dkwX2_byBundle_3 : List UInt8 := [54, 5, 21, 5, 2, 160, 0, 5, 2, 172, 29, 42, 21, 5, 182, 0, 80, 184, 0, 115, 96, 62]
abbrev dktX2_byBundle_3 : List UInt8 := dkwX2_byBundle_3 ++ dktX2_byBundle_4
def dkwX2_byBundle_2 : List UInt8 := [159, 0, 45, 42, 21, 4, 8, 182, 0, 74, 28, 159, 0, 6, 167, 0, 31, 42, 21, 4, 182, 0, 112]
abbrev dktX2_byBundle_2 : List UInt8 := dkwX2_byBundle_2 ++ dktX2_byBundle_3
def dkwX2_byBundle_1 : List UInt8 := [2, 160, 0, 5, 2, 172, 3, 62, 3, 54, 4, 21, 4, 42, 182, 0, 109, 162, 0, 57, 21, 4, 27]
abbrev dktX2_byBundle_1 : List UInt8 := dkwX2_byBundle_1 ++ dktX2_byBundle_2
def dkwX2_byBundle_0 : List UInt8 := [42, 27, 8, 182, 0, 74, 61, 42, 27, 182, 0, 103, 6, 163, 0, 15, 42, 180, 0, 13, 6, 28, 96, 46]
abbrev dktX2_byBundle_0 : List UInt8 := dkwX2_byBundle_0 ++ dktX2_byBundle_1
theorem dksX2_byBundle_0 : cX2_byBundle.data.toList.drop 0 = dktX2_byBundle_0 := by decide +kernel
theorem dksX2_byBundle_1 : cX2_byBundle.data.toList.drop 24 = dktX2_byBundle_1 := dk_seg dksX2_byBundle_0 24 rfl rfl
theorem dksX2_byBundle_2 : cX2_byBundle.data.toList.drop 47 = dktX2_byBundle_2 := dk_seg dksX2_byBundle_1 23 rfl rfl
theorem dksX2_byBundle_3 : cX2_byBundle.data.toList.drop 70 = dktX2_byBundle_3 := dk_seg dksX2_byBundle_2 23 rfl rfl
theorem dksX2_byBundle_4 : cX2_byBundle.data.toList.drop 92 = dktX2_byBundle_4 := dk_seg dksX2_byBundle_3 22 rfl rfl
theorem dksX2_byBundle_5 : cX2_byBundle.data.toList.drop 115 = dktX2_byBundle_5 := dk_seg dksX2_byBundle_4 23 rfl rfl
theorem dksX2_byBundle_6 : cX2_byBundle.data.toList.drop 138 = dktX2_byBundle_6 := dk_seg dksX2_byBundle_5 23 rfl rfl
theorem dksX2_byBundle_7 : cX2_byBundle.data.toList.drop 160 = dktX2_byBundle_7 := dk_seg dksX2_byBundle_6 22 rfl rfl
theorem dX2_byBundle_0 : decode cX2_byBundle 0 = .ok (.aload_n 0, 1) := dk_42 (dk_at dksX2_byBundle_0 0 rfl rfl)
theorem dX2_byBundle_1 : decode cX2_byBundle 1 = .ok (.iload_n 1, 1) := dk_27 (dk_at dksX2_byBundle_0 1 rfl rfl)
theorem dX2_byBundle_2 : decode cX2_byBundle 2 = .ok (.iconst 5, 1) := dk_8 (dk_at dksX2_byBundle_0 2 rfl rfl)
theorem dX2_byBundle_3 : decode cX2_byBundle 3 = .ok (.invokevirtual 74, 3) := dk_182 0 74 (dk_at dksX2_byBundle_0 3 rfl rfl)
theorem dX2_byBundle_6 : decode cX2_byBundle 6 = .ok (.istore_n 2, 1) := dk_61 (dk_at dksX2_byBundle_0 6 rfl rfl)
theorem dX2_byBundle_7 : decode cX2_byBundle 7 = .ok (.aload_n 0, 1) := dk_42 (dk_at dksX2_byBundle_0 7 rfl rfl)
theorem dX2_byBundle_8 : decode cX2_byBundle 8 = .ok (.iload_n 1, 1) := dk_27 (dk_at dksX2_byBundle_0 8 rfl rfl)
theorem dX2_byBundle_9 : decode cX2_byBundle 9 = .ok (.invokevirtual 103, 3) := dk_182 0 103 (dk_at dksX2_byBundle_0 9 rfl rfl)
theorem dX2_byBundle_12 : decode cX2_byBundle 12 = .ok (.iconst 3, 1) := dk_6 (dk_at dksX2_byBundle_0 12 rfl rfl)
theorem dX2_byBundle_13 : decode cX2_byBundle 13 = .ok (.if_icmp .gt 15, 3) := dk_163 0 15 (dk_at dksX2_byBundle_0 13 rfl rfl)
theorem dX2_byBundle_16 : decode cX2_byBundle 16 = .ok (.aload_n 0, 1) := dk_42 (dk_at dksX2_byBundle_0 16 rfl rfl)
theorem dX2_byBundle_17 : decode cX2_byBundle 17 = .ok (.getfield 13, 3) := dk_180 0 13 (dk_at dksX2_byBundle_0 17 rfl rfl)
theorem dX2_byBundle_20 : decode cX2_byBundle 20 = .ok (.iconst 3, 1) := dk_6 (dk_at dksX2_byBundle_0 20 rfl rfl)
theorem dX2_byBundle_21 : decode cX2_byBundle 21 = .ok (.iload_n 2, 1) := dk_28 (dk_at dksX2_byBundle_0 21 rfl rfl)
theorem dX2_byBundle_22 : decode cX2_byBundle 22 = .ok (.iadd, 1) := dk_96 (dk_at dksX2_byBundle_0 22 rfl rfl)
theorem dX2_byBundle_23 : decode cX2_byBundle 23 = .ok (.iaload, 1) := dk_46 (dk_at dksX2_byBundle_0 23 rfl rfl)
theorem dX2_byBundle_24 : decode cX2_byBundle 24 = .ok (.iconst (-1), 1) := dk_2 (dk_at dksX2_byBundle_1 0 rfl rfl)
theorem dX2_byBundle_25 : decode cX2_byBundle 25 = .ok (.if_icmp .ne 5, 3) := dk_160 0 5 (dk_at dksX2_byBundle_1 1 rfl rfl)
theorem dX2_byBundle_28 : decode cX2_byBundle 28 = .ok (.iconst (-1), 1) := dk_2 (dk_at dksX2_byBundle_1 4 rfl rfl)
theorem dX2_byBundle_29 : decode cX2_byBundle 29 = .ok (.ireturn, 1) := dk_172 (dk_at dksX2_byBundle_1 5 rfl rfl)
theorem dX2_byBundle_30 : decode cX2_byBundle 30 = .ok (.iconst 0, 1) := dk_3 (dk_at dksX2_byBundle_1 6 rfl rfl)
theorem dX2_byBundle_31 : decode cX2_byBundle 31 = .ok (.istore_n 3, 1) := dk_62 (dk_at dksX2_byBundle_1 7 rfl rfl)
theorem dX2_byBundle_32 : decode cX2_byBundle 32 = .ok (.iconst 0, 1) := dk_3 (dk_at dksX2_byBundle_1 8 rfl rfl)
theorem dX2_byBundle_33 : decode cX2_byBundle 33 = .ok (.istore 4, 2) := dk_54 4 (dk_at dksX2_byBundle_1 9 rfl rfl)
theorem dX2_byBundle_35 : decode cX2_byBundle 35 = .ok (.iload 4, 2) := dk_21 4 (dk_at dksX2_byBundle_1 11 rfl rfl)
theorem dX2_byBundle_37 : decode cX2_byBundle 37 = .ok (.aload_n 0, 1) := dk_42 (dk_at dksX2_byBundle_1 13 rfl rfl)
theorem dX2_byBundle_38 : decode cX2_byBundle 38 = .ok (.invokevirtual 109, 3) := dk_182 0 109 (dk_at dksX2_byBundle_1 14 rfl rfl)
theorem dX2_byBundle_41 : decode cX2_byBundle 41 = .ok (.if_icmp .ge 57, 3) := dk_162 0 57 (dk_at dksX2_byBundle_1 17 rfl rfl)
theorem dX2_byBundle_44 : decode cX2_byBundle 44 = .ok (.iload 4, 2) := dk_21 4 (dk_at dksX2_byBundle_1 20 rfl rfl)
theorem dX2_byBundle_46 : decode cX2_byBundle 46 = .ok (.iload_n 1, 1) := dk_27 (dk_at dksX2_byBundle_1 22 rfl rfl)
theorem dX2_byBundle_47 : decode cX2_byBundle 47 = .ok (.if_icmp .eq 45, 3) := dk_159 0 45 (dk_at dksX2_byBundle_2 0 rfl rfl)
theorem dX2_byBundle_50 : decode cX2_byBundle 50 = .ok (.aload_n 0, 1) := dk_42 (dk_at dksX2_byBundle_2 3 rfl rfl)
theorem dX2_byBundle_51 : decode cX2_byBundle 51 = .ok (.iload 4, 2) := dk_21 4 (dk_at dksX2_byBundle_2 4 rfl rfl)
theorem dX2_byBundle_53 : decode cX2_byBundle 53 = .ok (.iconst 5, 1) := dk_8 (dk_at dksX2_byBundle_2 6 rfl rfl)
theorem dX2_byBundle_54 : decode cX2_byBundle 54 = .ok (.invokevirtual 74, 3) := dk_182 0 74 (dk_at dksX2_byBundle_2 7 rfl rfl)
theorem dX2_byBundle_57 : decode cX2_byBundle 57 = .ok (.iload_n 2, 1) := dk_28 (dk_at dksX2_byBundle_2 10 rfl rfl)
theorem dX2_byBundle_58 : decode cX2_byBundle 58 = .ok (.if_icmp .eq 6, 3) := dk_159 0 6 (dk_at dksX2_byBundle_2 11 rfl rfl)
theorem dX2_byBundle_61 : decode cX2_byBundle 61 = .ok (.goto 31, 3) := dk_167 0 31 (dk_at dksX2_byBundle_2 14 rfl rfl)
theorem dX2_byBundle_64 : decode cX2_byBundle 64 = .ok (.aload_n 0, 1) := dk_42 (dk_at dksX2_byBundle_2 17 rfl rfl)
theorem dX2_byBundle_65 : decode cX2_byBundle 65 = .ok (.iload 4, 2) := dk_21 4 (dk_at dksX2_byBundle_2 18 rfl rfl)
theorem dX2_byBundle_67 : decode cX2_byBundle 67 = .ok (.invokevirtual 112, 3) := dk_182 0 112 (dk_at dksX2_byBundle_2 20 rfl rfl)
theorem dX2_byBundle_70 : decode cX2_byBundle 70 = .ok (.istore 5, 2) := dk_54 5 (dk_at dksX2_byBundle_3 0 rfl rfl)
theorem dX2_byBundle_72 : decode cX2_byBundle 72 = .ok (.iload 5, 2) := dk_21 5 (dk_at dksX2_byBundle_3 2 rfl rfl)
theorem dX2_byBundle_74 : decode cX2_byBundle 74 = .ok (.iconst (-1), 1) := dk_2 (dk_at dksX2_byBundle_3 4 rfl rfl)
theorem dX2_byBundle_75 : decode cX2_byBundle 75 = .ok (.if_icmp .ne 5, 3) := dk_160 0 5 (dk_at dksX2_byBundle_3 5 rfl rfl)
theorem dX2_byBundle_78 : decode cX2_byBundle 78 = .ok (.iconst (-1), 1) := dk_2 (dk_at dksX2_byBundle_3 8 rfl rfl)
theorem dX2_byBundle_79 : decode cX2_byBundle 79 = .ok (.ireturn, 1) := dk_172 (dk_at dksX2_byBundle_3 9 rfl rfl)
theorem dX2_byBundle_80 : decode cX2_byBundle 80 = .ok (.iload_n 3, 1) := dk_29 (dk_at dksX2_byBundle_3 10 rfl rfl)
theorem dX2_byBundle_81 : decode cX2_byBundle 81 = .ok (.aload_n 0, 1) := dk_42 (dk_at dksX2_byBundle_3 11 rfl rfl)
theorem dX2_byBundle_82 : decode cX2_byBundle 82 = .ok (.iload 5, 2) := dk_21 5 (dk_at dksX2_byBundle_3 12 rfl rfl)
theorem dX2_byBundle_84 : decode cX2_byBundle 84 = .ok (.invokevirtual 80, 3) := dk_182 0 80 (dk_at dksX2_byBundle_3 14 rfl rfl)
theorem dX2_byBundle_87 : decode cX2_byBundle 87 = .ok (.invokestatic 115, 3) := dk_184 0 115 (dk_at dksX2_byBundle_3 17 rfl rfl)
theorem dX2_byBundle_90 : decode cX2_byBundle 90 = .ok (.iadd, 1) := dk_96 (dk_at dksX2_byBundle_3 20 rfl rfl)
theorem dX2_byBundle_91 : decode cX2_byBundle 91 = .ok (.istore_n 3, 1) := dk_62 (dk_at dksX2_byBundle_3 21 rfl rfl)
theorem dX2_byBundle_92 : decode cX2_byBundle 92 = .ok (.iinc 4 1, 3) := dk_132 4 1 (dk_at dksX2_byBundle_4 0 rfl rfl)
theorem dX2_byBundle_95 : decode cX2_byBundle 95 = .ok (.goto (-60), 3) := dk_167 255 196 (dk_at dksX2_byBundle_4 3 rfl rfl)
theorem dX2_byBundle_98 : decode cX2_byBundle 98 = .ok (.iconst (-1), 1) := dk_2 (dk_at dksX2_byBundle_4 6 rfl rfl)
theorem dX2_byBundle_99 : decode cX2_byBundle 99 = .ok (.istore 4, 2) := dk_54 4 (dk_at dksX2_byBundle_4 7 rfl rfl)
theorem dX2_byBundle_101 : decode cX2_byBundle 101 = .ok (.iconst 0, 1) := dk_3 (dk_at dksX2_byBundle_4 9 rfl rfl)
theorem dX2_byBundle_102 : decode cX2_byBundle 102 = .ok (.istore 5, 2) := dk_54 5 (dk_at dksX2_byBundle_4 10 rfl rfl)
theorem dX2_byBundle_104 : decode cX2_byBundle 104 = .ok (.iload 5, 2) := dk_21 5 (dk_at dksX2_byBundle_4 12 rfl rfl)
theorem dX2_byBundle_106 : decode cX2_byBundle 106 = .ok (.aload_n 0, 1) := dk_42 (dk_at dksX2_byBundle_4 14 rfl rfl)
theorem dX2_byBundle_107 : decode cX2_byBundle 107 = .ok (.invokevirtual 90, 3) := dk_182 0 90 (dk_at dksX2_byBundle_4 15 rfl rfl)
theorem dX2_byBundle_110 : decode cX2_byBundle 110 = .ok (.if_icmp .ge 56, 3) := dk_162 0 56 (dk_at dksX2_byBundle_4 18 rfl rfl)
theorem dX2_byBundle_113 : decode cX2_byBundle 113 = .ok (.aload_n 0, 1) := dk_42 (dk_at dksX2_byBundle_4 21 rfl rfl)
theorem dX2_byBundle_114 : decode cX2_byBundle 114 = .ok (.iload_n 1, 1) := dk_27 (dk_at dksX2_byBundle_4 22 rfl rfl)
theorem dX2_byBundle_115 : decode cX2_byBundle 115 = .ok (.iload 5, 2) := dk_21 5 (dk_at dksX2_byBundle_5 0 rfl rfl)
theorem dX2_byBundle_117 : decode cX2_byBundle 117 = .ok (.invokevirtual 100, 3) := dk_182 0 100 (dk_at dksX2_byBundle_5 2 rfl rfl)
theorem dX2_byBundle_120 : decode cX2_byBundle 120 = .ok (.ifCond .eq 40, 3) := dk_153 0 40 (dk_at dksX2_byBundle_5 5 rfl rfl)
theorem dX2_byBundle_123 : decode cX2_byBundle 123 = .ok (.iload_n 3, 1) := dk_29 (dk_at dksX2_byBundle_5 8 rfl rfl)
theorem dX2_byBundle_124 : decode cX2_byBundle 124 = .ok (.aload_n 0, 1) := dk_42 (dk_at dksX2_byBundle_5 9 rfl rfl)
theorem dX2_byBundle_125 : decode cX2_byBundle 125 = .ok (.iload 5, 2) := dk_21 5 (dk_at dksX2_byBundle_5 10 rfl rfl)
theorem dX2_byBundle_127 : decode cX2_byBundle 127 = .ok (.invokevirtual 80, 3) := dk_182 0 80 (dk_at dksX2_byBundle_5 12 rfl rfl)
theorem dX2_byBundle_130 : decode cX2_byBundle 130 = .ok (.invokestatic 115, 3) := dk_184 0 115 (dk_at dksX2_byBundle_5 15 rfl rfl)
theorem dX2_byBundle_133 : decode cX2_byBundle 133 = .ok (.iadd, 1) := dk_96 (dk_at dksX2_byBundle_5 18 rfl rfl)
theorem dX2_byBundle_134 : decode cX2_byBundle 134 = .ok (.bipush 10, 2) := dk_16 10 (dk_at dksX2_byBundle_5 19 rfl rfl)
theorem dX2_byBundle_136 : decode cX2_byBundle 136 = .ok (.irem, 1) := dk_112 (dk_at dksX2_byBundle_5 21 rfl rfl)
theorem dX2_byBundle_137 : decode cX2_byBundle 137 = .ok (.aload_n 0, 1) := dk_42 (dk_at dksX2_byBundle_5 22 rfl rfl)
theorem dX2_byBundle_138 : decode cX2_byBundle 138 = .ok (.getfield 13, 3) := dk_180 0 13 (dk_at dksX2_byBundle_6 0 rfl rfl)
theorem dX2_byBundle_141 : decode cX2_byBundle 141 = .ok (.iconst 3, 1) := dk_6 (dk_at dksX2_byBundle_6 3 rfl rfl)
theorem dX2_byBundle_142 : decode cX2_byBundle 142 = .ok (.iload_n 2, 1) := dk_28 (dk_at dksX2_byBundle_6 4 rfl rfl)
theorem dX2_byBundle_143 : decode cX2_byBundle 143 = .ok (.iadd, 1) := dk_96 (dk_at dksX2_byBundle_6 5 rfl rfl)
theorem dX2_byBundle_144 : decode cX2_byBundle 144 = .ok (.iaload, 1) := dk_46 (dk_at dksX2_byBundle_6 6 rfl rfl)
theorem dX2_byBundle_145 : decode cX2_byBundle 145 = .ok (.if_icmp .ne 15, 3) := dk_160 0 15 (dk_at dksX2_byBundle_6 7 rfl rfl)
theorem dX2_byBundle_148 : decode cX2_byBundle 148 = .ok (.iload 4, 2) := dk_21 4 (dk_at dksX2_byBundle_6 10 rfl rfl)
theorem dX2_byBundle_150 : decode cX2_byBundle 150 = .ok (.iconst (-1), 1) := dk_2 (dk_at dksX2_byBundle_6 12 rfl rfl)
theorem dX2_byBundle_151 : decode cX2_byBundle 151 = .ok (.if_icmp .eq 5, 3) := dk_159 0 5 (dk_at dksX2_byBundle_6 13 rfl rfl)
theorem dX2_byBundle_154 : decode cX2_byBundle 154 = .ok (.iconst (-1), 1) := dk_2 (dk_at dksX2_byBundle_6 16 rfl rfl)
theorem dX2_byBundle_155 : decode cX2_byBundle 155 = .ok (.ireturn, 1) := dk_172 (dk_at dksX2_byBundle_6 17 rfl rfl)
theorem dX2_byBundle_156 : decode cX2_byBundle 156 = .ok (.iload 5, 2) := dk_21 5 (dk_at dksX2_byBundle_6 18 rfl rfl)
theorem dX2_byBundle_158 : decode cX2_byBundle 158 = .ok (.istore 4, 2) := dk_54 4 (dk_at dksX2_byBundle_6 20 rfl rfl)
theorem dX2_byBundle_160 : decode cX2_byBundle 160 = .ok (.iinc 5 1, 3) := dk_132 5 1 (dk_at dksX2_byBundle_7 0 rfl rfl)
theorem dX2_byBundle_163 : decode cX2_byBundle 163 = .ok (.goto (-59), 3) := dk_167 255 197 (dk_at dksX2_byBundle_7 3 rfl rfl)
theorem dX2_byBundle_166 : decode cX2_byBundle 166 = .ok (.iload 4, 2) := dk_21 4 (dk_at dksX2_byBundle_7 6 rfl rfl)
theorem dX2_byBundle_168 : decode cX2_byBundle 168 = .ok (.ireturn, 1) := dk_172 (dk_at dksX2_byBundle_7 8 rfl rfl)
abbrev cX2_digitsOf : ByteArray := prog_14_method_18_code
def yX2_digitsOf : MethodName := ⟨RX2, "digitsOf", "(I)I"⟩
def dkwX2_digitsOf_1 : List UInt8 := [172]
abbrev dktX2_digitsOf_1 : List UInt8 := dkwX2_digitsOf_1 ++ []
def dkwX2_digitsOf_0 : List UInt8 := [3, 60, 3, 61, 28, 8, 162, 0, 17, 27, 26, 28, 184, 0, 58, 96, 60, 132, 2, 1, 167, 255, 240, 27]
abbrev dktX2_digitsOf_0 : List UInt8 := dkwX2_digitsOf_0 ++ dktX2_digitsOf_1
theorem dksX2_digitsOf_0 : cX2_digitsOf.data.toList.drop 0 = dktX2_digitsOf_0 := by decide +kernel
theorem dksX2_digitsOf_1 : cX2_digitsOf.data.toList.drop 24 = dktX2_digitsOf_1 := dk_seg dksX2_digitsOf_0 24 rfl rfl
theorem dX2_digitsOf_0 : decode cX2_digitsOf 0 = .ok (.iconst 0, 1) := dk_3 (dk_at dksX2_digitsOf_0 0 rfl rfl)
theorem dX2_digitsOf_1 : decode cX2_digitsOf 1 = .ok (.istore_n 1, 1) := dk_60 (dk_at dksX2_digitsOf_0 1 rfl rfl)
theorem dX2_digitsOf_2 : decode cX2_digitsOf 2 = .ok (.iconst 0, 1) := dk_3 (dk_at dksX2_digitsOf_0 2 rfl rfl)
theorem dX2_digitsOf_3 : decode cX2_digitsOf 3 = .ok (.istore_n 2, 1) := dk_61 (dk_at dksX2_digitsOf_0 3 rfl rfl)
theorem dX2_digitsOf_4 : decode cX2_digitsOf 4 = .ok (.iload_n 2, 1) := dk_28 (dk_at dksX2_digitsOf_0 4 rfl rfl)
theorem dX2_digitsOf_5 : decode cX2_digitsOf 5 = .ok (.iconst 5, 1) := dk_8 (dk_at dksX2_digitsOf_0 5 rfl rfl)
theorem dX2_digitsOf_6 : decode cX2_digitsOf 6 = .ok (.if_icmp .ge 17, 3) := dk_162 0 17 (dk_at dksX2_digitsOf_0 6 rfl rfl)
theorem dX2_digitsOf_9 : decode cX2_digitsOf 9 = .ok (.iload_n 1, 1) := dk_27 (dk_at dksX2_digitsOf_0 9 rfl rfl)
theorem dX2_digitsOf_10 : decode cX2_digitsOf 10 = .ok (.iload_n 0, 1) := dk_26 (dk_at dksX2_digitsOf_0 10 rfl rfl)
theorem dX2_digitsOf_11 : decode cX2_digitsOf 11 = .ok (.iload_n 2, 1) := dk_28 (dk_at dksX2_digitsOf_0 11 rfl rfl)
theorem dX2_digitsOf_12 : decode cX2_digitsOf 12 = .ok (.invokestatic 58, 3) := dk_184 0 58 (dk_at dksX2_digitsOf_0 12 rfl rfl)
theorem dX2_digitsOf_15 : decode cX2_digitsOf 15 = .ok (.iadd, 1) := dk_96 (dk_at dksX2_digitsOf_0 15 rfl rfl)
theorem dX2_digitsOf_16 : decode cX2_digitsOf 16 = .ok (.istore_n 1, 1) := dk_60 (dk_at dksX2_digitsOf_0 16 rfl rfl)
theorem dX2_digitsOf_17 : decode cX2_digitsOf 17 = .ok (.iinc 2 1, 3) := dk_132 2 1 (dk_at dksX2_digitsOf_0 17 rfl rfl)
theorem dX2_digitsOf_20 : decode cX2_digitsOf 20 = .ok (.goto (-16), 3) := dk_167 255 240 (dk_at dksX2_digitsOf_0 20 rfl rfl)
theorem dX2_digitsOf_23 : decode cX2_digitsOf 23 = .ok (.iload_n 1, 1) := dk_27 (dk_at dksX2_digitsOf_0 23 rfl rfl)
theorem dX2_digitsOf_24 : decode cX2_digitsOf 24 = .ok (.ireturn, 1) := dk_172 (dk_at dksX2_digitsOf_1 0 rfl rfl)
abbrev cX2_digitOf : ByteArray := prog_14_method_16_code
def yX2_digitOf : MethodName := ⟨RX2, "digitOf", "(II)I"⟩
def dkwX2_digitOf_1 : List UInt8 := [172]
abbrev dktX2_digitOf_1 : List UInt8 := dkwX2_digitOf_1 ++ []
def dkwX2_digitOf_0 : List UInt8 := [26, 61, 27, 62, 29, 7, 162, 0, 14, 28, 16, 10, 108, 61, 132, 3, 1, 167, 255, 243, 28, 16, 10, 112]
abbrev dktX2_digitOf_0 : List UInt8 := dkwX2_digitOf_0 ++ dktX2_digitOf_1
theorem dksX2_digitOf_0 : cX2_digitOf.data.toList.drop 0 = dktX2_digitOf_0 := by decide +kernel
theorem dksX2_digitOf_1 : cX2_digitOf.data.toList.drop 24 = dktX2_digitOf_1 := dk_seg dksX2_digitOf_0 24 rfl rfl
theorem dX2_digitOf_0 : decode cX2_digitOf 0 = .ok (.iload_n 0, 1) := dk_26 (dk_at dksX2_digitOf_0 0 rfl rfl)
theorem dX2_digitOf_1 : decode cX2_digitOf 1 = .ok (.istore_n 2, 1) := dk_61 (dk_at dksX2_digitOf_0 1 rfl rfl)
theorem dX2_digitOf_2 : decode cX2_digitOf 2 = .ok (.iload_n 1, 1) := dk_27 (dk_at dksX2_digitOf_0 2 rfl rfl)
theorem dX2_digitOf_3 : decode cX2_digitOf 3 = .ok (.istore_n 3, 1) := dk_62 (dk_at dksX2_digitOf_0 3 rfl rfl)
theorem dX2_digitOf_4 : decode cX2_digitOf 4 = .ok (.iload_n 3, 1) := dk_29 (dk_at dksX2_digitOf_0 4 rfl rfl)
theorem dX2_digitOf_5 : decode cX2_digitOf 5 = .ok (.iconst 4, 1) := dk_7 (dk_at dksX2_digitOf_0 5 rfl rfl)
theorem dX2_digitOf_6 : decode cX2_digitOf 6 = .ok (.if_icmp .ge 14, 3) := dk_162 0 14 (dk_at dksX2_digitOf_0 6 rfl rfl)
theorem dX2_digitOf_9 : decode cX2_digitOf 9 = .ok (.iload_n 2, 1) := dk_28 (dk_at dksX2_digitOf_0 9 rfl rfl)
theorem dX2_digitOf_10 : decode cX2_digitOf 10 = .ok (.bipush 10, 2) := dk_16 10 (dk_at dksX2_digitOf_0 10 rfl rfl)
theorem dX2_digitOf_12 : decode cX2_digitOf 12 = .ok (.idiv, 1) := dk_108 (dk_at dksX2_digitOf_0 12 rfl rfl)
theorem dX2_digitOf_13 : decode cX2_digitOf 13 = .ok (.istore_n 2, 1) := dk_61 (dk_at dksX2_digitOf_0 13 rfl rfl)
theorem dX2_digitOf_14 : decode cX2_digitOf 14 = .ok (.iinc 3 1, 3) := dk_132 3 1 (dk_at dksX2_digitOf_0 14 rfl rfl)
theorem dX2_digitOf_17 : decode cX2_digitOf 17 = .ok (.goto (-13), 3) := dk_167 255 243 (dk_at dksX2_digitOf_0 17 rfl rfl)
theorem dX2_digitOf_20 : decode cX2_digitOf 20 = .ok (.iload_n 2, 1) := dk_28 (dk_at dksX2_digitOf_0 20 rfl rfl)
theorem dX2_digitOf_21 : decode cX2_digitOf 21 = .ok (.bipush 10, 2) := dk_16 10 (dk_at dksX2_digitOf_0 21 rfl rfl)
theorem dX2_digitOf_23 : decode cX2_digitOf 23 = .ok (.irem, 1) := dk_112 (dk_at dksX2_digitOf_0 23 rfl rfl)
theorem dX2_digitOf_24 : decode cX2_digitOf 24 = .ok (.ireturn, 1) := dk_172 (dk_at dksX2_digitOf_1 0 rfl rfl)
abbrev cX2_nearTowns : ByteArray := prog_14_method_25_code
def yX2_nearTowns : MethodName := ⟨RX2, "nearTowns", "(I)I"⟩
def dkwX2_nearTowns_1 : List UInt8 := [46, 163, 0, 7, 4, 167, 0, 4, 3, 184, 0, 86, 96, 61, 132, 3, 1, 167, 255, 219, 28, 172]
abbrev dktX2_nearTowns_1 : List UInt8 := dkwX2_nearTowns_1 ++ []
def dkwX2_nearTowns_0 : List UInt8 := [3, 61, 3, 62, 29, 42, 182, 0, 90, 162, 0, 35, 28, 42, 27, 29, 182, 0, 94, 42, 180, 0, 13, 3]
abbrev dktX2_nearTowns_0 : List UInt8 := dkwX2_nearTowns_0 ++ dktX2_nearTowns_1
theorem dksX2_nearTowns_0 : cX2_nearTowns.data.toList.drop 0 = dktX2_nearTowns_0 := by decide +kernel
theorem dksX2_nearTowns_1 : cX2_nearTowns.data.toList.drop 24 = dktX2_nearTowns_1 := dk_seg dksX2_nearTowns_0 24 rfl rfl
theorem dX2_nearTowns_0 : decode cX2_nearTowns 0 = .ok (.iconst 0, 1) := dk_3 (dk_at dksX2_nearTowns_0 0 rfl rfl)
theorem dX2_nearTowns_1 : decode cX2_nearTowns 1 = .ok (.istore_n 2, 1) := dk_61 (dk_at dksX2_nearTowns_0 1 rfl rfl)
theorem dX2_nearTowns_2 : decode cX2_nearTowns 2 = .ok (.iconst 0, 1) := dk_3 (dk_at dksX2_nearTowns_0 2 rfl rfl)
theorem dX2_nearTowns_3 : decode cX2_nearTowns 3 = .ok (.istore_n 3, 1) := dk_62 (dk_at dksX2_nearTowns_0 3 rfl rfl)
theorem dX2_nearTowns_4 : decode cX2_nearTowns 4 = .ok (.iload_n 3, 1) := dk_29 (dk_at dksX2_nearTowns_0 4 rfl rfl)
theorem dX2_nearTowns_5 : decode cX2_nearTowns 5 = .ok (.aload_n 0, 1) := dk_42 (dk_at dksX2_nearTowns_0 5 rfl rfl)
theorem dX2_nearTowns_6 : decode cX2_nearTowns 6 = .ok (.invokevirtual 90, 3) := dk_182 0 90 (dk_at dksX2_nearTowns_0 6 rfl rfl)
theorem dX2_nearTowns_9 : decode cX2_nearTowns 9 = .ok (.if_icmp .ge 35, 3) := dk_162 0 35 (dk_at dksX2_nearTowns_0 9 rfl rfl)
theorem dX2_nearTowns_12 : decode cX2_nearTowns 12 = .ok (.iload_n 2, 1) := dk_28 (dk_at dksX2_nearTowns_0 12 rfl rfl)
theorem dX2_nearTowns_13 : decode cX2_nearTowns 13 = .ok (.aload_n 0, 1) := dk_42 (dk_at dksX2_nearTowns_0 13 rfl rfl)
theorem dX2_nearTowns_14 : decode cX2_nearTowns 14 = .ok (.iload_n 1, 1) := dk_27 (dk_at dksX2_nearTowns_0 14 rfl rfl)
theorem dX2_nearTowns_15 : decode cX2_nearTowns 15 = .ok (.iload_n 3, 1) := dk_29 (dk_at dksX2_nearTowns_0 15 rfl rfl)
theorem dX2_nearTowns_16 : decode cX2_nearTowns 16 = .ok (.invokevirtual 94, 3) := dk_182 0 94 (dk_at dksX2_nearTowns_0 16 rfl rfl)
theorem dX2_nearTowns_19 : decode cX2_nearTowns 19 = .ok (.aload_n 0, 1) := dk_42 (dk_at dksX2_nearTowns_0 19 rfl rfl)
theorem dX2_nearTowns_20 : decode cX2_nearTowns 20 = .ok (.getfield 13, 3) := dk_180 0 13 (dk_at dksX2_nearTowns_0 20 rfl rfl)
theorem dX2_nearTowns_23 : decode cX2_nearTowns 23 = .ok (.iconst 0, 1) := dk_3 (dk_at dksX2_nearTowns_0 23 rfl rfl)
theorem dX2_nearTowns_24 : decode cX2_nearTowns 24 = .ok (.iaload, 1) := dk_46 (dk_at dksX2_nearTowns_1 0 rfl rfl)
theorem dX2_nearTowns_25 : decode cX2_nearTowns 25 = .ok (.if_icmp .gt 7, 3) := dk_163 0 7 (dk_at dksX2_nearTowns_1 1 rfl rfl)
theorem dX2_nearTowns_28 : decode cX2_nearTowns 28 = .ok (.iconst 1, 1) := dk_4 (dk_at dksX2_nearTowns_1 4 rfl rfl)
theorem dX2_nearTowns_29 : decode cX2_nearTowns 29 = .ok (.goto 4, 3) := dk_167 0 4 (dk_at dksX2_nearTowns_1 5 rfl rfl)
theorem dX2_nearTowns_32 : decode cX2_nearTowns 32 = .ok (.iconst 0, 1) := dk_3 (dk_at dksX2_nearTowns_1 8 rfl rfl)
theorem dX2_nearTowns_33 : decode cX2_nearTowns 33 = .ok (.invokestatic 86, 3) := dk_184 0 86 (dk_at dksX2_nearTowns_1 9 rfl rfl)
theorem dX2_nearTowns_36 : decode cX2_nearTowns 36 = .ok (.iadd, 1) := dk_96 (dk_at dksX2_nearTowns_1 12 rfl rfl)
theorem dX2_nearTowns_37 : decode cX2_nearTowns 37 = .ok (.istore_n 2, 1) := dk_61 (dk_at dksX2_nearTowns_1 13 rfl rfl)
theorem dX2_nearTowns_38 : decode cX2_nearTowns 38 = .ok (.iinc 3 1, 3) := dk_132 3 1 (dk_at dksX2_nearTowns_1 14 rfl rfl)
theorem dX2_nearTowns_41 : decode cX2_nearTowns 41 = .ok (.goto (-37), 3) := dk_167 255 219 (dk_at dksX2_nearTowns_1 17 rfl rfl)
theorem dX2_nearTowns_44 : decode cX2_nearTowns 44 = .ok (.iload_n 2, 1) := dk_28 (dk_at dksX2_nearTowns_1 20 rfl rfl)
theorem dX2_nearTowns_45 : decode cX2_nearTowns 45 = .ok (.ireturn, 1) := dk_172 (dk_at dksX2_nearTowns_1 21 rfl rfl)
abbrev cX2_back : ByteArray := prog_14_method_9_code
def yX2_back : MethodName := ⟨RX2, "back", "(I)I"⟩
def dkwX2_back_0 : List UInt8 := [42, 180, 0, 16, 17, 10, 170, 42, 180, 0, 13, 3, 184, 0, 47, 27, 172]
abbrev dktX2_back_0 : List UInt8 := dkwX2_back_0 ++ []
theorem dksX2_back_0 : cX2_back.data.toList.drop 0 = dktX2_back_0 := by decide +kernel
theorem dX2_back_0 : decode cX2_back 0 = .ok (.aload_n 0, 1) := dk_42 (dk_at dksX2_back_0 0 rfl rfl)
theorem dX2_back_1 : decode cX2_back 1 = .ok (.getfield 16, 3) := dk_180 0 16 (dk_at dksX2_back_0 1 rfl rfl)
theorem dX2_back_4 : decode cX2_back 4 = .ok (.sipush 2730, 3) := dk_17 10 170 (dk_at dksX2_back_0 4 rfl rfl)
theorem dX2_back_7 : decode cX2_back 7 = .ok (.aload_n 0, 1) := dk_42 (dk_at dksX2_back_0 7 rfl rfl)
theorem dX2_back_8 : decode cX2_back 8 = .ok (.getfield 13, 3) := dk_180 0 13 (dk_at dksX2_back_0 8 rfl rfl)
theorem dX2_back_11 : decode cX2_back 11 = .ok (.iconst 0, 1) := dk_3 (dk_at dksX2_back_0 11 rfl rfl)
theorem dX2_back_12 : decode cX2_back 12 = .ok (.invokestatic 47, 3) := dk_184 0 47 (dk_at dksX2_back_0 12 rfl rfl)
theorem dX2_back_15 : decode cX2_back 15 = .ok (.iload_n 1, 1) := dk_27 (dk_at dksX2_back_0 15 rfl rfl)
theorem dX2_back_16 : decode cX2_back 16 = .ok (.ireturn, 1) := dk_172 (dk_at dksX2_back_0 16 rfl rfl)
abbrev cX2_count : ByteArray := prog_14_method_60_code
def yX2_count : MethodName := ⟨RX2, "count", "(I)I"⟩
def dkwX2_count_5 : List UInt8 := [182, 1, 16, 172, 42, 16, 9, 182, 1, 16, 172, 42, 180, 0, 13, 4, 46, 172]
abbrev dktX2_count_5 : List UInt8 := dkwX2_count_5 ++ []
def dkwX2_count_4 : List UInt8 := [42, 27, 7, 100, 182, 1, 10, 172, 42, 2, 182, 1, 13, 172, 42, 16, 21, 182, 1, 16, 172, 42, 16, 15]
abbrev dktX2_count_4 : List UInt8 := dkwX2_count_4 ++ dktX2_count_5
def dkwX2_count_3 : List UInt8 := [42, 182, 0, 90, 172, 42, 182, 0, 109, 172, 42, 180, 0, 13, 3, 46, 172, 42, 180, 0, 7, 3, 46, 172]
abbrev dktX2_count_3 : List UInt8 := dkwX2_count_3 ++ dktX2_count_4
def dkwX2_count_2 : List UInt8 := [170, 0, 0, 0, 116, 0, 0, 0, 0, 0, 0, 0, 10, 0, 0, 0, 57, 0, 0, 0, 62, 0, 0, 0, 67, 0, 0, 0, 74, 0, 0, 0, 81, 0, 0, 0, 81, 0, 0, 0, 81, 0, 0, 0, 89, 0, 0, 0, 95, 0, 0, 0, 102, 0, 0, 0, 109]
abbrev dktX2_count_2 : List UInt8 := dkwX2_count_2 ++ dktX2_count_3
def dkwX2_count_1 : List UInt8 := [3, 5, 182, 0, 43, 153, 0, 5, 3, 172, 27]
abbrev dktX2_count_1 : List UInt8 := dkwX2_count_1 ++ dktX2_count_2
def dkwX2_count_0 : List UInt8 := [42, 182, 1, 4, 154, 0, 28, 42, 27, 133, 9, 20, 1, 8, 184, 0, 195, 154, 0, 7, 4, 167, 0, 4]
abbrev dktX2_count_0 : List UInt8 := dkwX2_count_0 ++ dktX2_count_1
theorem dksX2_count_0 : cX2_count.data.toList.drop 0 = dktX2_count_0 := by decide +kernel
theorem dksX2_count_1 : cX2_count.data.toList.drop 24 = dktX2_count_1 := dk_seg dksX2_count_0 24 rfl rfl
theorem dksX2_count_2 : cX2_count.data.toList.drop 35 = dktX2_count_2 := dk_seg dksX2_count_1 11 rfl rfl
theorem dksX2_count_3 : cX2_count.data.toList.drop 92 = dktX2_count_3 := dk_seg dksX2_count_2 57 rfl rfl
theorem dksX2_count_4 : cX2_count.data.toList.drop 116 = dktX2_count_4 := dk_seg dksX2_count_3 24 rfl rfl
theorem dksX2_count_5 : cX2_count.data.toList.drop 140 = dktX2_count_5 := dk_seg dksX2_count_4 24 rfl rfl
theorem dX2_count_0 : decode cX2_count 0 = .ok (.aload_n 0, 1) := dk_42 (dk_at dksX2_count_0 0 rfl rfl)
theorem dX2_count_1 : decode cX2_count 1 = .ok (.invokevirtual 260, 3) := dk_182 1 4 (dk_at dksX2_count_0 1 rfl rfl)
theorem dX2_count_4 : decode cX2_count 4 = .ok (.ifCond .ne 28, 3) := dk_154 0 28 (dk_at dksX2_count_0 4 rfl rfl)
theorem dX2_count_7 : decode cX2_count 7 = .ok (.aload_n 0, 1) := dk_42 (dk_at dksX2_count_0 7 rfl rfl)
theorem dX2_count_8 : decode cX2_count 8 = .ok (.iload_n 1, 1) := dk_27 (dk_at dksX2_count_0 8 rfl rfl)
theorem dX2_count_9 : decode cX2_count 9 = .ok (.i2l, 1) := dk_133 (dk_at dksX2_count_0 9 rfl rfl)
theorem dX2_count_10 : decode cX2_count 10 = .ok (.lconst 0, 1) := dk_9 (dk_at dksX2_count_0 10 rfl rfl)
theorem dX2_count_11 : decode cX2_count 11 = .ok (.ldc2_w 264, 3) := dk_20 1 8 (dk_at dksX2_count_0 11 rfl rfl)
theorem dX2_count_14 : decode cX2_count 14 = .ok (.invokestatic 195, 3) := dk_184 0 195 (dk_at dksX2_count_0 14 rfl rfl)
theorem dX2_count_17 : decode cX2_count 17 = .ok (.ifCond .ne 7, 3) := dk_154 0 7 (dk_at dksX2_count_0 17 rfl rfl)
theorem dX2_count_20 : decode cX2_count 20 = .ok (.iconst 1, 1) := dk_4 (dk_at dksX2_count_0 20 rfl rfl)
theorem dX2_count_21 : decode cX2_count 21 = .ok (.goto 4, 3) := dk_167 0 4 (dk_at dksX2_count_0 21 rfl rfl)
theorem dX2_count_24 : decode cX2_count 24 = .ok (.iconst 0, 1) := dk_3 (dk_at dksX2_count_1 0 rfl rfl)
theorem dX2_count_25 : decode cX2_count 25 = .ok (.iconst 2, 1) := dk_5 (dk_at dksX2_count_1 1 rfl rfl)
theorem dX2_count_26 : decode cX2_count 26 = .ok (.invokevirtual 43, 3) := dk_182 0 43 (dk_at dksX2_count_1 2 rfl rfl)
theorem dX2_count_29 : decode cX2_count 29 = .ok (.ifCond .eq 5, 3) := dk_153 0 5 (dk_at dksX2_count_1 5 rfl rfl)
theorem dX2_count_32 : decode cX2_count 32 = .ok (.iconst 0, 1) := dk_3 (dk_at dksX2_count_1 8 rfl rfl)
theorem dX2_count_33 : decode cX2_count 33 = .ok (.ireturn, 1) := dk_172 (dk_at dksX2_count_1 9 rfl rfl)
theorem dX2_count_34 : decode cX2_count 34 = .ok (.iload_n 1, 1) := dk_27 (dk_at dksX2_count_1 10 rfl rfl)
theorem dX2_count_35 : decode cX2_count 35 = .ok (.tableswitch 116 0 10 #[57, 62, 67, 74, 81, 81, 81, 89, 95, 102, 109], 57) := by decide +kernel
theorem dX2_count_92 : decode cX2_count 92 = .ok (.aload_n 0, 1) := dk_42 (dk_at dksX2_count_3 0 rfl rfl)
theorem dX2_count_93 : decode cX2_count 93 = .ok (.invokevirtual 90, 3) := dk_182 0 90 (dk_at dksX2_count_3 1 rfl rfl)
theorem dX2_count_96 : decode cX2_count 96 = .ok (.ireturn, 1) := dk_172 (dk_at dksX2_count_3 4 rfl rfl)
theorem dX2_count_97 : decode cX2_count 97 = .ok (.aload_n 0, 1) := dk_42 (dk_at dksX2_count_3 5 rfl rfl)
theorem dX2_count_98 : decode cX2_count 98 = .ok (.invokevirtual 109, 3) := dk_182 0 109 (dk_at dksX2_count_3 6 rfl rfl)
theorem dX2_count_101 : decode cX2_count 101 = .ok (.ireturn, 1) := dk_172 (dk_at dksX2_count_3 9 rfl rfl)
theorem dX2_count_102 : decode cX2_count 102 = .ok (.aload_n 0, 1) := dk_42 (dk_at dksX2_count_3 10 rfl rfl)
theorem dX2_count_103 : decode cX2_count 103 = .ok (.getfield 13, 3) := dk_180 0 13 (dk_at dksX2_count_3 11 rfl rfl)
theorem dX2_count_106 : decode cX2_count 106 = .ok (.iconst 0, 1) := dk_3 (dk_at dksX2_count_3 14 rfl rfl)
theorem dX2_count_107 : decode cX2_count 107 = .ok (.iaload, 1) := dk_46 (dk_at dksX2_count_3 15 rfl rfl)
theorem dX2_count_108 : decode cX2_count 108 = .ok (.ireturn, 1) := dk_172 (dk_at dksX2_count_3 16 rfl rfl)
theorem dX2_count_109 : decode cX2_count 109 = .ok (.aload_n 0, 1) := dk_42 (dk_at dksX2_count_3 17 rfl rfl)
theorem dX2_count_110 : decode cX2_count 110 = .ok (.getfield 7, 3) := dk_180 0 7 (dk_at dksX2_count_3 18 rfl rfl)
theorem dX2_count_113 : decode cX2_count 113 = .ok (.iconst 0, 1) := dk_3 (dk_at dksX2_count_3 21 rfl rfl)
theorem dX2_count_114 : decode cX2_count 114 = .ok (.iaload, 1) := dk_46 (dk_at dksX2_count_3 22 rfl rfl)
theorem dX2_count_115 : decode cX2_count 115 = .ok (.ireturn, 1) := dk_172 (dk_at dksX2_count_3 23 rfl rfl)
theorem dX2_count_116 : decode cX2_count 116 = .ok (.aload_n 0, 1) := dk_42 (dk_at dksX2_count_4 0 rfl rfl)
theorem dX2_count_117 : decode cX2_count 117 = .ok (.iload_n 1, 1) := dk_27 (dk_at dksX2_count_4 1 rfl rfl)
theorem dX2_count_118 : decode cX2_count 118 = .ok (.iconst 4, 1) := dk_7 (dk_at dksX2_count_4 2 rfl rfl)
theorem dX2_count_119 : decode cX2_count 119 = .ok (.isub, 1) := dk_100 (dk_at dksX2_count_4 3 rfl rfl)
theorem dX2_count_120 : decode cX2_count 120 = .ok (.invokevirtual 266, 3) := dk_182 1 10 (dk_at dksX2_count_4 4 rfl rfl)
theorem dX2_count_123 : decode cX2_count 123 = .ok (.ireturn, 1) := dk_172 (dk_at dksX2_count_4 7 rfl rfl)
theorem dX2_count_124 : decode cX2_count 124 = .ok (.aload_n 0, 1) := dk_42 (dk_at dksX2_count_4 8 rfl rfl)
theorem dX2_count_125 : decode cX2_count 125 = .ok (.iconst (-1), 1) := dk_2 (dk_at dksX2_count_4 9 rfl rfl)
theorem dX2_count_126 : decode cX2_count 126 = .ok (.invokevirtual 269, 3) := dk_182 1 13 (dk_at dksX2_count_4 10 rfl rfl)
theorem dX2_count_129 : decode cX2_count 129 = .ok (.ireturn, 1) := dk_172 (dk_at dksX2_count_4 13 rfl rfl)
theorem dX2_count_130 : decode cX2_count 130 = .ok (.aload_n 0, 1) := dk_42 (dk_at dksX2_count_4 14 rfl rfl)
theorem dX2_count_131 : decode cX2_count 131 = .ok (.bipush 21, 2) := dk_16 21 (dk_at dksX2_count_4 15 rfl rfl)
theorem dX2_count_133 : decode cX2_count 133 = .ok (.invokevirtual 272, 3) := dk_182 1 16 (dk_at dksX2_count_4 17 rfl rfl)
theorem dX2_count_136 : decode cX2_count 136 = .ok (.ireturn, 1) := dk_172 (dk_at dksX2_count_4 20 rfl rfl)
theorem dX2_count_137 : decode cX2_count 137 = .ok (.aload_n 0, 1) := dk_42 (dk_at dksX2_count_4 21 rfl rfl)
theorem dX2_count_138 : decode cX2_count 138 = .ok (.bipush 15, 2) := dk_16 15 (dk_at dksX2_count_4 22 rfl rfl)
theorem dX2_count_140 : decode cX2_count 140 = .ok (.invokevirtual 272, 3) := dk_182 1 16 (dk_at dksX2_count_5 0 rfl rfl)
theorem dX2_count_143 : decode cX2_count 143 = .ok (.ireturn, 1) := dk_172 (dk_at dksX2_count_5 3 rfl rfl)
theorem dX2_count_144 : decode cX2_count 144 = .ok (.aload_n 0, 1) := dk_42 (dk_at dksX2_count_5 4 rfl rfl)
theorem dX2_count_145 : decode cX2_count 145 = .ok (.bipush 9, 2) := dk_16 9 (dk_at dksX2_count_5 5 rfl rfl)
theorem dX2_count_147 : decode cX2_count 147 = .ok (.invokevirtual 272, 3) := dk_182 1 16 (dk_at dksX2_count_5 7 rfl rfl)
theorem dX2_count_150 : decode cX2_count 150 = .ok (.ireturn, 1) := dk_172 (dk_at dksX2_count_5 10 rfl rfl)
theorem dX2_count_151 : decode cX2_count 151 = .ok (.aload_n 0, 1) := dk_42 (dk_at dksX2_count_5 11 rfl rfl)
theorem dX2_count_152 : decode cX2_count 152 = .ok (.getfield 13, 3) := dk_180 0 13 (dk_at dksX2_count_5 12 rfl rfl)
theorem dX2_count_155 : decode cX2_count 155 = .ok (.iconst 1, 1) := dk_4 (dk_at dksX2_count_5 15 rfl rfl)
theorem dX2_count_156 : decode cX2_count 156 = .ok (.iaload, 1) := dk_46 (dk_at dksX2_count_5 16 rfl rfl)
theorem dX2_count_157 : decode cX2_count 157 = .ok (.ireturn, 1) := dk_172 (dk_at dksX2_count_5 17 rfl rfl)
abbrev cX2_notLoaded : ByteArray := prog_14_method_6_code
def yX2_notLoaded : MethodName := ⟨RX2, "notLoaded", "()Z"⟩
def dkwX2_notLoaded_0 : List UInt8 := [42, 3, 181, 0, 36, 42, 42, 180, 0, 39, 154, 0, 7, 4, 167, 0, 4, 3, 4, 182, 0, 43, 172]
abbrev dktX2_notLoaded_0 : List UInt8 := dkwX2_notLoaded_0 ++ []
theorem dksX2_notLoaded_0 : cX2_notLoaded.data.toList.drop 0 = dktX2_notLoaded_0 := by decide +kernel
theorem dX2_notLoaded_0 : decode cX2_notLoaded 0 = .ok (.aload_n 0, 1) := dk_42 (dk_at dksX2_notLoaded_0 0 rfl rfl)
theorem dX2_notLoaded_1 : decode cX2_notLoaded 1 = .ok (.iconst 0, 1) := dk_3 (dk_at dksX2_notLoaded_0 1 rfl rfl)
theorem dX2_notLoaded_2 : decode cX2_notLoaded 2 = .ok (.putfield 36, 3) := dk_181 0 36 (dk_at dksX2_notLoaded_0 2 rfl rfl)
theorem dX2_notLoaded_5 : decode cX2_notLoaded 5 = .ok (.aload_n 0, 1) := dk_42 (dk_at dksX2_notLoaded_0 5 rfl rfl)
theorem dX2_notLoaded_6 : decode cX2_notLoaded 6 = .ok (.aload_n 0, 1) := dk_42 (dk_at dksX2_notLoaded_0 6 rfl rfl)
theorem dX2_notLoaded_7 : decode cX2_notLoaded 7 = .ok (.getfield 39, 3) := dk_180 0 39 (dk_at dksX2_notLoaded_0 7 rfl rfl)
theorem dX2_notLoaded_10 : decode cX2_notLoaded 10 = .ok (.ifCond .ne 7, 3) := dk_154 0 7 (dk_at dksX2_notLoaded_0 10 rfl rfl)
theorem dX2_notLoaded_13 : decode cX2_notLoaded 13 = .ok (.iconst 1, 1) := dk_4 (dk_at dksX2_notLoaded_0 13 rfl rfl)
theorem dX2_notLoaded_14 : decode cX2_notLoaded 14 = .ok (.goto 4, 3) := dk_167 0 4 (dk_at dksX2_notLoaded_0 14 rfl rfl)
theorem dX2_notLoaded_17 : decode cX2_notLoaded 17 = .ok (.iconst 0, 1) := dk_3 (dk_at dksX2_notLoaded_0 17 rfl rfl)
theorem dX2_notLoaded_18 : decode cX2_notLoaded 18 = .ok (.iconst 1, 1) := dk_4 (dk_at dksX2_notLoaded_0 18 rfl rfl)
theorem dX2_notLoaded_19 : decode cX2_notLoaded 19 = .ok (.invokevirtual 43, 3) := dk_182 0 43 (dk_at dksX2_notLoaded_0 19 rfl rfl)
theorem dX2_notLoaded_22 : decode cX2_notLoaded 22 = .ok (.ireturn, 1) := dk_172 (dk_at dksX2_notLoaded_0 22 rfl rfl)
abbrev cX2_statesOf : ByteArray := prog_14_method_35_code
def yX2_statesOf : MethodName := ⟨RX2, "statesOf", "(I)I"⟩
def dkwX2_statesOf_1 : List UInt8 := [4, 167, 0, 4, 3, 184, 0, 86, 96, 61, 132, 3, 1, 167, 255, 223, 28, 172]
abbrev dktX2_statesOf_1 : List UInt8 := dkwX2_statesOf_1 ++ []
def dkwX2_statesOf_0 : List UInt8 := [3, 61, 3, 62, 29, 42, 182, 0, 109, 162, 0, 31, 28, 42, 29, 16, 6, 182, 0, 74, 27, 160, 0, 7]
abbrev dktX2_statesOf_0 : List UInt8 := dkwX2_statesOf_0 ++ dktX2_statesOf_1
theorem dksX2_statesOf_0 : cX2_statesOf.data.toList.drop 0 = dktX2_statesOf_0 := by decide +kernel
theorem dksX2_statesOf_1 : cX2_statesOf.data.toList.drop 24 = dktX2_statesOf_1 := dk_seg dksX2_statesOf_0 24 rfl rfl
theorem dX2_statesOf_0 : decode cX2_statesOf 0 = .ok (.iconst 0, 1) := dk_3 (dk_at dksX2_statesOf_0 0 rfl rfl)
theorem dX2_statesOf_1 : decode cX2_statesOf 1 = .ok (.istore_n 2, 1) := dk_61 (dk_at dksX2_statesOf_0 1 rfl rfl)
theorem dX2_statesOf_2 : decode cX2_statesOf 2 = .ok (.iconst 0, 1) := dk_3 (dk_at dksX2_statesOf_0 2 rfl rfl)
theorem dX2_statesOf_3 : decode cX2_statesOf 3 = .ok (.istore_n 3, 1) := dk_62 (dk_at dksX2_statesOf_0 3 rfl rfl)
theorem dX2_statesOf_4 : decode cX2_statesOf 4 = .ok (.iload_n 3, 1) := dk_29 (dk_at dksX2_statesOf_0 4 rfl rfl)
theorem dX2_statesOf_5 : decode cX2_statesOf 5 = .ok (.aload_n 0, 1) := dk_42 (dk_at dksX2_statesOf_0 5 rfl rfl)
theorem dX2_statesOf_6 : decode cX2_statesOf 6 = .ok (.invokevirtual 109, 3) := dk_182 0 109 (dk_at dksX2_statesOf_0 6 rfl rfl)
theorem dX2_statesOf_9 : decode cX2_statesOf 9 = .ok (.if_icmp .ge 31, 3) := dk_162 0 31 (dk_at dksX2_statesOf_0 9 rfl rfl)
theorem dX2_statesOf_12 : decode cX2_statesOf 12 = .ok (.iload_n 2, 1) := dk_28 (dk_at dksX2_statesOf_0 12 rfl rfl)
theorem dX2_statesOf_13 : decode cX2_statesOf 13 = .ok (.aload_n 0, 1) := dk_42 (dk_at dksX2_statesOf_0 13 rfl rfl)
theorem dX2_statesOf_14 : decode cX2_statesOf 14 = .ok (.iload_n 3, 1) := dk_29 (dk_at dksX2_statesOf_0 14 rfl rfl)
theorem dX2_statesOf_15 : decode cX2_statesOf 15 = .ok (.bipush 6, 2) := dk_16 6 (dk_at dksX2_statesOf_0 15 rfl rfl)
theorem dX2_statesOf_17 : decode cX2_statesOf 17 = .ok (.invokevirtual 74, 3) := dk_182 0 74 (dk_at dksX2_statesOf_0 17 rfl rfl)
theorem dX2_statesOf_20 : decode cX2_statesOf 20 = .ok (.iload_n 1, 1) := dk_27 (dk_at dksX2_statesOf_0 20 rfl rfl)
theorem dX2_statesOf_21 : decode cX2_statesOf 21 = .ok (.if_icmp .ne 7, 3) := dk_160 0 7 (dk_at dksX2_statesOf_0 21 rfl rfl)
theorem dX2_statesOf_24 : decode cX2_statesOf 24 = .ok (.iconst 1, 1) := dk_4 (dk_at dksX2_statesOf_1 0 rfl rfl)
theorem dX2_statesOf_25 : decode cX2_statesOf 25 = .ok (.goto 4, 3) := dk_167 0 4 (dk_at dksX2_statesOf_1 1 rfl rfl)
theorem dX2_statesOf_28 : decode cX2_statesOf 28 = .ok (.iconst 0, 1) := dk_3 (dk_at dksX2_statesOf_1 4 rfl rfl)
theorem dX2_statesOf_29 : decode cX2_statesOf 29 = .ok (.invokestatic 86, 3) := dk_184 0 86 (dk_at dksX2_statesOf_1 5 rfl rfl)
theorem dX2_statesOf_32 : decode cX2_statesOf 32 = .ok (.iadd, 1) := dk_96 (dk_at dksX2_statesOf_1 8 rfl rfl)
theorem dX2_statesOf_33 : decode cX2_statesOf 33 = .ok (.istore_n 2, 1) := dk_61 (dk_at dksX2_statesOf_1 9 rfl rfl)
theorem dX2_statesOf_34 : decode cX2_statesOf 34 = .ok (.iinc 3 1, 3) := dk_132 3 1 (dk_at dksX2_statesOf_1 10 rfl rfl)
theorem dX2_statesOf_37 : decode cX2_statesOf 37 = .ok (.goto (-33), 3) := dk_167 255 223 (dk_at dksX2_statesOf_1 13 rfl rfl)
theorem dX2_statesOf_40 : decode cX2_statesOf 40 = .ok (.iload_n 2, 1) := dk_28 (dk_at dksX2_statesOf_1 16 rfl rfl)
theorem dX2_statesOf_41 : decode cX2_statesOf 41 = .ok (.ireturn, 1) := dk_172 (dk_at dksX2_statesOf_1 17 rfl rfl)
abbrev cX2_waitingFor : ByteArray := prog_14_method_59_code
def yX2_waitingFor : MethodName := ⟨RX2, "waitingFor", "(I)I"⟩
def dkwX2_waitingFor_2 : List UInt8 := [160, 0, 7, 4, 167, 0, 4, 3, 184, 0, 86, 96, 61, 132, 3, 1, 167, 255, 196, 28, 172]
abbrev dktX2_waitingFor_2 : List UInt8 := dkwX2_waitingFor_2 ++ []
def dkwX2_waitingFor_1 : List UInt8 := [182, 0, 121, 167, 0, 4, 2, 54, 4, 28, 21, 4, 2, 159, 0, 18, 27, 2, 159, 0, 9, 21, 4, 27]
abbrev dktX2_waitingFor_1 : List UInt8 := dkwX2_waitingFor_1 ++ dktX2_waitingFor_2
def dkwX2_waitingFor_0 : List UInt8 := [3, 61, 3, 62, 29, 42, 182, 0, 109, 162, 0, 58, 42, 29, 16, 6, 182, 0, 74, 154, 0, 11, 42, 29]
abbrev dktX2_waitingFor_0 : List UInt8 := dkwX2_waitingFor_0 ++ dktX2_waitingFor_1
theorem dksX2_waitingFor_0 : cX2_waitingFor.data.toList.drop 0 = dktX2_waitingFor_0 := by decide +kernel
theorem dksX2_waitingFor_1 : cX2_waitingFor.data.toList.drop 24 = dktX2_waitingFor_1 := dk_seg dksX2_waitingFor_0 24 rfl rfl
theorem dksX2_waitingFor_2 : cX2_waitingFor.data.toList.drop 48 = dktX2_waitingFor_2 := dk_seg dksX2_waitingFor_1 24 rfl rfl
theorem dX2_waitingFor_0 : decode cX2_waitingFor 0 = .ok (.iconst 0, 1) := dk_3 (dk_at dksX2_waitingFor_0 0 rfl rfl)
theorem dX2_waitingFor_1 : decode cX2_waitingFor 1 = .ok (.istore_n 2, 1) := dk_61 (dk_at dksX2_waitingFor_0 1 rfl rfl)
theorem dX2_waitingFor_2 : decode cX2_waitingFor 2 = .ok (.iconst 0, 1) := dk_3 (dk_at dksX2_waitingFor_0 2 rfl rfl)
theorem dX2_waitingFor_3 : decode cX2_waitingFor 3 = .ok (.istore_n 3, 1) := dk_62 (dk_at dksX2_waitingFor_0 3 rfl rfl)
theorem dX2_waitingFor_4 : decode cX2_waitingFor 4 = .ok (.iload_n 3, 1) := dk_29 (dk_at dksX2_waitingFor_0 4 rfl rfl)
theorem dX2_waitingFor_5 : decode cX2_waitingFor 5 = .ok (.aload_n 0, 1) := dk_42 (dk_at dksX2_waitingFor_0 5 rfl rfl)
theorem dX2_waitingFor_6 : decode cX2_waitingFor 6 = .ok (.invokevirtual 109, 3) := dk_182 0 109 (dk_at dksX2_waitingFor_0 6 rfl rfl)
theorem dX2_waitingFor_9 : decode cX2_waitingFor 9 = .ok (.if_icmp .ge 58, 3) := dk_162 0 58 (dk_at dksX2_waitingFor_0 9 rfl rfl)
theorem dX2_waitingFor_12 : decode cX2_waitingFor 12 = .ok (.aload_n 0, 1) := dk_42 (dk_at dksX2_waitingFor_0 12 rfl rfl)
theorem dX2_waitingFor_13 : decode cX2_waitingFor 13 = .ok (.iload_n 3, 1) := dk_29 (dk_at dksX2_waitingFor_0 13 rfl rfl)
theorem dX2_waitingFor_14 : decode cX2_waitingFor 14 = .ok (.bipush 6, 2) := dk_16 6 (dk_at dksX2_waitingFor_0 14 rfl rfl)
theorem dX2_waitingFor_16 : decode cX2_waitingFor 16 = .ok (.invokevirtual 74, 3) := dk_182 0 74 (dk_at dksX2_waitingFor_0 16 rfl rfl)
theorem dX2_waitingFor_19 : decode cX2_waitingFor 19 = .ok (.ifCond .ne 11, 3) := dk_154 0 11 (dk_at dksX2_waitingFor_0 19 rfl rfl)
theorem dX2_waitingFor_22 : decode cX2_waitingFor 22 = .ok (.aload_n 0, 1) := dk_42 (dk_at dksX2_waitingFor_0 22 rfl rfl)
theorem dX2_waitingFor_23 : decode cX2_waitingFor 23 = .ok (.iload_n 3, 1) := dk_29 (dk_at dksX2_waitingFor_0 23 rfl rfl)
theorem dX2_waitingFor_24 : decode cX2_waitingFor 24 = .ok (.invokevirtual 121, 3) := dk_182 0 121 (dk_at dksX2_waitingFor_1 0 rfl rfl)
theorem dX2_waitingFor_27 : decode cX2_waitingFor 27 = .ok (.goto 4, 3) := dk_167 0 4 (dk_at dksX2_waitingFor_1 3 rfl rfl)
theorem dX2_waitingFor_30 : decode cX2_waitingFor 30 = .ok (.iconst (-1), 1) := dk_2 (dk_at dksX2_waitingFor_1 6 rfl rfl)
theorem dX2_waitingFor_31 : decode cX2_waitingFor 31 = .ok (.istore 4, 2) := dk_54 4 (dk_at dksX2_waitingFor_1 7 rfl rfl)
theorem dX2_waitingFor_33 : decode cX2_waitingFor 33 = .ok (.iload_n 2, 1) := dk_28 (dk_at dksX2_waitingFor_1 9 rfl rfl)
theorem dX2_waitingFor_34 : decode cX2_waitingFor 34 = .ok (.iload 4, 2) := dk_21 4 (dk_at dksX2_waitingFor_1 10 rfl rfl)
theorem dX2_waitingFor_36 : decode cX2_waitingFor 36 = .ok (.iconst (-1), 1) := dk_2 (dk_at dksX2_waitingFor_1 12 rfl rfl)
theorem dX2_waitingFor_37 : decode cX2_waitingFor 37 = .ok (.if_icmp .eq 18, 3) := dk_159 0 18 (dk_at dksX2_waitingFor_1 13 rfl rfl)
theorem dX2_waitingFor_40 : decode cX2_waitingFor 40 = .ok (.iload_n 1, 1) := dk_27 (dk_at dksX2_waitingFor_1 16 rfl rfl)
theorem dX2_waitingFor_41 : decode cX2_waitingFor 41 = .ok (.iconst (-1), 1) := dk_2 (dk_at dksX2_waitingFor_1 17 rfl rfl)
theorem dX2_waitingFor_42 : decode cX2_waitingFor 42 = .ok (.if_icmp .eq 9, 3) := dk_159 0 9 (dk_at dksX2_waitingFor_1 18 rfl rfl)
theorem dX2_waitingFor_45 : decode cX2_waitingFor 45 = .ok (.iload 4, 2) := dk_21 4 (dk_at dksX2_waitingFor_1 21 rfl rfl)
theorem dX2_waitingFor_47 : decode cX2_waitingFor 47 = .ok (.iload_n 1, 1) := dk_27 (dk_at dksX2_waitingFor_1 23 rfl rfl)
theorem dX2_waitingFor_48 : decode cX2_waitingFor 48 = .ok (.if_icmp .ne 7, 3) := dk_160 0 7 (dk_at dksX2_waitingFor_2 0 rfl rfl)
theorem dX2_waitingFor_51 : decode cX2_waitingFor 51 = .ok (.iconst 1, 1) := dk_4 (dk_at dksX2_waitingFor_2 3 rfl rfl)
theorem dX2_waitingFor_52 : decode cX2_waitingFor 52 = .ok (.goto 4, 3) := dk_167 0 4 (dk_at dksX2_waitingFor_2 4 rfl rfl)
theorem dX2_waitingFor_55 : decode cX2_waitingFor 55 = .ok (.iconst 0, 1) := dk_3 (dk_at dksX2_waitingFor_2 7 rfl rfl)
theorem dX2_waitingFor_56 : decode cX2_waitingFor 56 = .ok (.invokestatic 86, 3) := dk_184 0 86 (dk_at dksX2_waitingFor_2 8 rfl rfl)
theorem dX2_waitingFor_59 : decode cX2_waitingFor 59 = .ok (.iadd, 1) := dk_96 (dk_at dksX2_waitingFor_2 11 rfl rfl)
theorem dX2_waitingFor_60 : decode cX2_waitingFor 60 = .ok (.istore_n 2, 1) := dk_61 (dk_at dksX2_waitingFor_2 12 rfl rfl)
theorem dX2_waitingFor_61 : decode cX2_waitingFor 61 = .ok (.iinc 3 1, 3) := dk_132 3 1 (dk_at dksX2_waitingFor_2 13 rfl rfl)
theorem dX2_waitingFor_64 : decode cX2_waitingFor 64 = .ok (.goto (-60), 3) := dk_167 255 196 (dk_at dksX2_waitingFor_2 16 rfl rfl)
theorem dX2_waitingFor_67 : decode cX2_waitingFor 67 = .ok (.iload_n 2, 1) := dk_28 (dk_at dksX2_waitingFor_2 19 rfl rfl)
theorem dX2_waitingFor_68 : decode cX2_waitingFor 68 = .ok (.ireturn, 1) := dk_172 (dk_at dksX2_waitingFor_2 20 rfl rfl)
abbrev cX2_sumOf : ByteArray := prog_14_method_58_code
def yX2_sumOf : MethodName := ⟨RX2, "sumOf", "(I)I"⟩
def dkwX2_sumOf_1 : List UInt8 := [167, 255, 236, 28, 172]
abbrev dktX2_sumOf_1 : List UInt8 := dkwX2_sumOf_1 ++ []
def dkwX2_sumOf_0 : List UInt8 := [3, 61, 3, 62, 29, 16, 6, 162, 0, 20, 28, 42, 180, 0, 13, 27, 29, 96, 46, 96, 61, 132, 3, 1]
abbrev dktX2_sumOf_0 : List UInt8 := dkwX2_sumOf_0 ++ dktX2_sumOf_1
theorem dksX2_sumOf_0 : cX2_sumOf.data.toList.drop 0 = dktX2_sumOf_0 := by decide +kernel
theorem dksX2_sumOf_1 : cX2_sumOf.data.toList.drop 24 = dktX2_sumOf_1 := dk_seg dksX2_sumOf_0 24 rfl rfl
theorem dX2_sumOf_0 : decode cX2_sumOf 0 = .ok (.iconst 0, 1) := dk_3 (dk_at dksX2_sumOf_0 0 rfl rfl)
theorem dX2_sumOf_1 : decode cX2_sumOf 1 = .ok (.istore_n 2, 1) := dk_61 (dk_at dksX2_sumOf_0 1 rfl rfl)
theorem dX2_sumOf_2 : decode cX2_sumOf 2 = .ok (.iconst 0, 1) := dk_3 (dk_at dksX2_sumOf_0 2 rfl rfl)
theorem dX2_sumOf_3 : decode cX2_sumOf 3 = .ok (.istore_n 3, 1) := dk_62 (dk_at dksX2_sumOf_0 3 rfl rfl)
theorem dX2_sumOf_4 : decode cX2_sumOf 4 = .ok (.iload_n 3, 1) := dk_29 (dk_at dksX2_sumOf_0 4 rfl rfl)
theorem dX2_sumOf_5 : decode cX2_sumOf 5 = .ok (.bipush 6, 2) := dk_16 6 (dk_at dksX2_sumOf_0 5 rfl rfl)
theorem dX2_sumOf_7 : decode cX2_sumOf 7 = .ok (.if_icmp .ge 20, 3) := dk_162 0 20 (dk_at dksX2_sumOf_0 7 rfl rfl)
theorem dX2_sumOf_10 : decode cX2_sumOf 10 = .ok (.iload_n 2, 1) := dk_28 (dk_at dksX2_sumOf_0 10 rfl rfl)
theorem dX2_sumOf_11 : decode cX2_sumOf 11 = .ok (.aload_n 0, 1) := dk_42 (dk_at dksX2_sumOf_0 11 rfl rfl)
theorem dX2_sumOf_12 : decode cX2_sumOf 12 = .ok (.getfield 13, 3) := dk_180 0 13 (dk_at dksX2_sumOf_0 12 rfl rfl)
theorem dX2_sumOf_15 : decode cX2_sumOf 15 = .ok (.iload_n 1, 1) := dk_27 (dk_at dksX2_sumOf_0 15 rfl rfl)
theorem dX2_sumOf_16 : decode cX2_sumOf 16 = .ok (.iload_n 3, 1) := dk_29 (dk_at dksX2_sumOf_0 16 rfl rfl)
theorem dX2_sumOf_17 : decode cX2_sumOf 17 = .ok (.iadd, 1) := dk_96 (dk_at dksX2_sumOf_0 17 rfl rfl)
theorem dX2_sumOf_18 : decode cX2_sumOf 18 = .ok (.iaload, 1) := dk_46 (dk_at dksX2_sumOf_0 18 rfl rfl)
theorem dX2_sumOf_19 : decode cX2_sumOf 19 = .ok (.iadd, 1) := dk_96 (dk_at dksX2_sumOf_0 19 rfl rfl)
theorem dX2_sumOf_20 : decode cX2_sumOf 20 = .ok (.istore_n 2, 1) := dk_61 (dk_at dksX2_sumOf_0 20 rfl rfl)
theorem dX2_sumOf_21 : decode cX2_sumOf 21 = .ok (.iinc 3 1, 3) := dk_132 3 1 (dk_at dksX2_sumOf_0 21 rfl rfl)
theorem dX2_sumOf_24 : decode cX2_sumOf 24 = .ok (.goto (-20), 3) := dk_167 255 236 (dk_at dksX2_sumOf_1 0 rfl rfl)
theorem dX2_sumOf_27 : decode cX2_sumOf 27 = .ok (.iload_n 2, 1) := dk_28 (dk_at dksX2_sumOf_1 3 rfl rfl)
theorem dX2_sumOf_28 : decode cX2_sumOf 28 = .ok (.ireturn, 1) := dk_172 (dk_at dksX2_sumOf_1 4 rfl rfl)
abbrev cX2_town : ByteArray := prog_14_method_65_code
def yX2_town : MethodName := ⟨RX2, "town", "(II)I"⟩
def dkwX2_town_5 : List UInt8 := [172, 42, 27, 182, 0, 80, 184, 0, 115, 172]
abbrev dktX2_town_5 : List UInt8 := dkwX2_town_5 ++ []
def dkwX2_town_4 : List UInt8 := [27, 96, 46, 184, 0, 51, 172, 42, 27, 182, 1, 27, 172, 42, 27, 182, 1, 13, 172, 42, 27, 182, 1, 30]
abbrev dktX2_town_4 : List UInt8 := dkwX2_town_4 ++ dktX2_town_5
def dkwX2_town_3 : List UInt8 := [42, 180, 0, 7, 5, 27, 96, 46, 172, 42, 180, 0, 7, 16, 14, 27, 96, 46, 172, 42, 180, 0, 7, 5]
abbrev dktX2_town_3 : List UInt8 := dkwX2_town_3 ++ dktX2_town_4
def dkwX2_town_2 : List UInt8 := [170, 0, 0, 0, 0, 0, 0, 89, 0, 0, 0, 0, 0, 0, 0, 5, 0, 0, 0, 40, 0, 0, 0, 49, 0, 0, 0, 59, 0, 0, 0, 71, 0, 0, 0, 77, 0, 0, 0, 83]
abbrev dktX2_town_2 : List UInt8 := dkwX2_town_2 ++ dktX2_town_3
def dkwX2_town_1 : List UInt8 := [167, 0, 4, 3, 6, 182, 0, 43, 153, 0, 5, 3, 172, 28]
abbrev dktX2_town_1 : List UInt8 := dkwX2_town_1 ++ dktX2_town_2
def dkwX2_town_0 : List UInt8 := [42, 27, 182, 1, 22, 154, 0, 28, 42, 28, 133, 9, 20, 1, 25, 184, 0, 195, 154, 0, 7, 4]
abbrev dktX2_town_0 : List UInt8 := dkwX2_town_0 ++ dktX2_town_1
theorem dksX2_town_0 : cX2_town.data.toList.drop 0 = dktX2_town_0 := by decide +kernel
theorem dksX2_town_1 : cX2_town.data.toList.drop 22 = dktX2_town_1 := dk_seg dksX2_town_0 22 rfl rfl
theorem dksX2_town_2 : cX2_town.data.toList.drop 36 = dktX2_town_2 := dk_seg dksX2_town_1 14 rfl rfl
theorem dksX2_town_3 : cX2_town.data.toList.drop 76 = dktX2_town_3 := dk_seg dksX2_town_2 40 rfl rfl
theorem dksX2_town_4 : cX2_town.data.toList.drop 100 = dktX2_town_4 := dk_seg dksX2_town_3 24 rfl rfl
theorem dksX2_town_5 : cX2_town.data.toList.drop 124 = dktX2_town_5 := dk_seg dksX2_town_4 24 rfl rfl
theorem dX2_town_0 : decode cX2_town 0 = .ok (.aload_n 0, 1) := dk_42 (dk_at dksX2_town_0 0 rfl rfl)
theorem dX2_town_1 : decode cX2_town 1 = .ok (.iload_n 1, 1) := dk_27 (dk_at dksX2_town_0 1 rfl rfl)
theorem dX2_town_2 : decode cX2_town 2 = .ok (.invokevirtual 278, 3) := dk_182 1 22 (dk_at dksX2_town_0 2 rfl rfl)
theorem dX2_town_5 : decode cX2_town 5 = .ok (.ifCond .ne 28, 3) := dk_154 0 28 (dk_at dksX2_town_0 5 rfl rfl)
theorem dX2_town_8 : decode cX2_town 8 = .ok (.aload_n 0, 1) := dk_42 (dk_at dksX2_town_0 8 rfl rfl)
theorem dX2_town_9 : decode cX2_town 9 = .ok (.iload_n 2, 1) := dk_28 (dk_at dksX2_town_0 9 rfl rfl)
theorem dX2_town_10 : decode cX2_town 10 = .ok (.i2l, 1) := dk_133 (dk_at dksX2_town_0 10 rfl rfl)
theorem dX2_town_11 : decode cX2_town 11 = .ok (.lconst 0, 1) := dk_9 (dk_at dksX2_town_0 11 rfl rfl)
theorem dX2_town_12 : decode cX2_town 12 = .ok (.ldc2_w 281, 3) := dk_20 1 25 (dk_at dksX2_town_0 12 rfl rfl)
theorem dX2_town_15 : decode cX2_town 15 = .ok (.invokestatic 195, 3) := dk_184 0 195 (dk_at dksX2_town_0 15 rfl rfl)
theorem dX2_town_18 : decode cX2_town 18 = .ok (.ifCond .ne 7, 3) := dk_154 0 7 (dk_at dksX2_town_0 18 rfl rfl)
theorem dX2_town_21 : decode cX2_town 21 = .ok (.iconst 1, 1) := dk_4 (dk_at dksX2_town_0 21 rfl rfl)
theorem dX2_town_22 : decode cX2_town 22 = .ok (.goto 4, 3) := dk_167 0 4 (dk_at dksX2_town_1 0 rfl rfl)
theorem dX2_town_25 : decode cX2_town 25 = .ok (.iconst 0, 1) := dk_3 (dk_at dksX2_town_1 3 rfl rfl)
theorem dX2_town_26 : decode cX2_town 26 = .ok (.iconst 3, 1) := dk_6 (dk_at dksX2_town_1 4 rfl rfl)
theorem dX2_town_27 : decode cX2_town 27 = .ok (.invokevirtual 43, 3) := dk_182 0 43 (dk_at dksX2_town_1 5 rfl rfl)
theorem dX2_town_30 : decode cX2_town 30 = .ok (.ifCond .eq 5, 3) := dk_153 0 5 (dk_at dksX2_town_1 8 rfl rfl)
theorem dX2_town_33 : decode cX2_town 33 = .ok (.iconst 0, 1) := dk_3 (dk_at dksX2_town_1 11 rfl rfl)
theorem dX2_town_34 : decode cX2_town 34 = .ok (.ireturn, 1) := dk_172 (dk_at dksX2_town_1 12 rfl rfl)
theorem dX2_town_35 : decode cX2_town 35 = .ok (.iload_n 2, 1) := dk_28 (dk_at dksX2_town_1 13 rfl rfl)
theorem dX2_town_36 : decode cX2_town 36 = .ok (.tableswitch 89 0 5 #[40, 49, 59, 71, 77, 83], 40) := by decide +kernel
theorem dX2_town_76 : decode cX2_town 76 = .ok (.aload_n 0, 1) := dk_42 (dk_at dksX2_town_3 0 rfl rfl)
theorem dX2_town_77 : decode cX2_town 77 = .ok (.getfield 7, 3) := dk_180 0 7 (dk_at dksX2_town_3 1 rfl rfl)
theorem dX2_town_80 : decode cX2_town 80 = .ok (.iconst 2, 1) := dk_5 (dk_at dksX2_town_3 4 rfl rfl)
theorem dX2_town_81 : decode cX2_town 81 = .ok (.iload_n 1, 1) := dk_27 (dk_at dksX2_town_3 5 rfl rfl)
theorem dX2_town_82 : decode cX2_town 82 = .ok (.iadd, 1) := dk_96 (dk_at dksX2_town_3 6 rfl rfl)
theorem dX2_town_83 : decode cX2_town 83 = .ok (.iaload, 1) := dk_46 (dk_at dksX2_town_3 7 rfl rfl)
theorem dX2_town_84 : decode cX2_town 84 = .ok (.ireturn, 1) := dk_172 (dk_at dksX2_town_3 8 rfl rfl)
theorem dX2_town_85 : decode cX2_town 85 = .ok (.aload_n 0, 1) := dk_42 (dk_at dksX2_town_3 9 rfl rfl)
theorem dX2_town_86 : decode cX2_town 86 = .ok (.getfield 7, 3) := dk_180 0 7 (dk_at dksX2_town_3 10 rfl rfl)
theorem dX2_town_89 : decode cX2_town 89 = .ok (.bipush 14, 2) := dk_16 14 (dk_at dksX2_town_3 13 rfl rfl)
theorem dX2_town_91 : decode cX2_town 91 = .ok (.iload_n 1, 1) := dk_27 (dk_at dksX2_town_3 15 rfl rfl)
theorem dX2_town_92 : decode cX2_town 92 = .ok (.iadd, 1) := dk_96 (dk_at dksX2_town_3 16 rfl rfl)
theorem dX2_town_93 : decode cX2_town 93 = .ok (.iaload, 1) := dk_46 (dk_at dksX2_town_3 17 rfl rfl)
theorem dX2_town_94 : decode cX2_town 94 = .ok (.ireturn, 1) := dk_172 (dk_at dksX2_town_3 18 rfl rfl)
theorem dX2_town_95 : decode cX2_town 95 = .ok (.aload_n 0, 1) := dk_42 (dk_at dksX2_town_3 19 rfl rfl)
theorem dX2_town_96 : decode cX2_town 96 = .ok (.getfield 7, 3) := dk_180 0 7 (dk_at dksX2_town_3 20 rfl rfl)
theorem dX2_town_99 : decode cX2_town 99 = .ok (.iconst 2, 1) := dk_5 (dk_at dksX2_town_3 23 rfl rfl)
theorem dX2_town_100 : decode cX2_town 100 = .ok (.iload_n 1, 1) := dk_27 (dk_at dksX2_town_4 0 rfl rfl)
theorem dX2_town_101 : decode cX2_town 101 = .ok (.iadd, 1) := dk_96 (dk_at dksX2_town_4 1 rfl rfl)
theorem dX2_town_102 : decode cX2_town 102 = .ok (.iaload, 1) := dk_46 (dk_at dksX2_town_4 2 rfl rfl)
theorem dX2_town_103 : decode cX2_town 103 = .ok (.invokestatic 51, 3) := dk_184 0 51 (dk_at dksX2_town_4 3 rfl rfl)
theorem dX2_town_106 : decode cX2_town 106 = .ok (.ireturn, 1) := dk_172 (dk_at dksX2_town_4 6 rfl rfl)
theorem dX2_town_107 : decode cX2_town 107 = .ok (.aload_n 0, 1) := dk_42 (dk_at dksX2_town_4 7 rfl rfl)
theorem dX2_town_108 : decode cX2_town 108 = .ok (.iload_n 1, 1) := dk_27 (dk_at dksX2_town_4 8 rfl rfl)
theorem dX2_town_109 : decode cX2_town 109 = .ok (.invokevirtual 283, 3) := dk_182 1 27 (dk_at dksX2_town_4 9 rfl rfl)
theorem dX2_town_112 : decode cX2_town 112 = .ok (.ireturn, 1) := dk_172 (dk_at dksX2_town_4 12 rfl rfl)
theorem dX2_town_113 : decode cX2_town 113 = .ok (.aload_n 0, 1) := dk_42 (dk_at dksX2_town_4 13 rfl rfl)
theorem dX2_town_114 : decode cX2_town 114 = .ok (.iload_n 1, 1) := dk_27 (dk_at dksX2_town_4 14 rfl rfl)
theorem dX2_town_115 : decode cX2_town 115 = .ok (.invokevirtual 269, 3) := dk_182 1 13 (dk_at dksX2_town_4 15 rfl rfl)
theorem dX2_town_118 : decode cX2_town 118 = .ok (.ireturn, 1) := dk_172 (dk_at dksX2_town_4 18 rfl rfl)
theorem dX2_town_119 : decode cX2_town 119 = .ok (.aload_n 0, 1) := dk_42 (dk_at dksX2_town_4 19 rfl rfl)
theorem dX2_town_120 : decode cX2_town 120 = .ok (.iload_n 1, 1) := dk_27 (dk_at dksX2_town_4 20 rfl rfl)
theorem dX2_town_121 : decode cX2_town 121 = .ok (.invokevirtual 286, 3) := dk_182 1 30 (dk_at dksX2_town_4 21 rfl rfl)
theorem dX2_town_124 : decode cX2_town 124 = .ok (.ireturn, 1) := dk_172 (dk_at dksX2_town_5 0 rfl rfl)
theorem dX2_town_125 : decode cX2_town 125 = .ok (.aload_n 0, 1) := dk_42 (dk_at dksX2_town_5 1 rfl rfl)
theorem dX2_town_126 : decode cX2_town 126 = .ok (.iload_n 1, 1) := dk_27 (dk_at dksX2_town_5 2 rfl rfl)
theorem dX2_town_127 : decode cX2_town 127 = .ok (.invokevirtual 80, 3) := dk_182 0 80 (dk_at dksX2_town_5 3 rfl rfl)
theorem dX2_town_130 : decode cX2_town 130 = .ok (.invokestatic 115, 3) := dk_184 0 115 (dk_at dksX2_town_5 6 rfl rfl)
theorem dX2_town_133 : decode cX2_town 133 = .ok (.ireturn, 1) := dk_172 (dk_at dksX2_town_5 9 rfl rfl)
abbrev cX2_noTown : ByteArray := prog_14_method_62_code
def yX2_noTown : MethodName := ⟨RX2, "noTown", "(I)Z"⟩
def dkwX2_noTown_1 : List UInt8 := [182, 0, 43, 153, 0, 7, 4, 167, 0, 4, 3, 172]
abbrev dktX2_noTown_1 : List UInt8 := dkwX2_noTown_1 ++ []
def dkwX2_noTown_0 : List UInt8 := [42, 182, 1, 4, 154, 0, 24, 42, 42, 27, 182, 1, 19, 154, 0, 7, 4, 167, 0, 4, 3, 5]
abbrev dktX2_noTown_0 : List UInt8 := dkwX2_noTown_0 ++ dktX2_noTown_1
theorem dksX2_noTown_0 : cX2_noTown.data.toList.drop 0 = dktX2_noTown_0 := by decide +kernel
theorem dksX2_noTown_1 : cX2_noTown.data.toList.drop 22 = dktX2_noTown_1 := dk_seg dksX2_noTown_0 22 rfl rfl
theorem dX2_noTown_0 : decode cX2_noTown 0 = .ok (.aload_n 0, 1) := dk_42 (dk_at dksX2_noTown_0 0 rfl rfl)
theorem dX2_noTown_1 : decode cX2_noTown 1 = .ok (.invokevirtual 260, 3) := dk_182 1 4 (dk_at dksX2_noTown_0 1 rfl rfl)
theorem dX2_noTown_4 : decode cX2_noTown 4 = .ok (.ifCond .ne 24, 3) := dk_154 0 24 (dk_at dksX2_noTown_0 4 rfl rfl)
theorem dX2_noTown_7 : decode cX2_noTown 7 = .ok (.aload_n 0, 1) := dk_42 (dk_at dksX2_noTown_0 7 rfl rfl)
theorem dX2_noTown_8 : decode cX2_noTown 8 = .ok (.aload_n 0, 1) := dk_42 (dk_at dksX2_noTown_0 8 rfl rfl)
theorem dX2_noTown_9 : decode cX2_noTown 9 = .ok (.iload_n 1, 1) := dk_27 (dk_at dksX2_noTown_0 9 rfl rfl)
theorem dX2_noTown_10 : decode cX2_noTown 10 = .ok (.invokevirtual 275, 3) := dk_182 1 19 (dk_at dksX2_noTown_0 10 rfl rfl)
theorem dX2_noTown_13 : decode cX2_noTown 13 = .ok (.ifCond .ne 7, 3) := dk_154 0 7 (dk_at dksX2_noTown_0 13 rfl rfl)
theorem dX2_noTown_16 : decode cX2_noTown 16 = .ok (.iconst 1, 1) := dk_4 (dk_at dksX2_noTown_0 16 rfl rfl)
theorem dX2_noTown_17 : decode cX2_noTown 17 = .ok (.goto 4, 3) := dk_167 0 4 (dk_at dksX2_noTown_0 17 rfl rfl)
theorem dX2_noTown_20 : decode cX2_noTown 20 = .ok (.iconst 0, 1) := dk_3 (dk_at dksX2_noTown_0 20 rfl rfl)
theorem dX2_noTown_21 : decode cX2_noTown 21 = .ok (.iconst 2, 1) := dk_5 (dk_at dksX2_noTown_0 21 rfl rfl)
theorem dX2_noTown_22 : decode cX2_noTown 22 = .ok (.invokevirtual 43, 3) := dk_182 0 43 (dk_at dksX2_noTown_1 0 rfl rfl)
theorem dX2_noTown_25 : decode cX2_noTown 25 = .ok (.ifCond .eq 7, 3) := dk_153 0 7 (dk_at dksX2_noTown_1 3 rfl rfl)
theorem dX2_noTown_28 : decode cX2_noTown 28 = .ok (.iconst 1, 1) := dk_4 (dk_at dksX2_noTown_1 6 rfl rfl)
theorem dX2_noTown_29 : decode cX2_noTown 29 = .ok (.goto 4, 3) := dk_167 0 4 (dk_at dksX2_noTown_1 7 rfl rfl)
theorem dX2_noTown_32 : decode cX2_noTown 32 = .ok (.iconst 0, 1) := dk_3 (dk_at dksX2_noTown_1 10 rfl rfl)
theorem dX2_noTown_33 : decode cX2_noTown 33 = .ok (.ireturn, 1) := dk_172 (dk_at dksX2_noTown_1 11 rfl rfl)
abbrev cX2_isTown : ByteArray := prog_14_method_61_code
def yX2_isTown : MethodName := ⟨RX2, "isTown", "(I)Z"⟩
def dkwX2_isTown_0 : List UInt8 := [27, 133, 9, 42, 182, 0, 90, 4, 100, 133, 184, 0, 195, 172]
abbrev dktX2_isTown_0 : List UInt8 := dkwX2_isTown_0 ++ []
theorem dksX2_isTown_0 : cX2_isTown.data.toList.drop 0 = dktX2_isTown_0 := by decide +kernel
theorem dX2_isTown_0 : decode cX2_isTown 0 = .ok (.iload_n 1, 1) := dk_27 (dk_at dksX2_isTown_0 0 rfl rfl)
theorem dX2_isTown_1 : decode cX2_isTown 1 = .ok (.i2l, 1) := dk_133 (dk_at dksX2_isTown_0 1 rfl rfl)
theorem dX2_isTown_2 : decode cX2_isTown 2 = .ok (.lconst 0, 1) := dk_9 (dk_at dksX2_isTown_0 2 rfl rfl)
theorem dX2_isTown_3 : decode cX2_isTown 3 = .ok (.aload_n 0, 1) := dk_42 (dk_at dksX2_isTown_0 3 rfl rfl)
theorem dX2_isTown_4 : decode cX2_isTown 4 = .ok (.invokevirtual 90, 3) := dk_182 0 90 (dk_at dksX2_isTown_0 4 rfl rfl)
theorem dX2_isTown_7 : decode cX2_isTown 7 = .ok (.iconst 1, 1) := dk_4 (dk_at dksX2_isTown_0 7 rfl rfl)
theorem dX2_isTown_8 : decode cX2_isTown 8 = .ok (.isub, 1) := dk_100 (dk_at dksX2_isTown_0 8 rfl rfl)
theorem dX2_isTown_9 : decode cX2_isTown 9 = .ok (.i2l, 1) := dk_133 (dk_at dksX2_isTown_0 9 rfl rfl)
theorem dX2_isTown_10 : decode cX2_isTown 10 = .ok (.invokestatic 195, 3) := dk_184 0 195 (dk_at dksX2_isTown_0 10 rfl rfl)
theorem dX2_isTown_13 : decode cX2_isTown 13 = .ok (.ireturn, 1) := dk_172 (dk_at dksX2_isTown_0 13 rfl rfl)
abbrev cX2_sortedFor : ByteArray := prog_14_method_63_code
def yX2_sortedFor : MethodName := ⟨RX2, "sortedFor", "(I)I"⟩
def dkwX2_sortedFor_2 : List UInt8 := [167, 255, 212, 28, 172]
abbrev dktX2_sortedFor_2 : List UInt8 := dkwX2_sortedFor_2 ++ []
def dkwX2_sortedFor_1 : List UInt8 := [42, 29, 16, 9, 182, 0, 74, 27, 160, 0, 7, 4, 167, 0, 4, 3, 184, 0, 86, 96, 61, 132, 3, 1]
abbrev dktX2_sortedFor_1 : List UInt8 := dkwX2_sortedFor_1 ++ dktX2_sortedFor_2
def dkwX2_sortedFor_0 : List UInt8 := [3, 61, 3, 62, 29, 42, 182, 0, 109, 162, 0, 42, 28, 42, 29, 16, 6, 182, 0, 74, 4, 160, 0, 18]
abbrev dktX2_sortedFor_0 : List UInt8 := dkwX2_sortedFor_0 ++ dktX2_sortedFor_1
theorem dksX2_sortedFor_0 : cX2_sortedFor.data.toList.drop 0 = dktX2_sortedFor_0 := by decide +kernel
theorem dksX2_sortedFor_1 : cX2_sortedFor.data.toList.drop 24 = dktX2_sortedFor_1 := dk_seg dksX2_sortedFor_0 24 rfl rfl
theorem dksX2_sortedFor_2 : cX2_sortedFor.data.toList.drop 48 = dktX2_sortedFor_2 := dk_seg dksX2_sortedFor_1 24 rfl rfl
theorem dX2_sortedFor_0 : decode cX2_sortedFor 0 = .ok (.iconst 0, 1) := dk_3 (dk_at dksX2_sortedFor_0 0 rfl rfl)
theorem dX2_sortedFor_1 : decode cX2_sortedFor 1 = .ok (.istore_n 2, 1) := dk_61 (dk_at dksX2_sortedFor_0 1 rfl rfl)
theorem dX2_sortedFor_2 : decode cX2_sortedFor 2 = .ok (.iconst 0, 1) := dk_3 (dk_at dksX2_sortedFor_0 2 rfl rfl)
theorem dX2_sortedFor_3 : decode cX2_sortedFor 3 = .ok (.istore_n 3, 1) := dk_62 (dk_at dksX2_sortedFor_0 3 rfl rfl)
theorem dX2_sortedFor_4 : decode cX2_sortedFor 4 = .ok (.iload_n 3, 1) := dk_29 (dk_at dksX2_sortedFor_0 4 rfl rfl)
theorem dX2_sortedFor_5 : decode cX2_sortedFor 5 = .ok (.aload_n 0, 1) := dk_42 (dk_at dksX2_sortedFor_0 5 rfl rfl)
theorem dX2_sortedFor_6 : decode cX2_sortedFor 6 = .ok (.invokevirtual 109, 3) := dk_182 0 109 (dk_at dksX2_sortedFor_0 6 rfl rfl)
theorem dX2_sortedFor_9 : decode cX2_sortedFor 9 = .ok (.if_icmp .ge 42, 3) := dk_162 0 42 (dk_at dksX2_sortedFor_0 9 rfl rfl)
theorem dX2_sortedFor_12 : decode cX2_sortedFor 12 = .ok (.iload_n 2, 1) := dk_28 (dk_at dksX2_sortedFor_0 12 rfl rfl)
theorem dX2_sortedFor_13 : decode cX2_sortedFor 13 = .ok (.aload_n 0, 1) := dk_42 (dk_at dksX2_sortedFor_0 13 rfl rfl)
theorem dX2_sortedFor_14 : decode cX2_sortedFor 14 = .ok (.iload_n 3, 1) := dk_29 (dk_at dksX2_sortedFor_0 14 rfl rfl)
theorem dX2_sortedFor_15 : decode cX2_sortedFor 15 = .ok (.bipush 6, 2) := dk_16 6 (dk_at dksX2_sortedFor_0 15 rfl rfl)
theorem dX2_sortedFor_17 : decode cX2_sortedFor 17 = .ok (.invokevirtual 74, 3) := dk_182 0 74 (dk_at dksX2_sortedFor_0 17 rfl rfl)
theorem dX2_sortedFor_20 : decode cX2_sortedFor 20 = .ok (.iconst 1, 1) := dk_4 (dk_at dksX2_sortedFor_0 20 rfl rfl)
theorem dX2_sortedFor_21 : decode cX2_sortedFor 21 = .ok (.if_icmp .ne 18, 3) := dk_160 0 18 (dk_at dksX2_sortedFor_0 21 rfl rfl)
theorem dX2_sortedFor_24 : decode cX2_sortedFor 24 = .ok (.aload_n 0, 1) := dk_42 (dk_at dksX2_sortedFor_1 0 rfl rfl)
theorem dX2_sortedFor_25 : decode cX2_sortedFor 25 = .ok (.iload_n 3, 1) := dk_29 (dk_at dksX2_sortedFor_1 1 rfl rfl)
theorem dX2_sortedFor_26 : decode cX2_sortedFor 26 = .ok (.bipush 9, 2) := dk_16 9 (dk_at dksX2_sortedFor_1 2 rfl rfl)
theorem dX2_sortedFor_28 : decode cX2_sortedFor 28 = .ok (.invokevirtual 74, 3) := dk_182 0 74 (dk_at dksX2_sortedFor_1 4 rfl rfl)
theorem dX2_sortedFor_31 : decode cX2_sortedFor 31 = .ok (.iload_n 1, 1) := dk_27 (dk_at dksX2_sortedFor_1 7 rfl rfl)
theorem dX2_sortedFor_32 : decode cX2_sortedFor 32 = .ok (.if_icmp .ne 7, 3) := dk_160 0 7 (dk_at dksX2_sortedFor_1 8 rfl rfl)
theorem dX2_sortedFor_35 : decode cX2_sortedFor 35 = .ok (.iconst 1, 1) := dk_4 (dk_at dksX2_sortedFor_1 11 rfl rfl)
theorem dX2_sortedFor_36 : decode cX2_sortedFor 36 = .ok (.goto 4, 3) := dk_167 0 4 (dk_at dksX2_sortedFor_1 12 rfl rfl)
theorem dX2_sortedFor_39 : decode cX2_sortedFor 39 = .ok (.iconst 0, 1) := dk_3 (dk_at dksX2_sortedFor_1 15 rfl rfl)
theorem dX2_sortedFor_40 : decode cX2_sortedFor 40 = .ok (.invokestatic 86, 3) := dk_184 0 86 (dk_at dksX2_sortedFor_1 16 rfl rfl)
theorem dX2_sortedFor_43 : decode cX2_sortedFor 43 = .ok (.iadd, 1) := dk_96 (dk_at dksX2_sortedFor_1 19 rfl rfl)
theorem dX2_sortedFor_44 : decode cX2_sortedFor 44 = .ok (.istore_n 2, 1) := dk_61 (dk_at dksX2_sortedFor_1 20 rfl rfl)
theorem dX2_sortedFor_45 : decode cX2_sortedFor 45 = .ok (.iinc 3 1, 3) := dk_132 3 1 (dk_at dksX2_sortedFor_1 21 rfl rfl)
theorem dX2_sortedFor_48 : decode cX2_sortedFor 48 = .ok (.goto (-44), 3) := dk_167 255 212 (dk_at dksX2_sortedFor_2 0 rfl rfl)
theorem dX2_sortedFor_51 : decode cX2_sortedFor 51 = .ok (.iload_n 2, 1) := dk_28 (dk_at dksX2_sortedFor_2 3 rfl rfl)
theorem dX2_sortedFor_52 : decode cX2_sortedFor 52 = .ok (.ireturn, 1) := dk_172 (dk_at dksX2_sortedFor_2 4 rfl rfl)
abbrev cX2_nearLetters : ByteArray := prog_14_method_64_code
def yX2_nearLetters : MethodName := ⟨RX2, "nearLetters", "(I)I"⟩
def dkwX2_nearLetters_2 : List UInt8 := [132, 3, 1, 167, 255, 209, 28, 172]
abbrev dktX2_nearLetters_2 : List UInt8 := dkwX2_nearLetters_2 ++ []
def dkwX2_nearLetters_1 : List UInt8 := [29, 27, 182, 0, 94, 42, 180, 0, 13, 3, 46, 163, 0, 7, 4, 167, 0, 4, 3, 184, 0, 86, 96, 61]
abbrev dktX2_nearLetters_1 : List UInt8 := dkwX2_nearLetters_1 ++ dktX2_nearLetters_2
def dkwX2_nearLetters_0 : List UInt8 := [3, 61, 3, 62, 29, 42, 182, 0, 109, 162, 0, 45, 28, 42, 29, 16, 6, 182, 0, 74, 154, 0, 22, 42]
abbrev dktX2_nearLetters_0 : List UInt8 := dkwX2_nearLetters_0 ++ dktX2_nearLetters_1
theorem dksX2_nearLetters_0 : cX2_nearLetters.data.toList.drop 0 = dktX2_nearLetters_0 := by decide +kernel
theorem dksX2_nearLetters_1 : cX2_nearLetters.data.toList.drop 24 = dktX2_nearLetters_1 := dk_seg dksX2_nearLetters_0 24 rfl rfl
theorem dksX2_nearLetters_2 : cX2_nearLetters.data.toList.drop 48 = dktX2_nearLetters_2 := dk_seg dksX2_nearLetters_1 24 rfl rfl
theorem dX2_nearLetters_0 : decode cX2_nearLetters 0 = .ok (.iconst 0, 1) := dk_3 (dk_at dksX2_nearLetters_0 0 rfl rfl)
theorem dX2_nearLetters_1 : decode cX2_nearLetters 1 = .ok (.istore_n 2, 1) := dk_61 (dk_at dksX2_nearLetters_0 1 rfl rfl)
theorem dX2_nearLetters_2 : decode cX2_nearLetters 2 = .ok (.iconst 0, 1) := dk_3 (dk_at dksX2_nearLetters_0 2 rfl rfl)
theorem dX2_nearLetters_3 : decode cX2_nearLetters 3 = .ok (.istore_n 3, 1) := dk_62 (dk_at dksX2_nearLetters_0 3 rfl rfl)
theorem dX2_nearLetters_4 : decode cX2_nearLetters 4 = .ok (.iload_n 3, 1) := dk_29 (dk_at dksX2_nearLetters_0 4 rfl rfl)
theorem dX2_nearLetters_5 : decode cX2_nearLetters 5 = .ok (.aload_n 0, 1) := dk_42 (dk_at dksX2_nearLetters_0 5 rfl rfl)
theorem dX2_nearLetters_6 : decode cX2_nearLetters 6 = .ok (.invokevirtual 109, 3) := dk_182 0 109 (dk_at dksX2_nearLetters_0 6 rfl rfl)
theorem dX2_nearLetters_9 : decode cX2_nearLetters 9 = .ok (.if_icmp .ge 45, 3) := dk_162 0 45 (dk_at dksX2_nearLetters_0 9 rfl rfl)
theorem dX2_nearLetters_12 : decode cX2_nearLetters 12 = .ok (.iload_n 2, 1) := dk_28 (dk_at dksX2_nearLetters_0 12 rfl rfl)
theorem dX2_nearLetters_13 : decode cX2_nearLetters 13 = .ok (.aload_n 0, 1) := dk_42 (dk_at dksX2_nearLetters_0 13 rfl rfl)
theorem dX2_nearLetters_14 : decode cX2_nearLetters 14 = .ok (.iload_n 3, 1) := dk_29 (dk_at dksX2_nearLetters_0 14 rfl rfl)
theorem dX2_nearLetters_15 : decode cX2_nearLetters 15 = .ok (.bipush 6, 2) := dk_16 6 (dk_at dksX2_nearLetters_0 15 rfl rfl)
theorem dX2_nearLetters_17 : decode cX2_nearLetters 17 = .ok (.invokevirtual 74, 3) := dk_182 0 74 (dk_at dksX2_nearLetters_0 17 rfl rfl)
theorem dX2_nearLetters_20 : decode cX2_nearLetters 20 = .ok (.ifCond .ne 22, 3) := dk_154 0 22 (dk_at dksX2_nearLetters_0 20 rfl rfl)
theorem dX2_nearLetters_23 : decode cX2_nearLetters 23 = .ok (.aload_n 0, 1) := dk_42 (dk_at dksX2_nearLetters_0 23 rfl rfl)
theorem dX2_nearLetters_24 : decode cX2_nearLetters 24 = .ok (.iload_n 3, 1) := dk_29 (dk_at dksX2_nearLetters_1 0 rfl rfl)
theorem dX2_nearLetters_25 : decode cX2_nearLetters 25 = .ok (.iload_n 1, 1) := dk_27 (dk_at dksX2_nearLetters_1 1 rfl rfl)
theorem dX2_nearLetters_26 : decode cX2_nearLetters 26 = .ok (.invokevirtual 94, 3) := dk_182 0 94 (dk_at dksX2_nearLetters_1 2 rfl rfl)
theorem dX2_nearLetters_29 : decode cX2_nearLetters 29 = .ok (.aload_n 0, 1) := dk_42 (dk_at dksX2_nearLetters_1 5 rfl rfl)
theorem dX2_nearLetters_30 : decode cX2_nearLetters 30 = .ok (.getfield 13, 3) := dk_180 0 13 (dk_at dksX2_nearLetters_1 6 rfl rfl)
theorem dX2_nearLetters_33 : decode cX2_nearLetters 33 = .ok (.iconst 0, 1) := dk_3 (dk_at dksX2_nearLetters_1 9 rfl rfl)
theorem dX2_nearLetters_34 : decode cX2_nearLetters 34 = .ok (.iaload, 1) := dk_46 (dk_at dksX2_nearLetters_1 10 rfl rfl)
theorem dX2_nearLetters_35 : decode cX2_nearLetters 35 = .ok (.if_icmp .gt 7, 3) := dk_163 0 7 (dk_at dksX2_nearLetters_1 11 rfl rfl)
theorem dX2_nearLetters_38 : decode cX2_nearLetters 38 = .ok (.iconst 1, 1) := dk_4 (dk_at dksX2_nearLetters_1 14 rfl rfl)
theorem dX2_nearLetters_39 : decode cX2_nearLetters 39 = .ok (.goto 4, 3) := dk_167 0 4 (dk_at dksX2_nearLetters_1 15 rfl rfl)
theorem dX2_nearLetters_42 : decode cX2_nearLetters 42 = .ok (.iconst 0, 1) := dk_3 (dk_at dksX2_nearLetters_1 18 rfl rfl)
theorem dX2_nearLetters_43 : decode cX2_nearLetters 43 = .ok (.invokestatic 86, 3) := dk_184 0 86 (dk_at dksX2_nearLetters_1 19 rfl rfl)
theorem dX2_nearLetters_46 : decode cX2_nearLetters 46 = .ok (.iadd, 1) := dk_96 (dk_at dksX2_nearLetters_1 22 rfl rfl)
theorem dX2_nearLetters_47 : decode cX2_nearLetters 47 = .ok (.istore_n 2, 1) := dk_61 (dk_at dksX2_nearLetters_1 23 rfl rfl)
theorem dX2_nearLetters_48 : decode cX2_nearLetters 48 = .ok (.iinc 3 1, 3) := dk_132 3 1 (dk_at dksX2_nearLetters_2 0 rfl rfl)
theorem dX2_nearLetters_51 : decode cX2_nearLetters 51 = .ok (.goto (-47), 3) := dk_167 255 209 (dk_at dksX2_nearLetters_2 3 rfl rfl)
theorem dX2_nearLetters_54 : decode cX2_nearLetters 54 = .ok (.iload_n 2, 1) := dk_28 (dk_at dksX2_nearLetters_2 6 rfl rfl)
theorem dX2_nearLetters_55 : decode cX2_nearLetters 55 = .ok (.ireturn, 1) := dk_172 (dk_at dksX2_nearLetters_2 7 rfl rfl)
abbrev cX2_codeDigit : ByteArray := prog_14_method_67_code
def yX2_codeDigit : MethodName := ⟨RX2, "codeDigit", "(II)I"⟩
def dkwX2_codeDigit_1 : List UInt8 := [182, 0, 43, 153, 0, 7, 3, 167, 0, 12, 42, 27, 182, 0, 80, 28, 184, 0, 58, 172]
abbrev dktX2_codeDigit_1 : List UInt8 := dkwX2_codeDigit_1 ++ []
def dkwX2_codeDigit_0 : List UInt8 := [42, 27, 182, 1, 22, 154, 0, 23, 42, 28, 184, 1, 35, 154, 0, 7, 4, 167, 0, 4, 3, 5]
abbrev dktX2_codeDigit_0 : List UInt8 := dkwX2_codeDigit_0 ++ dktX2_codeDigit_1
theorem dksX2_codeDigit_0 : cX2_codeDigit.data.toList.drop 0 = dktX2_codeDigit_0 := by decide +kernel
theorem dksX2_codeDigit_1 : cX2_codeDigit.data.toList.drop 22 = dktX2_codeDigit_1 := dk_seg dksX2_codeDigit_0 22 rfl rfl
theorem dX2_codeDigit_0 : decode cX2_codeDigit 0 = .ok (.aload_n 0, 1) := dk_42 (dk_at dksX2_codeDigit_0 0 rfl rfl)
theorem dX2_codeDigit_1 : decode cX2_codeDigit 1 = .ok (.iload_n 1, 1) := dk_27 (dk_at dksX2_codeDigit_0 1 rfl rfl)
theorem dX2_codeDigit_2 : decode cX2_codeDigit 2 = .ok (.invokevirtual 278, 3) := dk_182 1 22 (dk_at dksX2_codeDigit_0 2 rfl rfl)
theorem dX2_codeDigit_5 : decode cX2_codeDigit 5 = .ok (.ifCond .ne 23, 3) := dk_154 0 23 (dk_at dksX2_codeDigit_0 5 rfl rfl)
theorem dX2_codeDigit_8 : decode cX2_codeDigit 8 = .ok (.aload_n 0, 1) := dk_42 (dk_at dksX2_codeDigit_0 8 rfl rfl)
theorem dX2_codeDigit_9 : decode cX2_codeDigit 9 = .ok (.iload_n 2, 1) := dk_28 (dk_at dksX2_codeDigit_0 9 rfl rfl)
theorem dX2_codeDigit_10 : decode cX2_codeDigit 10 = .ok (.invokestatic 291, 3) := dk_184 1 35 (dk_at dksX2_codeDigit_0 10 rfl rfl)
theorem dX2_codeDigit_13 : decode cX2_codeDigit 13 = .ok (.ifCond .ne 7, 3) := dk_154 0 7 (dk_at dksX2_codeDigit_0 13 rfl rfl)
theorem dX2_codeDigit_16 : decode cX2_codeDigit 16 = .ok (.iconst 1, 1) := dk_4 (dk_at dksX2_codeDigit_0 16 rfl rfl)
theorem dX2_codeDigit_17 : decode cX2_codeDigit 17 = .ok (.goto 4, 3) := dk_167 0 4 (dk_at dksX2_codeDigit_0 17 rfl rfl)
theorem dX2_codeDigit_20 : decode cX2_codeDigit 20 = .ok (.iconst 0, 1) := dk_3 (dk_at dksX2_codeDigit_0 20 rfl rfl)
theorem dX2_codeDigit_21 : decode cX2_codeDigit 21 = .ok (.iconst 2, 1) := dk_5 (dk_at dksX2_codeDigit_0 21 rfl rfl)
theorem dX2_codeDigit_22 : decode cX2_codeDigit 22 = .ok (.invokevirtual 43, 3) := dk_182 0 43 (dk_at dksX2_codeDigit_1 0 rfl rfl)
theorem dX2_codeDigit_25 : decode cX2_codeDigit 25 = .ok (.ifCond .eq 7, 3) := dk_153 0 7 (dk_at dksX2_codeDigit_1 3 rfl rfl)
theorem dX2_codeDigit_28 : decode cX2_codeDigit 28 = .ok (.iconst 0, 1) := dk_3 (dk_at dksX2_codeDigit_1 6 rfl rfl)
theorem dX2_codeDigit_29 : decode cX2_codeDigit 29 = .ok (.goto 12, 3) := dk_167 0 12 (dk_at dksX2_codeDigit_1 7 rfl rfl)
theorem dX2_codeDigit_32 : decode cX2_codeDigit 32 = .ok (.aload_n 0, 1) := dk_42 (dk_at dksX2_codeDigit_1 10 rfl rfl)
theorem dX2_codeDigit_33 : decode cX2_codeDigit 33 = .ok (.iload_n 1, 1) := dk_27 (dk_at dksX2_codeDigit_1 11 rfl rfl)
theorem dX2_codeDigit_34 : decode cX2_codeDigit 34 = .ok (.invokevirtual 80, 3) := dk_182 0 80 (dk_at dksX2_codeDigit_1 12 rfl rfl)
theorem dX2_codeDigit_37 : decode cX2_codeDigit 37 = .ok (.iload_n 2, 1) := dk_28 (dk_at dksX2_codeDigit_1 15 rfl rfl)
theorem dX2_codeDigit_38 : decode cX2_codeDigit 38 = .ok (.invokestatic 58, 3) := dk_184 0 58 (dk_at dksX2_codeDigit_1 16 rfl rfl)
theorem dX2_codeDigit_41 : decode cX2_codeDigit 41 = .ok (.ireturn, 1) := dk_172 (dk_at dksX2_codeDigit_1 19 rfl rfl)
abbrev cX2_isPlace : ByteArray := prog_14_method_66_code
def yX2_isPlace : MethodName := ⟨RX2, "isPlace", "(I)Z"⟩
def dkwX2_isPlace_0 : List UInt8 := [26, 133, 9, 20, 1, 33, 184, 0, 195, 172]
abbrev dktX2_isPlace_0 : List UInt8 := dkwX2_isPlace_0 ++ []
theorem dksX2_isPlace_0 : cX2_isPlace.data.toList.drop 0 = dktX2_isPlace_0 := by decide +kernel
theorem dX2_isPlace_0 : decode cX2_isPlace 0 = .ok (.iload_n 0, 1) := dk_26 (dk_at dksX2_isPlace_0 0 rfl rfl)
theorem dX2_isPlace_1 : decode cX2_isPlace 1 = .ok (.i2l, 1) := dk_133 (dk_at dksX2_isPlace_0 1 rfl rfl)
theorem dX2_isPlace_2 : decode cX2_isPlace 2 = .ok (.lconst 0, 1) := dk_9 (dk_at dksX2_isPlace_0 2 rfl rfl)
theorem dX2_isPlace_3 : decode cX2_isPlace 3 = .ok (.ldc2_w 289, 3) := dk_20 1 33 (dk_at dksX2_isPlace_0 3 rfl rfl)
theorem dX2_isPlace_6 : decode cX2_isPlace 6 = .ok (.invokestatic 195, 3) := dk_184 0 195 (dk_at dksX2_isPlace_0 6 rfl rfl)
theorem dX2_isPlace_9 : decode cX2_isPlace 9 = .ok (.ireturn, 1) := dk_172 (dk_at dksX2_isPlace_0 9 rfl rfl)
abbrev cX2_checkDigit : ByteArray := prog_14_method_68_code
def yX2_checkDigit : MethodName := ⟨RX2, "checkDigit", "(I)I"⟩
def dkwX2_checkDigit_1 : List UInt8 := [3, 5, 182, 0, 43, 153, 0, 7, 3, 167, 0, 7, 27, 184, 0, 51, 172]
abbrev dktX2_checkDigit_1 : List UInt8 := dkwX2_checkDigit_1 ++ []
def dkwX2_checkDigit_0 : List UInt8 := [42, 182, 1, 4, 154, 0, 28, 42, 27, 133, 9, 20, 1, 38, 184, 0, 195, 154, 0, 7, 4, 167, 0, 4]
abbrev dktX2_checkDigit_0 : List UInt8 := dkwX2_checkDigit_0 ++ dktX2_checkDigit_1
theorem dksX2_checkDigit_0 : cX2_checkDigit.data.toList.drop 0 = dktX2_checkDigit_0 := by decide +kernel
theorem dksX2_checkDigit_1 : cX2_checkDigit.data.toList.drop 24 = dktX2_checkDigit_1 := dk_seg dksX2_checkDigit_0 24 rfl rfl
theorem dX2_checkDigit_0 : decode cX2_checkDigit 0 = .ok (.aload_n 0, 1) := dk_42 (dk_at dksX2_checkDigit_0 0 rfl rfl)
theorem dX2_checkDigit_1 : decode cX2_checkDigit 1 = .ok (.invokevirtual 260, 3) := dk_182 1 4 (dk_at dksX2_checkDigit_0 1 rfl rfl)
theorem dX2_checkDigit_4 : decode cX2_checkDigit 4 = .ok (.ifCond .ne 28, 3) := dk_154 0 28 (dk_at dksX2_checkDigit_0 4 rfl rfl)
theorem dX2_checkDigit_7 : decode cX2_checkDigit 7 = .ok (.aload_n 0, 1) := dk_42 (dk_at dksX2_checkDigit_0 7 rfl rfl)
theorem dX2_checkDigit_8 : decode cX2_checkDigit 8 = .ok (.iload_n 1, 1) := dk_27 (dk_at dksX2_checkDigit_0 8 rfl rfl)
theorem dX2_checkDigit_9 : decode cX2_checkDigit 9 = .ok (.i2l, 1) := dk_133 (dk_at dksX2_checkDigit_0 9 rfl rfl)
theorem dX2_checkDigit_10 : decode cX2_checkDigit 10 = .ok (.lconst 0, 1) := dk_9 (dk_at dksX2_checkDigit_0 10 rfl rfl)
theorem dX2_checkDigit_11 : decode cX2_checkDigit 11 = .ok (.ldc2_w 294, 3) := dk_20 1 38 (dk_at dksX2_checkDigit_0 11 rfl rfl)
theorem dX2_checkDigit_14 : decode cX2_checkDigit 14 = .ok (.invokestatic 195, 3) := dk_184 0 195 (dk_at dksX2_checkDigit_0 14 rfl rfl)
theorem dX2_checkDigit_17 : decode cX2_checkDigit 17 = .ok (.ifCond .ne 7, 3) := dk_154 0 7 (dk_at dksX2_checkDigit_0 17 rfl rfl)
theorem dX2_checkDigit_20 : decode cX2_checkDigit 20 = .ok (.iconst 1, 1) := dk_4 (dk_at dksX2_checkDigit_0 20 rfl rfl)
theorem dX2_checkDigit_21 : decode cX2_checkDigit 21 = .ok (.goto 4, 3) := dk_167 0 4 (dk_at dksX2_checkDigit_0 21 rfl rfl)
theorem dX2_checkDigit_24 : decode cX2_checkDigit 24 = .ok (.iconst 0, 1) := dk_3 (dk_at dksX2_checkDigit_1 0 rfl rfl)
theorem dX2_checkDigit_25 : decode cX2_checkDigit 25 = .ok (.iconst 2, 1) := dk_5 (dk_at dksX2_checkDigit_1 1 rfl rfl)
theorem dX2_checkDigit_26 : decode cX2_checkDigit 26 = .ok (.invokevirtual 43, 3) := dk_182 0 43 (dk_at dksX2_checkDigit_1 2 rfl rfl)
theorem dX2_checkDigit_29 : decode cX2_checkDigit 29 = .ok (.ifCond .eq 7, 3) := dk_153 0 7 (dk_at dksX2_checkDigit_1 5 rfl rfl)
theorem dX2_checkDigit_32 : decode cX2_checkDigit 32 = .ok (.iconst 0, 1) := dk_3 (dk_at dksX2_checkDigit_1 8 rfl rfl)
theorem dX2_checkDigit_33 : decode cX2_checkDigit 33 = .ok (.goto 7, 3) := dk_167 0 7 (dk_at dksX2_checkDigit_1 9 rfl rfl)
theorem dX2_checkDigit_36 : decode cX2_checkDigit 36 = .ok (.iload_n 1, 1) := dk_27 (dk_at dksX2_checkDigit_1 12 rfl rfl)
theorem dX2_checkDigit_37 : decode cX2_checkDigit 37 = .ok (.invokestatic 51, 3) := dk_184 0 51 (dk_at dksX2_checkDigit_1 13 rfl rfl)
theorem dX2_checkDigit_40 : decode cX2_checkDigit 40 = .ok (.ireturn, 1) := dk_172 (dk_at dksX2_checkDigit_1 16 rfl rfl)
abbrev cX2_apart : ByteArray := prog_14_method_70_code
def yX2_apart : MethodName := ⟨RX2, "apart", "(II)I"⟩
def dkwX2_apart_1 : List UInt8 := [182, 0, 43, 153, 0, 7, 3, 167, 0, 9, 42, 27, 28, 182, 1, 40, 172]
abbrev dktX2_apart_1 : List UInt8 := dkwX2_apart_1 ++ []
def dkwX2_apart_0 : List UInt8 := [42, 27, 182, 1, 22, 154, 0, 24, 42, 42, 28, 182, 1, 19, 154, 0, 7, 4, 167, 0, 4, 3, 5]
abbrev dktX2_apart_0 : List UInt8 := dkwX2_apart_0 ++ dktX2_apart_1
theorem dksX2_apart_0 : cX2_apart.data.toList.drop 0 = dktX2_apart_0 := by decide +kernel
theorem dksX2_apart_1 : cX2_apart.data.toList.drop 23 = dktX2_apart_1 := dk_seg dksX2_apart_0 23 rfl rfl
theorem dX2_apart_0 : decode cX2_apart 0 = .ok (.aload_n 0, 1) := dk_42 (dk_at dksX2_apart_0 0 rfl rfl)
theorem dX2_apart_1 : decode cX2_apart 1 = .ok (.iload_n 1, 1) := dk_27 (dk_at dksX2_apart_0 1 rfl rfl)
theorem dX2_apart_2 : decode cX2_apart 2 = .ok (.invokevirtual 278, 3) := dk_182 1 22 (dk_at dksX2_apart_0 2 rfl rfl)
theorem dX2_apart_5 : decode cX2_apart 5 = .ok (.ifCond .ne 24, 3) := dk_154 0 24 (dk_at dksX2_apart_0 5 rfl rfl)
theorem dX2_apart_8 : decode cX2_apart 8 = .ok (.aload_n 0, 1) := dk_42 (dk_at dksX2_apart_0 8 rfl rfl)
theorem dX2_apart_9 : decode cX2_apart 9 = .ok (.aload_n 0, 1) := dk_42 (dk_at dksX2_apart_0 9 rfl rfl)
theorem dX2_apart_10 : decode cX2_apart 10 = .ok (.iload_n 2, 1) := dk_28 (dk_at dksX2_apart_0 10 rfl rfl)
theorem dX2_apart_11 : decode cX2_apart 11 = .ok (.invokevirtual 275, 3) := dk_182 1 19 (dk_at dksX2_apart_0 11 rfl rfl)
theorem dX2_apart_14 : decode cX2_apart 14 = .ok (.ifCond .ne 7, 3) := dk_154 0 7 (dk_at dksX2_apart_0 14 rfl rfl)
theorem dX2_apart_17 : decode cX2_apart 17 = .ok (.iconst 1, 1) := dk_4 (dk_at dksX2_apart_0 17 rfl rfl)
theorem dX2_apart_18 : decode cX2_apart 18 = .ok (.goto 4, 3) := dk_167 0 4 (dk_at dksX2_apart_0 18 rfl rfl)
theorem dX2_apart_21 : decode cX2_apart 21 = .ok (.iconst 0, 1) := dk_3 (dk_at dksX2_apart_0 21 rfl rfl)
theorem dX2_apart_22 : decode cX2_apart 22 = .ok (.iconst 2, 1) := dk_5 (dk_at dksX2_apart_0 22 rfl rfl)
theorem dX2_apart_23 : decode cX2_apart 23 = .ok (.invokevirtual 43, 3) := dk_182 0 43 (dk_at dksX2_apart_1 0 rfl rfl)
theorem dX2_apart_26 : decode cX2_apart 26 = .ok (.ifCond .eq 7, 3) := dk_153 0 7 (dk_at dksX2_apart_1 3 rfl rfl)
theorem dX2_apart_29 : decode cX2_apart 29 = .ok (.iconst 0, 1) := dk_3 (dk_at dksX2_apart_1 6 rfl rfl)
theorem dX2_apart_30 : decode cX2_apart 30 = .ok (.goto 9, 3) := dk_167 0 9 (dk_at dksX2_apart_1 7 rfl rfl)
theorem dX2_apart_33 : decode cX2_apart 33 = .ok (.aload_n 0, 1) := dk_42 (dk_at dksX2_apart_1 10 rfl rfl)
theorem dX2_apart_34 : decode cX2_apart 34 = .ok (.iload_n 1, 1) := dk_27 (dk_at dksX2_apart_1 11 rfl rfl)
theorem dX2_apart_35 : decode cX2_apart 35 = .ok (.iload_n 2, 1) := dk_28 (dk_at dksX2_apart_1 12 rfl rfl)
theorem dX2_apart_36 : decode cX2_apart 36 = .ok (.invokevirtual 296, 3) := dk_182 1 40 (dk_at dksX2_apart_1 13 rfl rfl)
theorem dX2_apart_39 : decode cX2_apart 39 = .ok (.ireturn, 1) := dk_172 (dk_at dksX2_apart_1 16 rfl rfl)
abbrev cX2_apartOf : ByteArray := prog_14_method_69_code
def yX2_apartOf : MethodName := ⟨RX2, "apartOf", "(II)I"⟩
def dkwX2_apartOf_1 : List UInt8 := [182, 0, 80, 21, 4, 184, 0, 58, 184, 0, 77, 96, 62, 132, 4, 1, 167, 255, 221, 29, 172]
abbrev dktX2_apartOf_1 : List UInt8 := dkwX2_apartOf_1 ++ []
def dkwX2_apartOf_0 : List UInt8 := [3, 62, 3, 54, 4, 21, 4, 8, 162, 0, 35, 29, 42, 27, 182, 0, 80, 21, 4, 184, 0, 58, 42, 28]
abbrev dktX2_apartOf_0 : List UInt8 := dkwX2_apartOf_0 ++ dktX2_apartOf_1
theorem dksX2_apartOf_0 : cX2_apartOf.data.toList.drop 0 = dktX2_apartOf_0 := by decide +kernel
theorem dksX2_apartOf_1 : cX2_apartOf.data.toList.drop 24 = dktX2_apartOf_1 := dk_seg dksX2_apartOf_0 24 rfl rfl
theorem dX2_apartOf_0 : decode cX2_apartOf 0 = .ok (.iconst 0, 1) := dk_3 (dk_at dksX2_apartOf_0 0 rfl rfl)
theorem dX2_apartOf_1 : decode cX2_apartOf 1 = .ok (.istore_n 3, 1) := dk_62 (dk_at dksX2_apartOf_0 1 rfl rfl)
theorem dX2_apartOf_2 : decode cX2_apartOf 2 = .ok (.iconst 0, 1) := dk_3 (dk_at dksX2_apartOf_0 2 rfl rfl)
theorem dX2_apartOf_3 : decode cX2_apartOf 3 = .ok (.istore 4, 2) := dk_54 4 (dk_at dksX2_apartOf_0 3 rfl rfl)
theorem dX2_apartOf_5 : decode cX2_apartOf 5 = .ok (.iload 4, 2) := dk_21 4 (dk_at dksX2_apartOf_0 5 rfl rfl)
theorem dX2_apartOf_7 : decode cX2_apartOf 7 = .ok (.iconst 5, 1) := dk_8 (dk_at dksX2_apartOf_0 7 rfl rfl)
theorem dX2_apartOf_8 : decode cX2_apartOf 8 = .ok (.if_icmp .ge 35, 3) := dk_162 0 35 (dk_at dksX2_apartOf_0 8 rfl rfl)
theorem dX2_apartOf_11 : decode cX2_apartOf 11 = .ok (.iload_n 3, 1) := dk_29 (dk_at dksX2_apartOf_0 11 rfl rfl)
theorem dX2_apartOf_12 : decode cX2_apartOf 12 = .ok (.aload_n 0, 1) := dk_42 (dk_at dksX2_apartOf_0 12 rfl rfl)
theorem dX2_apartOf_13 : decode cX2_apartOf 13 = .ok (.iload_n 1, 1) := dk_27 (dk_at dksX2_apartOf_0 13 rfl rfl)
theorem dX2_apartOf_14 : decode cX2_apartOf 14 = .ok (.invokevirtual 80, 3) := dk_182 0 80 (dk_at dksX2_apartOf_0 14 rfl rfl)
theorem dX2_apartOf_17 : decode cX2_apartOf 17 = .ok (.iload 4, 2) := dk_21 4 (dk_at dksX2_apartOf_0 17 rfl rfl)
theorem dX2_apartOf_19 : decode cX2_apartOf 19 = .ok (.invokestatic 58, 3) := dk_184 0 58 (dk_at dksX2_apartOf_0 19 rfl rfl)
theorem dX2_apartOf_22 : decode cX2_apartOf 22 = .ok (.aload_n 0, 1) := dk_42 (dk_at dksX2_apartOf_0 22 rfl rfl)
theorem dX2_apartOf_23 : decode cX2_apartOf 23 = .ok (.iload_n 2, 1) := dk_28 (dk_at dksX2_apartOf_0 23 rfl rfl)
theorem dX2_apartOf_24 : decode cX2_apartOf 24 = .ok (.invokevirtual 80, 3) := dk_182 0 80 (dk_at dksX2_apartOf_1 0 rfl rfl)
theorem dX2_apartOf_27 : decode cX2_apartOf 27 = .ok (.iload 4, 2) := dk_21 4 (dk_at dksX2_apartOf_1 3 rfl rfl)
theorem dX2_apartOf_29 : decode cX2_apartOf 29 = .ok (.invokestatic 58, 3) := dk_184 0 58 (dk_at dksX2_apartOf_1 5 rfl rfl)
theorem dX2_apartOf_32 : decode cX2_apartOf 32 = .ok (.invokestatic 77, 3) := dk_184 0 77 (dk_at dksX2_apartOf_1 8 rfl rfl)
theorem dX2_apartOf_35 : decode cX2_apartOf 35 = .ok (.iadd, 1) := dk_96 (dk_at dksX2_apartOf_1 11 rfl rfl)
theorem dX2_apartOf_36 : decode cX2_apartOf 36 = .ok (.istore_n 3, 1) := dk_62 (dk_at dksX2_apartOf_1 12 rfl rfl)
theorem dX2_apartOf_37 : decode cX2_apartOf 37 = .ok (.iinc 4 1, 3) := dk_132 4 1 (dk_at dksX2_apartOf_1 13 rfl rfl)
theorem dX2_apartOf_40 : decode cX2_apartOf 40 = .ok (.goto (-35), 3) := dk_167 255 221 (dk_at dksX2_apartOf_1 16 rfl rfl)
theorem dX2_apartOf_43 : decode cX2_apartOf 43 = .ok (.iload_n 3, 1) := dk_29 (dk_at dksX2_apartOf_1 19 rfl rfl)
theorem dX2_apartOf_44 : decode cX2_apartOf 44 = .ok (.ireturn, 1) := dk_172 (dk_at dksX2_apartOf_1 20 rfl rfl)
abbrev cX2_closest : ByteArray := prog_14_method_71_code
def yX2_closest : MethodName := ⟨RX2, "closest", "(I)I"⟩
def dkwX2_closest_2 : List UInt8 := [61, 132, 3, 1, 167, 255, 218, 28, 172]
abbrev dktX2_closest_2 : List UInt8 := dkwX2_closest_2 ++ []
def dkwX2_closest_1 : List UInt8 := [159, 0, 25, 28, 2, 159, 0, 18, 42, 27, 29, 182, 1, 40, 42, 27, 28, 182, 1, 40, 162, 0, 5, 29]
abbrev dktX2_closest_1 : List UInt8 := dkwX2_closest_1 ++ dktX2_closest_2
def dkwX2_closest_0 : List UInt8 := [42, 27, 182, 1, 22, 153, 0, 5, 3, 172, 2, 61, 3, 62, 29, 42, 182, 0, 90, 162, 0, 36, 29, 27]
abbrev dktX2_closest_0 : List UInt8 := dkwX2_closest_0 ++ dktX2_closest_1
theorem dksX2_closest_0 : cX2_closest.data.toList.drop 0 = dktX2_closest_0 := by decide +kernel
theorem dksX2_closest_1 : cX2_closest.data.toList.drop 24 = dktX2_closest_1 := dk_seg dksX2_closest_0 24 rfl rfl
theorem dksX2_closest_2 : cX2_closest.data.toList.drop 48 = dktX2_closest_2 := dk_seg dksX2_closest_1 24 rfl rfl
theorem dX2_closest_0 : decode cX2_closest 0 = .ok (.aload_n 0, 1) := dk_42 (dk_at dksX2_closest_0 0 rfl rfl)
theorem dX2_closest_1 : decode cX2_closest 1 = .ok (.iload_n 1, 1) := dk_27 (dk_at dksX2_closest_0 1 rfl rfl)
theorem dX2_closest_2 : decode cX2_closest 2 = .ok (.invokevirtual 278, 3) := dk_182 1 22 (dk_at dksX2_closest_0 2 rfl rfl)
theorem dX2_closest_5 : decode cX2_closest 5 = .ok (.ifCond .eq 5, 3) := dk_153 0 5 (dk_at dksX2_closest_0 5 rfl rfl)
theorem dX2_closest_8 : decode cX2_closest 8 = .ok (.iconst 0, 1) := dk_3 (dk_at dksX2_closest_0 8 rfl rfl)
theorem dX2_closest_9 : decode cX2_closest 9 = .ok (.ireturn, 1) := dk_172 (dk_at dksX2_closest_0 9 rfl rfl)
theorem dX2_closest_10 : decode cX2_closest 10 = .ok (.iconst (-1), 1) := dk_2 (dk_at dksX2_closest_0 10 rfl rfl)
theorem dX2_closest_11 : decode cX2_closest 11 = .ok (.istore_n 2, 1) := dk_61 (dk_at dksX2_closest_0 11 rfl rfl)
theorem dX2_closest_12 : decode cX2_closest 12 = .ok (.iconst 0, 1) := dk_3 (dk_at dksX2_closest_0 12 rfl rfl)
theorem dX2_closest_13 : decode cX2_closest 13 = .ok (.istore_n 3, 1) := dk_62 (dk_at dksX2_closest_0 13 rfl rfl)
theorem dX2_closest_14 : decode cX2_closest 14 = .ok (.iload_n 3, 1) := dk_29 (dk_at dksX2_closest_0 14 rfl rfl)
theorem dX2_closest_15 : decode cX2_closest 15 = .ok (.aload_n 0, 1) := dk_42 (dk_at dksX2_closest_0 15 rfl rfl)
theorem dX2_closest_16 : decode cX2_closest 16 = .ok (.invokevirtual 90, 3) := dk_182 0 90 (dk_at dksX2_closest_0 16 rfl rfl)
theorem dX2_closest_19 : decode cX2_closest 19 = .ok (.if_icmp .ge 36, 3) := dk_162 0 36 (dk_at dksX2_closest_0 19 rfl rfl)
theorem dX2_closest_22 : decode cX2_closest 22 = .ok (.iload_n 3, 1) := dk_29 (dk_at dksX2_closest_0 22 rfl rfl)
theorem dX2_closest_23 : decode cX2_closest 23 = .ok (.iload_n 1, 1) := dk_27 (dk_at dksX2_closest_0 23 rfl rfl)
theorem dX2_closest_24 : decode cX2_closest 24 = .ok (.if_icmp .eq 25, 3) := dk_159 0 25 (dk_at dksX2_closest_1 0 rfl rfl)
theorem dX2_closest_27 : decode cX2_closest 27 = .ok (.iload_n 2, 1) := dk_28 (dk_at dksX2_closest_1 3 rfl rfl)
theorem dX2_closest_28 : decode cX2_closest 28 = .ok (.iconst (-1), 1) := dk_2 (dk_at dksX2_closest_1 4 rfl rfl)
theorem dX2_closest_29 : decode cX2_closest 29 = .ok (.if_icmp .eq 18, 3) := dk_159 0 18 (dk_at dksX2_closest_1 5 rfl rfl)
theorem dX2_closest_32 : decode cX2_closest 32 = .ok (.aload_n 0, 1) := dk_42 (dk_at dksX2_closest_1 8 rfl rfl)
theorem dX2_closest_33 : decode cX2_closest 33 = .ok (.iload_n 1, 1) := dk_27 (dk_at dksX2_closest_1 9 rfl rfl)
theorem dX2_closest_34 : decode cX2_closest 34 = .ok (.iload_n 3, 1) := dk_29 (dk_at dksX2_closest_1 10 rfl rfl)
theorem dX2_closest_35 : decode cX2_closest 35 = .ok (.invokevirtual 296, 3) := dk_182 1 40 (dk_at dksX2_closest_1 11 rfl rfl)
theorem dX2_closest_38 : decode cX2_closest 38 = .ok (.aload_n 0, 1) := dk_42 (dk_at dksX2_closest_1 14 rfl rfl)
theorem dX2_closest_39 : decode cX2_closest 39 = .ok (.iload_n 1, 1) := dk_27 (dk_at dksX2_closest_1 15 rfl rfl)
theorem dX2_closest_40 : decode cX2_closest 40 = .ok (.iload_n 2, 1) := dk_28 (dk_at dksX2_closest_1 16 rfl rfl)
theorem dX2_closest_41 : decode cX2_closest 41 = .ok (.invokevirtual 296, 3) := dk_182 1 40 (dk_at dksX2_closest_1 17 rfl rfl)
theorem dX2_closest_44 : decode cX2_closest 44 = .ok (.if_icmp .ge 5, 3) := dk_162 0 5 (dk_at dksX2_closest_1 20 rfl rfl)
theorem dX2_closest_47 : decode cX2_closest 47 = .ok (.iload_n 3, 1) := dk_29 (dk_at dksX2_closest_1 23 rfl rfl)
theorem dX2_closest_48 : decode cX2_closest 48 = .ok (.istore_n 2, 1) := dk_61 (dk_at dksX2_closest_2 0 rfl rfl)
theorem dX2_closest_49 : decode cX2_closest 49 = .ok (.iinc 3 1, 3) := dk_132 3 1 (dk_at dksX2_closest_2 1 rfl rfl)
theorem dX2_closest_52 : decode cX2_closest 52 = .ok (.goto (-38), 3) := dk_167 255 218 (dk_at dksX2_closest_2 4 rfl rfl)
theorem dX2_closest_55 : decode cX2_closest 55 = .ok (.iload_n 2, 1) := dk_28 (dk_at dksX2_closest_2 7 rfl rfl)
theorem dX2_closest_56 : decode cX2_closest 56 = .ok (.ireturn, 1) := dk_172 (dk_at dksX2_closest_2 8 rfl rfl)
abbrev cX2_letter : ByteArray := prog_14_method_73_code
def yX2_letter : MethodName := ⟨RX2, "letter", "(II)I"⟩
def dkwX2_letter_4 : List UInt8 := [182, 0, 106, 172, 42, 27, 8, 28, 96, 182, 0, 74, 172]
abbrev dktX2_letter_4 : List UInt8 := dkwX2_letter_4 ++ []
def dkwX2_letter_3 : List UInt8 := [42, 27, 182, 0, 103, 172, 42, 27, 28, 7, 96, 182, 0, 74, 172, 42, 27, 182, 0, 124, 172, 42, 27]
abbrev dktX2_letter_3 : List UInt8 := dkwX2_letter_3 ++ dktX2_letter_4
def dkwX2_letter_2 : List UInt8 := [170, 0, 0, 0, 0, 0, 0, 63, 0, 0, 0, 3, 0, 0, 0, 7, 0, 0, 0, 36, 0, 0, 0, 42, 0, 0, 0, 42, 0, 0, 0, 51, 0, 0, 0, 57]
abbrev dktX2_letter_2 : List UInt8 := dkwX2_letter_2 ++ dktX2_letter_3
def dkwX2_letter_1 : List UInt8 := [167, 0, 4, 3, 6, 182, 0, 43, 153, 0, 5, 3, 172, 28]
abbrev dktX2_letter_1 : List UInt8 := dkwX2_letter_1 ++ dktX2_letter_2
def dkwX2_letter_0 : List UInt8 := [42, 27, 182, 1, 43, 154, 0, 28, 42, 28, 133, 9, 20, 1, 46, 184, 0, 195, 154, 0, 7, 4]
abbrev dktX2_letter_0 : List UInt8 := dkwX2_letter_0 ++ dktX2_letter_1
theorem dksX2_letter_0 : cX2_letter.data.toList.drop 0 = dktX2_letter_0 := by decide +kernel
theorem dksX2_letter_1 : cX2_letter.data.toList.drop 22 = dktX2_letter_1 := dk_seg dksX2_letter_0 22 rfl rfl
theorem dksX2_letter_2 : cX2_letter.data.toList.drop 36 = dktX2_letter_2 := dk_seg dksX2_letter_1 14 rfl rfl
theorem dksX2_letter_3 : cX2_letter.data.toList.drop 72 = dktX2_letter_3 := dk_seg dksX2_letter_2 36 rfl rfl
theorem dksX2_letter_4 : cX2_letter.data.toList.drop 95 = dktX2_letter_4 := dk_seg dksX2_letter_3 23 rfl rfl
theorem dX2_letter_0 : decode cX2_letter 0 = .ok (.aload_n 0, 1) := dk_42 (dk_at dksX2_letter_0 0 rfl rfl)
theorem dX2_letter_1 : decode cX2_letter 1 = .ok (.iload_n 1, 1) := dk_27 (dk_at dksX2_letter_0 1 rfl rfl)
theorem dX2_letter_2 : decode cX2_letter 2 = .ok (.invokevirtual 299, 3) := dk_182 1 43 (dk_at dksX2_letter_0 2 rfl rfl)
theorem dX2_letter_5 : decode cX2_letter 5 = .ok (.ifCond .ne 28, 3) := dk_154 0 28 (dk_at dksX2_letter_0 5 rfl rfl)
theorem dX2_letter_8 : decode cX2_letter 8 = .ok (.aload_n 0, 1) := dk_42 (dk_at dksX2_letter_0 8 rfl rfl)
theorem dX2_letter_9 : decode cX2_letter 9 = .ok (.iload_n 2, 1) := dk_28 (dk_at dksX2_letter_0 9 rfl rfl)
theorem dX2_letter_10 : decode cX2_letter 10 = .ok (.i2l, 1) := dk_133 (dk_at dksX2_letter_0 10 rfl rfl)
theorem dX2_letter_11 : decode cX2_letter 11 = .ok (.lconst 0, 1) := dk_9 (dk_at dksX2_letter_0 11 rfl rfl)
theorem dX2_letter_12 : decode cX2_letter 12 = .ok (.ldc2_w 302, 3) := dk_20 1 46 (dk_at dksX2_letter_0 12 rfl rfl)
theorem dX2_letter_15 : decode cX2_letter 15 = .ok (.invokestatic 195, 3) := dk_184 0 195 (dk_at dksX2_letter_0 15 rfl rfl)
theorem dX2_letter_18 : decode cX2_letter 18 = .ok (.ifCond .ne 7, 3) := dk_154 0 7 (dk_at dksX2_letter_0 18 rfl rfl)
theorem dX2_letter_21 : decode cX2_letter 21 = .ok (.iconst 1, 1) := dk_4 (dk_at dksX2_letter_0 21 rfl rfl)
theorem dX2_letter_22 : decode cX2_letter 22 = .ok (.goto 4, 3) := dk_167 0 4 (dk_at dksX2_letter_1 0 rfl rfl)
theorem dX2_letter_25 : decode cX2_letter 25 = .ok (.iconst 0, 1) := dk_3 (dk_at dksX2_letter_1 3 rfl rfl)
theorem dX2_letter_26 : decode cX2_letter 26 = .ok (.iconst 3, 1) := dk_6 (dk_at dksX2_letter_1 4 rfl rfl)
theorem dX2_letter_27 : decode cX2_letter 27 = .ok (.invokevirtual 43, 3) := dk_182 0 43 (dk_at dksX2_letter_1 5 rfl rfl)
theorem dX2_letter_30 : decode cX2_letter 30 = .ok (.ifCond .eq 5, 3) := dk_153 0 5 (dk_at dksX2_letter_1 8 rfl rfl)
theorem dX2_letter_33 : decode cX2_letter 33 = .ok (.iconst 0, 1) := dk_3 (dk_at dksX2_letter_1 11 rfl rfl)
theorem dX2_letter_34 : decode cX2_letter 34 = .ok (.ireturn, 1) := dk_172 (dk_at dksX2_letter_1 12 rfl rfl)
theorem dX2_letter_35 : decode cX2_letter 35 = .ok (.iload_n 2, 1) := dk_28 (dk_at dksX2_letter_1 13 rfl rfl)
theorem dX2_letter_36 : decode cX2_letter 36 = .ok (.tableswitch 63 3 7 #[36, 42, 42, 51, 57], 36) := by decide +kernel
theorem dX2_letter_72 : decode cX2_letter 72 = .ok (.aload_n 0, 1) := dk_42 (dk_at dksX2_letter_3 0 rfl rfl)
theorem dX2_letter_73 : decode cX2_letter 73 = .ok (.iload_n 1, 1) := dk_27 (dk_at dksX2_letter_3 1 rfl rfl)
theorem dX2_letter_74 : decode cX2_letter 74 = .ok (.invokevirtual 103, 3) := dk_182 0 103 (dk_at dksX2_letter_3 2 rfl rfl)
theorem dX2_letter_77 : decode cX2_letter 77 = .ok (.ireturn, 1) := dk_172 (dk_at dksX2_letter_3 5 rfl rfl)
theorem dX2_letter_78 : decode cX2_letter 78 = .ok (.aload_n 0, 1) := dk_42 (dk_at dksX2_letter_3 6 rfl rfl)
theorem dX2_letter_79 : decode cX2_letter 79 = .ok (.iload_n 1, 1) := dk_27 (dk_at dksX2_letter_3 7 rfl rfl)
theorem dX2_letter_80 : decode cX2_letter 80 = .ok (.iload_n 2, 1) := dk_28 (dk_at dksX2_letter_3 8 rfl rfl)
theorem dX2_letter_81 : decode cX2_letter 81 = .ok (.iconst 4, 1) := dk_7 (dk_at dksX2_letter_3 9 rfl rfl)
theorem dX2_letter_82 : decode cX2_letter 82 = .ok (.iadd, 1) := dk_96 (dk_at dksX2_letter_3 10 rfl rfl)
theorem dX2_letter_83 : decode cX2_letter 83 = .ok (.invokevirtual 74, 3) := dk_182 0 74 (dk_at dksX2_letter_3 11 rfl rfl)
theorem dX2_letter_86 : decode cX2_letter 86 = .ok (.ireturn, 1) := dk_172 (dk_at dksX2_letter_3 14 rfl rfl)
theorem dX2_letter_87 : decode cX2_letter 87 = .ok (.aload_n 0, 1) := dk_42 (dk_at dksX2_letter_3 15 rfl rfl)
theorem dX2_letter_88 : decode cX2_letter 88 = .ok (.iload_n 1, 1) := dk_27 (dk_at dksX2_letter_3 16 rfl rfl)
theorem dX2_letter_89 : decode cX2_letter 89 = .ok (.invokevirtual 124, 3) := dk_182 0 124 (dk_at dksX2_letter_3 17 rfl rfl)
theorem dX2_letter_92 : decode cX2_letter 92 = .ok (.ireturn, 1) := dk_172 (dk_at dksX2_letter_3 20 rfl rfl)
theorem dX2_letter_93 : decode cX2_letter 93 = .ok (.aload_n 0, 1) := dk_42 (dk_at dksX2_letter_3 21 rfl rfl)
theorem dX2_letter_94 : decode cX2_letter 94 = .ok (.iload_n 1, 1) := dk_27 (dk_at dksX2_letter_3 22 rfl rfl)
theorem dX2_letter_95 : decode cX2_letter 95 = .ok (.invokevirtual 106, 3) := dk_182 0 106 (dk_at dksX2_letter_4 0 rfl rfl)
theorem dX2_letter_98 : decode cX2_letter 98 = .ok (.ireturn, 1) := dk_172 (dk_at dksX2_letter_4 3 rfl rfl)
theorem dX2_letter_99 : decode cX2_letter 99 = .ok (.aload_n 0, 1) := dk_42 (dk_at dksX2_letter_4 4 rfl rfl)
theorem dX2_letter_100 : decode cX2_letter 100 = .ok (.iload_n 1, 1) := dk_27 (dk_at dksX2_letter_4 5 rfl rfl)
theorem dX2_letter_101 : decode cX2_letter 101 = .ok (.iconst 5, 1) := dk_8 (dk_at dksX2_letter_4 6 rfl rfl)
theorem dX2_letter_102 : decode cX2_letter 102 = .ok (.iload_n 2, 1) := dk_28 (dk_at dksX2_letter_4 7 rfl rfl)
theorem dX2_letter_103 : decode cX2_letter 103 = .ok (.iadd, 1) := dk_96 (dk_at dksX2_letter_4 8 rfl rfl)
theorem dX2_letter_104 : decode cX2_letter 104 = .ok (.invokevirtual 74, 3) := dk_182 0 74 (dk_at dksX2_letter_4 9 rfl rfl)
theorem dX2_letter_107 : decode cX2_letter 107 = .ok (.ireturn, 1) := dk_172 (dk_at dksX2_letter_4 12 rfl rfl)
abbrev cX2_noLetter : ByteArray := prog_14_method_72_code
def yX2_noLetter : MethodName := ⟨RX2, "noLetter", "(I)Z"⟩
def dkwX2_noLetter_1 : List UInt8 := [4, 167, 0, 4, 3, 5, 182, 0, 43, 153, 0, 7, 4, 167, 0, 4, 3, 172]
abbrev dktX2_noLetter_1 : List UInt8 := dkwX2_noLetter_1 ++ []
def dkwX2_noLetter_0 : List UInt8 := [42, 182, 1, 4, 154, 0, 32, 42, 27, 133, 9, 42, 182, 0, 109, 4, 100, 133, 184, 0, 195, 154, 0, 7]
abbrev dktX2_noLetter_0 : List UInt8 := dkwX2_noLetter_0 ++ dktX2_noLetter_1
theorem dksX2_noLetter_0 : cX2_noLetter.data.toList.drop 0 = dktX2_noLetter_0 := by decide +kernel
theorem dksX2_noLetter_1 : cX2_noLetter.data.toList.drop 24 = dktX2_noLetter_1 := dk_seg dksX2_noLetter_0 24 rfl rfl
theorem dX2_noLetter_0 : decode cX2_noLetter 0 = .ok (.aload_n 0, 1) := dk_42 (dk_at dksX2_noLetter_0 0 rfl rfl)
theorem dX2_noLetter_1 : decode cX2_noLetter 1 = .ok (.invokevirtual 260, 3) := dk_182 1 4 (dk_at dksX2_noLetter_0 1 rfl rfl)
theorem dX2_noLetter_4 : decode cX2_noLetter 4 = .ok (.ifCond .ne 32, 3) := dk_154 0 32 (dk_at dksX2_noLetter_0 4 rfl rfl)
theorem dX2_noLetter_7 : decode cX2_noLetter 7 = .ok (.aload_n 0, 1) := dk_42 (dk_at dksX2_noLetter_0 7 rfl rfl)
theorem dX2_noLetter_8 : decode cX2_noLetter 8 = .ok (.iload_n 1, 1) := dk_27 (dk_at dksX2_noLetter_0 8 rfl rfl)
theorem dX2_noLetter_9 : decode cX2_noLetter 9 = .ok (.i2l, 1) := dk_133 (dk_at dksX2_noLetter_0 9 rfl rfl)
theorem dX2_noLetter_10 : decode cX2_noLetter 10 = .ok (.lconst 0, 1) := dk_9 (dk_at dksX2_noLetter_0 10 rfl rfl)
theorem dX2_noLetter_11 : decode cX2_noLetter 11 = .ok (.aload_n 0, 1) := dk_42 (dk_at dksX2_noLetter_0 11 rfl rfl)
theorem dX2_noLetter_12 : decode cX2_noLetter 12 = .ok (.invokevirtual 109, 3) := dk_182 0 109 (dk_at dksX2_noLetter_0 12 rfl rfl)
theorem dX2_noLetter_15 : decode cX2_noLetter 15 = .ok (.iconst 1, 1) := dk_4 (dk_at dksX2_noLetter_0 15 rfl rfl)
theorem dX2_noLetter_16 : decode cX2_noLetter 16 = .ok (.isub, 1) := dk_100 (dk_at dksX2_noLetter_0 16 rfl rfl)
theorem dX2_noLetter_17 : decode cX2_noLetter 17 = .ok (.i2l, 1) := dk_133 (dk_at dksX2_noLetter_0 17 rfl rfl)
theorem dX2_noLetter_18 : decode cX2_noLetter 18 = .ok (.invokestatic 195, 3) := dk_184 0 195 (dk_at dksX2_noLetter_0 18 rfl rfl)
theorem dX2_noLetter_21 : decode cX2_noLetter 21 = .ok (.ifCond .ne 7, 3) := dk_154 0 7 (dk_at dksX2_noLetter_0 21 rfl rfl)
theorem dX2_noLetter_24 : decode cX2_noLetter 24 = .ok (.iconst 1, 1) := dk_4 (dk_at dksX2_noLetter_1 0 rfl rfl)
theorem dX2_noLetter_25 : decode cX2_noLetter 25 = .ok (.goto 4, 3) := dk_167 0 4 (dk_at dksX2_noLetter_1 1 rfl rfl)
theorem dX2_noLetter_28 : decode cX2_noLetter 28 = .ok (.iconst 0, 1) := dk_3 (dk_at dksX2_noLetter_1 4 rfl rfl)
theorem dX2_noLetter_29 : decode cX2_noLetter 29 = .ok (.iconst 2, 1) := dk_5 (dk_at dksX2_noLetter_1 5 rfl rfl)
theorem dX2_noLetter_30 : decode cX2_noLetter 30 = .ok (.invokevirtual 43, 3) := dk_182 0 43 (dk_at dksX2_noLetter_1 6 rfl rfl)
theorem dX2_noLetter_33 : decode cX2_noLetter 33 = .ok (.ifCond .eq 7, 3) := dk_153 0 7 (dk_at dksX2_noLetter_1 9 rfl rfl)
theorem dX2_noLetter_36 : decode cX2_noLetter 36 = .ok (.iconst 1, 1) := dk_4 (dk_at dksX2_noLetter_1 12 rfl rfl)
theorem dX2_noLetter_37 : decode cX2_noLetter 37 = .ok (.goto 4, 3) := dk_167 0 4 (dk_at dksX2_noLetter_1 13 rfl rfl)
theorem dX2_noLetter_40 : decode cX2_noLetter 40 = .ok (.iconst 0, 1) := dk_3 (dk_at dksX2_noLetter_1 16 rfl rfl)
theorem dX2_noLetter_41 : decode cX2_noLetter 41 = .ok (.ireturn, 1) := dk_172 (dk_at dksX2_noLetter_1 17 rfl rfl)
abbrev cX2_read : ByteArray := prog_14_method_75_code
def yX2_read : MethodName := ⟨RX2, "read", "(II)I"⟩
def dkwX2_read_0 : List UInt8 := [42, 27, 28, 182, 1, 48, 153, 0, 7, 3, 167, 0, 9, 42, 27, 28, 182, 0, 74, 172]
abbrev dktX2_read_0 : List UInt8 := dkwX2_read_0 ++ []
theorem dksX2_read_0 : cX2_read.data.toList.drop 0 = dktX2_read_0 := by decide +kernel
theorem dX2_read_0 : decode cX2_read 0 = .ok (.aload_n 0, 1) := dk_42 (dk_at dksX2_read_0 0 rfl rfl)
theorem dX2_read_1 : decode cX2_read 1 = .ok (.iload_n 1, 1) := dk_27 (dk_at dksX2_read_0 1 rfl rfl)
theorem dX2_read_2 : decode cX2_read 2 = .ok (.iload_n 2, 1) := dk_28 (dk_at dksX2_read_0 2 rfl rfl)
theorem dX2_read_3 : decode cX2_read 3 = .ok (.invokevirtual 304, 3) := dk_182 1 48 (dk_at dksX2_read_0 3 rfl rfl)
theorem dX2_read_6 : decode cX2_read 6 = .ok (.ifCond .eq 7, 3) := dk_153 0 7 (dk_at dksX2_read_0 6 rfl rfl)
theorem dX2_read_9 : decode cX2_read 9 = .ok (.iconst 0, 1) := dk_3 (dk_at dksX2_read_0 9 rfl rfl)
theorem dX2_read_10 : decode cX2_read 10 = .ok (.goto 9, 3) := dk_167 0 9 (dk_at dksX2_read_0 10 rfl rfl)
theorem dX2_read_13 : decode cX2_read 13 = .ok (.aload_n 0, 1) := dk_42 (dk_at dksX2_read_0 13 rfl rfl)
theorem dX2_read_14 : decode cX2_read 14 = .ok (.iload_n 1, 1) := dk_27 (dk_at dksX2_read_0 14 rfl rfl)
theorem dX2_read_15 : decode cX2_read 15 = .ok (.iload_n 2, 1) := dk_28 (dk_at dksX2_read_0 15 rfl rfl)
theorem dX2_read_16 : decode cX2_read 16 = .ok (.invokevirtual 74, 3) := dk_182 0 74 (dk_at dksX2_read_0 16 rfl rfl)
theorem dX2_read_19 : decode cX2_read 19 = .ok (.ireturn, 1) := dk_172 (dk_at dksX2_read_0 19 rfl rfl)
abbrev cX2_noPlace : ByteArray := prog_14_method_74_code
def yX2_noPlace : MethodName := ⟨RX2, "noPlace", "(II)Z"⟩
def dkwX2_noPlace_1 : List UInt8 := [182, 0, 43, 153, 0, 7, 4, 167, 0, 4, 3, 172]
abbrev dktX2_noPlace_1 : List UInt8 := dkwX2_noPlace_1 ++ []
def dkwX2_noPlace_0 : List UInt8 := [42, 27, 182, 1, 43, 154, 0, 23, 42, 28, 184, 1, 35, 154, 0, 7, 4, 167, 0, 4, 3, 5]
abbrev dktX2_noPlace_0 : List UInt8 := dkwX2_noPlace_0 ++ dktX2_noPlace_1
theorem dksX2_noPlace_0 : cX2_noPlace.data.toList.drop 0 = dktX2_noPlace_0 := by decide +kernel
theorem dksX2_noPlace_1 : cX2_noPlace.data.toList.drop 22 = dktX2_noPlace_1 := dk_seg dksX2_noPlace_0 22 rfl rfl
theorem dX2_noPlace_0 : decode cX2_noPlace 0 = .ok (.aload_n 0, 1) := dk_42 (dk_at dksX2_noPlace_0 0 rfl rfl)
theorem dX2_noPlace_1 : decode cX2_noPlace 1 = .ok (.iload_n 1, 1) := dk_27 (dk_at dksX2_noPlace_0 1 rfl rfl)
theorem dX2_noPlace_2 : decode cX2_noPlace 2 = .ok (.invokevirtual 299, 3) := dk_182 1 43 (dk_at dksX2_noPlace_0 2 rfl rfl)
theorem dX2_noPlace_5 : decode cX2_noPlace 5 = .ok (.ifCond .ne 23, 3) := dk_154 0 23 (dk_at dksX2_noPlace_0 5 rfl rfl)
theorem dX2_noPlace_8 : decode cX2_noPlace 8 = .ok (.aload_n 0, 1) := dk_42 (dk_at dksX2_noPlace_0 8 rfl rfl)
theorem dX2_noPlace_9 : decode cX2_noPlace 9 = .ok (.iload_n 2, 1) := dk_28 (dk_at dksX2_noPlace_0 9 rfl rfl)
theorem dX2_noPlace_10 : decode cX2_noPlace 10 = .ok (.invokestatic 291, 3) := dk_184 1 35 (dk_at dksX2_noPlace_0 10 rfl rfl)
theorem dX2_noPlace_13 : decode cX2_noPlace 13 = .ok (.ifCond .ne 7, 3) := dk_154 0 7 (dk_at dksX2_noPlace_0 13 rfl rfl)
theorem dX2_noPlace_16 : decode cX2_noPlace 16 = .ok (.iconst 1, 1) := dk_4 (dk_at dksX2_noPlace_0 16 rfl rfl)
theorem dX2_noPlace_17 : decode cX2_noPlace 17 = .ok (.goto 4, 3) := dk_167 0 4 (dk_at dksX2_noPlace_0 17 rfl rfl)
theorem dX2_noPlace_20 : decode cX2_noPlace 20 = .ok (.iconst 0, 1) := dk_3 (dk_at dksX2_noPlace_0 20 rfl rfl)
theorem dX2_noPlace_21 : decode cX2_noPlace 21 = .ok (.iconst 2, 1) := dk_5 (dk_at dksX2_noPlace_0 21 rfl rfl)
theorem dX2_noPlace_22 : decode cX2_noPlace 22 = .ok (.invokevirtual 43, 3) := dk_182 0 43 (dk_at dksX2_noPlace_1 0 rfl rfl)
theorem dX2_noPlace_25 : decode cX2_noPlace 25 = .ok (.ifCond .eq 7, 3) := dk_153 0 7 (dk_at dksX2_noPlace_1 3 rfl rfl)
theorem dX2_noPlace_28 : decode cX2_noPlace 28 = .ok (.iconst 1, 1) := dk_4 (dk_at dksX2_noPlace_1 6 rfl rfl)
theorem dX2_noPlace_29 : decode cX2_noPlace 29 = .ok (.goto 4, 3) := dk_167 0 4 (dk_at dksX2_noPlace_1 7 rfl rfl)
theorem dX2_noPlace_32 : decode cX2_noPlace 32 = .ok (.iconst 0, 1) := dk_3 (dk_at dksX2_noPlace_1 10 rfl rfl)
theorem dX2_noPlace_33 : decode cX2_noPlace 33 = .ok (.ireturn, 1) := dk_172 (dk_at dksX2_noPlace_1 11 rfl rfl)
abbrev cX2_isRight : ByteArray := prog_14_method_76_code
def yX2_isRight : MethodName := ⟨RX2, "isRight", "(I)Z"⟩
def dkwX2_isRight_3 : List UInt8 := [172]
abbrev dktX2_isRight_3 : List UInt8 := dkwX2_isRight_3 ++ []
def dkwX2_isRight_2 : List UInt8 := [182, 0, 74, 96, 42, 27, 7, 182, 0, 74, 96, 61, 28, 16, 10, 112, 154, 0, 7, 4, 167, 0, 4, 3]
abbrev dktX2_isRight_2 : List UInt8 := dkwX2_isRight_2 ++ dktX2_isRight_3
def dkwX2_isRight_1 : List UInt8 := [182, 0, 74, 104, 42, 27, 4, 182, 0, 74, 96, 6, 42, 27, 5, 182, 0, 74, 104, 96, 42, 27, 6]
abbrev dktX2_isRight_1 : List UInt8 := dkwX2_isRight_1 ++ dktX2_isRight_2
def dkwX2_isRight_0 : List UInt8 := [42, 27, 182, 1, 43, 154, 0, 11, 42, 27, 182, 0, 103, 158, 0, 5, 3, 172, 6, 42, 27, 3]
abbrev dktX2_isRight_0 : List UInt8 := dkwX2_isRight_0 ++ dktX2_isRight_1
theorem dksX2_isRight_0 : cX2_isRight.data.toList.drop 0 = dktX2_isRight_0 := by decide +kernel
theorem dksX2_isRight_1 : cX2_isRight.data.toList.drop 22 = dktX2_isRight_1 := dk_seg dksX2_isRight_0 22 rfl rfl
theorem dksX2_isRight_2 : cX2_isRight.data.toList.drop 45 = dktX2_isRight_2 := dk_seg dksX2_isRight_1 23 rfl rfl
theorem dksX2_isRight_3 : cX2_isRight.data.toList.drop 69 = dktX2_isRight_3 := dk_seg dksX2_isRight_2 24 rfl rfl
theorem dX2_isRight_0 : decode cX2_isRight 0 = .ok (.aload_n 0, 1) := dk_42 (dk_at dksX2_isRight_0 0 rfl rfl)
theorem dX2_isRight_1 : decode cX2_isRight 1 = .ok (.iload_n 1, 1) := dk_27 (dk_at dksX2_isRight_0 1 rfl rfl)
theorem dX2_isRight_2 : decode cX2_isRight 2 = .ok (.invokevirtual 299, 3) := dk_182 1 43 (dk_at dksX2_isRight_0 2 rfl rfl)
theorem dX2_isRight_5 : decode cX2_isRight 5 = .ok (.ifCond .ne 11, 3) := dk_154 0 11 (dk_at dksX2_isRight_0 5 rfl rfl)
theorem dX2_isRight_8 : decode cX2_isRight 8 = .ok (.aload_n 0, 1) := dk_42 (dk_at dksX2_isRight_0 8 rfl rfl)
theorem dX2_isRight_9 : decode cX2_isRight 9 = .ok (.iload_n 1, 1) := dk_27 (dk_at dksX2_isRight_0 9 rfl rfl)
theorem dX2_isRight_10 : decode cX2_isRight 10 = .ok (.invokevirtual 103, 3) := dk_182 0 103 (dk_at dksX2_isRight_0 10 rfl rfl)
theorem dX2_isRight_13 : decode cX2_isRight 13 = .ok (.ifCond .le 5, 3) := dk_158 0 5 (dk_at dksX2_isRight_0 13 rfl rfl)
theorem dX2_isRight_16 : decode cX2_isRight 16 = .ok (.iconst 0, 1) := dk_3 (dk_at dksX2_isRight_0 16 rfl rfl)
theorem dX2_isRight_17 : decode cX2_isRight 17 = .ok (.ireturn, 1) := dk_172 (dk_at dksX2_isRight_0 17 rfl rfl)
theorem dX2_isRight_18 : decode cX2_isRight 18 = .ok (.iconst 3, 1) := dk_6 (dk_at dksX2_isRight_0 18 rfl rfl)
theorem dX2_isRight_19 : decode cX2_isRight 19 = .ok (.aload_n 0, 1) := dk_42 (dk_at dksX2_isRight_0 19 rfl rfl)
theorem dX2_isRight_20 : decode cX2_isRight 20 = .ok (.iload_n 1, 1) := dk_27 (dk_at dksX2_isRight_0 20 rfl rfl)
theorem dX2_isRight_21 : decode cX2_isRight 21 = .ok (.iconst 0, 1) := dk_3 (dk_at dksX2_isRight_0 21 rfl rfl)
theorem dX2_isRight_22 : decode cX2_isRight 22 = .ok (.invokevirtual 74, 3) := dk_182 0 74 (dk_at dksX2_isRight_1 0 rfl rfl)
theorem dX2_isRight_25 : decode cX2_isRight 25 = .ok (.imul, 1) := dk_104 (dk_at dksX2_isRight_1 3 rfl rfl)
theorem dX2_isRight_26 : decode cX2_isRight 26 = .ok (.aload_n 0, 1) := dk_42 (dk_at dksX2_isRight_1 4 rfl rfl)
theorem dX2_isRight_27 : decode cX2_isRight 27 = .ok (.iload_n 1, 1) := dk_27 (dk_at dksX2_isRight_1 5 rfl rfl)
theorem dX2_isRight_28 : decode cX2_isRight 28 = .ok (.iconst 1, 1) := dk_4 (dk_at dksX2_isRight_1 6 rfl rfl)
theorem dX2_isRight_29 : decode cX2_isRight 29 = .ok (.invokevirtual 74, 3) := dk_182 0 74 (dk_at dksX2_isRight_1 7 rfl rfl)
theorem dX2_isRight_32 : decode cX2_isRight 32 = .ok (.iadd, 1) := dk_96 (dk_at dksX2_isRight_1 10 rfl rfl)
theorem dX2_isRight_33 : decode cX2_isRight 33 = .ok (.iconst 3, 1) := dk_6 (dk_at dksX2_isRight_1 11 rfl rfl)
theorem dX2_isRight_34 : decode cX2_isRight 34 = .ok (.aload_n 0, 1) := dk_42 (dk_at dksX2_isRight_1 12 rfl rfl)
theorem dX2_isRight_35 : decode cX2_isRight 35 = .ok (.iload_n 1, 1) := dk_27 (dk_at dksX2_isRight_1 13 rfl rfl)
theorem dX2_isRight_36 : decode cX2_isRight 36 = .ok (.iconst 2, 1) := dk_5 (dk_at dksX2_isRight_1 14 rfl rfl)
theorem dX2_isRight_37 : decode cX2_isRight 37 = .ok (.invokevirtual 74, 3) := dk_182 0 74 (dk_at dksX2_isRight_1 15 rfl rfl)
theorem dX2_isRight_40 : decode cX2_isRight 40 = .ok (.imul, 1) := dk_104 (dk_at dksX2_isRight_1 18 rfl rfl)
theorem dX2_isRight_41 : decode cX2_isRight 41 = .ok (.iadd, 1) := dk_96 (dk_at dksX2_isRight_1 19 rfl rfl)
theorem dX2_isRight_42 : decode cX2_isRight 42 = .ok (.aload_n 0, 1) := dk_42 (dk_at dksX2_isRight_1 20 rfl rfl)
theorem dX2_isRight_43 : decode cX2_isRight 43 = .ok (.iload_n 1, 1) := dk_27 (dk_at dksX2_isRight_1 21 rfl rfl)
theorem dX2_isRight_44 : decode cX2_isRight 44 = .ok (.iconst 3, 1) := dk_6 (dk_at dksX2_isRight_1 22 rfl rfl)
theorem dX2_isRight_45 : decode cX2_isRight 45 = .ok (.invokevirtual 74, 3) := dk_182 0 74 (dk_at dksX2_isRight_2 0 rfl rfl)
theorem dX2_isRight_48 : decode cX2_isRight 48 = .ok (.iadd, 1) := dk_96 (dk_at dksX2_isRight_2 3 rfl rfl)
theorem dX2_isRight_49 : decode cX2_isRight 49 = .ok (.aload_n 0, 1) := dk_42 (dk_at dksX2_isRight_2 4 rfl rfl)
theorem dX2_isRight_50 : decode cX2_isRight 50 = .ok (.iload_n 1, 1) := dk_27 (dk_at dksX2_isRight_2 5 rfl rfl)
theorem dX2_isRight_51 : decode cX2_isRight 51 = .ok (.iconst 4, 1) := dk_7 (dk_at dksX2_isRight_2 6 rfl rfl)
theorem dX2_isRight_52 : decode cX2_isRight 52 = .ok (.invokevirtual 74, 3) := dk_182 0 74 (dk_at dksX2_isRight_2 7 rfl rfl)
theorem dX2_isRight_55 : decode cX2_isRight 55 = .ok (.iadd, 1) := dk_96 (dk_at dksX2_isRight_2 10 rfl rfl)
theorem dX2_isRight_56 : decode cX2_isRight 56 = .ok (.istore_n 2, 1) := dk_61 (dk_at dksX2_isRight_2 11 rfl rfl)
theorem dX2_isRight_57 : decode cX2_isRight 57 = .ok (.iload_n 2, 1) := dk_28 (dk_at dksX2_isRight_2 12 rfl rfl)
theorem dX2_isRight_58 : decode cX2_isRight 58 = .ok (.bipush 10, 2) := dk_16 10 (dk_at dksX2_isRight_2 13 rfl rfl)
theorem dX2_isRight_60 : decode cX2_isRight 60 = .ok (.irem, 1) := dk_112 (dk_at dksX2_isRight_2 15 rfl rfl)
theorem dX2_isRight_61 : decode cX2_isRight 61 = .ok (.ifCond .ne 7, 3) := dk_154 0 7 (dk_at dksX2_isRight_2 16 rfl rfl)
theorem dX2_isRight_64 : decode cX2_isRight 64 = .ok (.iconst 1, 1) := dk_4 (dk_at dksX2_isRight_2 19 rfl rfl)
theorem dX2_isRight_65 : decode cX2_isRight 65 = .ok (.goto 4, 3) := dk_167 0 4 (dk_at dksX2_isRight_2 20 rfl rfl)
theorem dX2_isRight_68 : decode cX2_isRight 68 = .ok (.iconst 0, 1) := dk_3 (dk_at dksX2_isRight_2 23 rfl rfl)
theorem dX2_isRight_69 : decode cX2_isRight 69 = .ok (.ireturn, 1) := dk_172 (dk_at dksX2_isRight_3 0 rfl rfl)
abbrev cX2_distance : ByteArray := prog_14_method_77_code
def yX2_distance : MethodName := ⟨RX2, "distance", "(II)I"⟩
def dkwX2_distance_1 : List UInt8 := [182, 0, 43, 153, 0, 7, 3, 167, 0, 9, 42, 27, 28, 182, 0, 94, 172]
abbrev dktX2_distance_1 : List UInt8 := dkwX2_distance_1 ++ []
def dkwX2_distance_0 : List UInt8 := [42, 27, 182, 1, 43, 154, 0, 24, 42, 42, 28, 182, 1, 19, 154, 0, 7, 4, 167, 0, 4, 3, 5]
abbrev dktX2_distance_0 : List UInt8 := dkwX2_distance_0 ++ dktX2_distance_1
theorem dksX2_distance_0 : cX2_distance.data.toList.drop 0 = dktX2_distance_0 := by decide +kernel
theorem dksX2_distance_1 : cX2_distance.data.toList.drop 23 = dktX2_distance_1 := dk_seg dksX2_distance_0 23 rfl rfl
theorem dX2_distance_0 : decode cX2_distance 0 = .ok (.aload_n 0, 1) := dk_42 (dk_at dksX2_distance_0 0 rfl rfl)
theorem dX2_distance_1 : decode cX2_distance 1 = .ok (.iload_n 1, 1) := dk_27 (dk_at dksX2_distance_0 1 rfl rfl)
theorem dX2_distance_2 : decode cX2_distance 2 = .ok (.invokevirtual 299, 3) := dk_182 1 43 (dk_at dksX2_distance_0 2 rfl rfl)
theorem dX2_distance_5 : decode cX2_distance 5 = .ok (.ifCond .ne 24, 3) := dk_154 0 24 (dk_at dksX2_distance_0 5 rfl rfl)
theorem dX2_distance_8 : decode cX2_distance 8 = .ok (.aload_n 0, 1) := dk_42 (dk_at dksX2_distance_0 8 rfl rfl)
theorem dX2_distance_9 : decode cX2_distance 9 = .ok (.aload_n 0, 1) := dk_42 (dk_at dksX2_distance_0 9 rfl rfl)
theorem dX2_distance_10 : decode cX2_distance 10 = .ok (.iload_n 2, 1) := dk_28 (dk_at dksX2_distance_0 10 rfl rfl)
theorem dX2_distance_11 : decode cX2_distance 11 = .ok (.invokevirtual 275, 3) := dk_182 1 19 (dk_at dksX2_distance_0 11 rfl rfl)
theorem dX2_distance_14 : decode cX2_distance 14 = .ok (.ifCond .ne 7, 3) := dk_154 0 7 (dk_at dksX2_distance_0 14 rfl rfl)
theorem dX2_distance_17 : decode cX2_distance 17 = .ok (.iconst 1, 1) := dk_4 (dk_at dksX2_distance_0 17 rfl rfl)
theorem dX2_distance_18 : decode cX2_distance 18 = .ok (.goto 4, 3) := dk_167 0 4 (dk_at dksX2_distance_0 18 rfl rfl)
theorem dX2_distance_21 : decode cX2_distance 21 = .ok (.iconst 0, 1) := dk_3 (dk_at dksX2_distance_0 21 rfl rfl)
theorem dX2_distance_22 : decode cX2_distance 22 = .ok (.iconst 2, 1) := dk_5 (dk_at dksX2_distance_0 22 rfl rfl)
theorem dX2_distance_23 : decode cX2_distance 23 = .ok (.invokevirtual 43, 3) := dk_182 0 43 (dk_at dksX2_distance_1 0 rfl rfl)
theorem dX2_distance_26 : decode cX2_distance 26 = .ok (.ifCond .eq 7, 3) := dk_153 0 7 (dk_at dksX2_distance_1 3 rfl rfl)
theorem dX2_distance_29 : decode cX2_distance 29 = .ok (.iconst 0, 1) := dk_3 (dk_at dksX2_distance_1 6 rfl rfl)
theorem dX2_distance_30 : decode cX2_distance 30 = .ok (.goto 9, 3) := dk_167 0 9 (dk_at dksX2_distance_1 7 rfl rfl)
theorem dX2_distance_33 : decode cX2_distance 33 = .ok (.aload_n 0, 1) := dk_42 (dk_at dksX2_distance_1 10 rfl rfl)
theorem dX2_distance_34 : decode cX2_distance 34 = .ok (.iload_n 1, 1) := dk_27 (dk_at dksX2_distance_1 11 rfl rfl)
theorem dX2_distance_35 : decode cX2_distance 35 = .ok (.iload_n 2, 1) := dk_28 (dk_at dksX2_distance_1 12 rfl rfl)
theorem dX2_distance_36 : decode cX2_distance 36 = .ok (.invokevirtual 94, 3) := dk_182 0 94 (dk_at dksX2_distance_1 13 rfl rfl)
theorem dX2_distance_39 : decode cX2_distance 39 = .ok (.ireturn, 1) := dk_172 (dk_at dksX2_distance_1 16 rfl rfl)
abbrev cX2_near : ByteArray := prog_14_method_79_code
def yX2_near : MethodName := ⟨RX2, "near", "(II)I"⟩
def dkwX2_near_0 : List UInt8 := [42, 27, 182, 1, 43, 153, 0, 7, 3, 167, 0, 9, 42, 27, 28, 182, 1, 51, 172]
abbrev dktX2_near_0 : List UInt8 := dkwX2_near_0 ++ []
theorem dksX2_near_0 : cX2_near.data.toList.drop 0 = dktX2_near_0 := by decide +kernel
theorem dX2_near_0 : decode cX2_near 0 = .ok (.aload_n 0, 1) := dk_42 (dk_at dksX2_near_0 0 rfl rfl)
theorem dX2_near_1 : decode cX2_near 1 = .ok (.iload_n 1, 1) := dk_27 (dk_at dksX2_near_0 1 rfl rfl)
theorem dX2_near_2 : decode cX2_near 2 = .ok (.invokevirtual 299, 3) := dk_182 1 43 (dk_at dksX2_near_0 2 rfl rfl)
theorem dX2_near_5 : decode cX2_near 5 = .ok (.ifCond .eq 7, 3) := dk_153 0 7 (dk_at dksX2_near_0 5 rfl rfl)
theorem dX2_near_8 : decode cX2_near 8 = .ok (.iconst 0, 1) := dk_3 (dk_at dksX2_near_0 8 rfl rfl)
theorem dX2_near_9 : decode cX2_near 9 = .ok (.goto 9, 3) := dk_167 0 9 (dk_at dksX2_near_0 9 rfl rfl)
theorem dX2_near_12 : decode cX2_near 12 = .ok (.aload_n 0, 1) := dk_42 (dk_at dksX2_near_0 12 rfl rfl)
theorem dX2_near_13 : decode cX2_near 13 = .ok (.iload_n 1, 1) := dk_27 (dk_at dksX2_near_0 13 rfl rfl)
theorem dX2_near_14 : decode cX2_near 14 = .ok (.iload_n 2, 1) := dk_28 (dk_at dksX2_near_0 14 rfl rfl)
theorem dX2_near_15 : decode cX2_near 15 = .ok (.invokevirtual 307, 3) := dk_182 1 51 (dk_at dksX2_near_0 15 rfl rfl)
theorem dX2_near_18 : decode cX2_near 18 = .ok (.ireturn, 1) := dk_172 (dk_at dksX2_near_0 18 rfl rfl)
abbrev cX2_nearAt : ByteArray := prog_14_method_78_code
def yX2_nearAt : MethodName := ⟨RX2, "nearAt", "(II)I"⟩
def dkwX2_nearAt_2 : List UInt8 := [172, 132, 3, 255, 132, 5, 1, 167, 255, 222, 132, 4, 1, 167, 255, 202, 2, 172]
abbrev dktX2_nearAt_2 : List UInt8 := dkwX2_nearAt_2 ++ []
def dkwX2_nearAt_1 : List UInt8 := [182, 0, 90, 162, 0, 31, 42, 27, 21, 5, 182, 0, 94, 21, 4, 160, 0, 13, 29, 154, 0, 6, 21, 5]
abbrev dktX2_nearAt_1 : List UInt8 := dkwX2_nearAt_1 ++ dktX2_nearAt_2
def dkwX2_nearAt_0 : List UInt8 := [28, 62, 3, 54, 4, 21, 4, 42, 180, 0, 13, 3, 46, 163, 0, 49, 3, 54, 5, 21, 5, 42]
abbrev dktX2_nearAt_0 : List UInt8 := dkwX2_nearAt_0 ++ dktX2_nearAt_1
theorem dksX2_nearAt_0 : cX2_nearAt.data.toList.drop 0 = dktX2_nearAt_0 := by decide +kernel
theorem dksX2_nearAt_1 : cX2_nearAt.data.toList.drop 22 = dktX2_nearAt_1 := dk_seg dksX2_nearAt_0 22 rfl rfl
theorem dksX2_nearAt_2 : cX2_nearAt.data.toList.drop 46 = dktX2_nearAt_2 := dk_seg dksX2_nearAt_1 24 rfl rfl
theorem dX2_nearAt_0 : decode cX2_nearAt 0 = .ok (.iload_n 2, 1) := dk_28 (dk_at dksX2_nearAt_0 0 rfl rfl)
theorem dX2_nearAt_1 : decode cX2_nearAt 1 = .ok (.istore_n 3, 1) := dk_62 (dk_at dksX2_nearAt_0 1 rfl rfl)
theorem dX2_nearAt_2 : decode cX2_nearAt 2 = .ok (.iconst 0, 1) := dk_3 (dk_at dksX2_nearAt_0 2 rfl rfl)
theorem dX2_nearAt_3 : decode cX2_nearAt 3 = .ok (.istore 4, 2) := dk_54 4 (dk_at dksX2_nearAt_0 3 rfl rfl)
theorem dX2_nearAt_5 : decode cX2_nearAt 5 = .ok (.iload 4, 2) := dk_21 4 (dk_at dksX2_nearAt_0 5 rfl rfl)
theorem dX2_nearAt_7 : decode cX2_nearAt 7 = .ok (.aload_n 0, 1) := dk_42 (dk_at dksX2_nearAt_0 7 rfl rfl)
theorem dX2_nearAt_8 : decode cX2_nearAt 8 = .ok (.getfield 13, 3) := dk_180 0 13 (dk_at dksX2_nearAt_0 8 rfl rfl)
theorem dX2_nearAt_11 : decode cX2_nearAt 11 = .ok (.iconst 0, 1) := dk_3 (dk_at dksX2_nearAt_0 11 rfl rfl)
theorem dX2_nearAt_12 : decode cX2_nearAt 12 = .ok (.iaload, 1) := dk_46 (dk_at dksX2_nearAt_0 12 rfl rfl)
theorem dX2_nearAt_13 : decode cX2_nearAt 13 = .ok (.if_icmp .gt 49, 3) := dk_163 0 49 (dk_at dksX2_nearAt_0 13 rfl rfl)
theorem dX2_nearAt_16 : decode cX2_nearAt 16 = .ok (.iconst 0, 1) := dk_3 (dk_at dksX2_nearAt_0 16 rfl rfl)
theorem dX2_nearAt_17 : decode cX2_nearAt 17 = .ok (.istore 5, 2) := dk_54 5 (dk_at dksX2_nearAt_0 17 rfl rfl)
theorem dX2_nearAt_19 : decode cX2_nearAt 19 = .ok (.iload 5, 2) := dk_21 5 (dk_at dksX2_nearAt_0 19 rfl rfl)
theorem dX2_nearAt_21 : decode cX2_nearAt 21 = .ok (.aload_n 0, 1) := dk_42 (dk_at dksX2_nearAt_0 21 rfl rfl)
theorem dX2_nearAt_22 : decode cX2_nearAt 22 = .ok (.invokevirtual 90, 3) := dk_182 0 90 (dk_at dksX2_nearAt_1 0 rfl rfl)
theorem dX2_nearAt_25 : decode cX2_nearAt 25 = .ok (.if_icmp .ge 31, 3) := dk_162 0 31 (dk_at dksX2_nearAt_1 3 rfl rfl)
theorem dX2_nearAt_28 : decode cX2_nearAt 28 = .ok (.aload_n 0, 1) := dk_42 (dk_at dksX2_nearAt_1 6 rfl rfl)
theorem dX2_nearAt_29 : decode cX2_nearAt 29 = .ok (.iload_n 1, 1) := dk_27 (dk_at dksX2_nearAt_1 7 rfl rfl)
theorem dX2_nearAt_30 : decode cX2_nearAt 30 = .ok (.iload 5, 2) := dk_21 5 (dk_at dksX2_nearAt_1 8 rfl rfl)
theorem dX2_nearAt_32 : decode cX2_nearAt 32 = .ok (.invokevirtual 94, 3) := dk_182 0 94 (dk_at dksX2_nearAt_1 10 rfl rfl)
theorem dX2_nearAt_35 : decode cX2_nearAt 35 = .ok (.iload 4, 2) := dk_21 4 (dk_at dksX2_nearAt_1 13 rfl rfl)
theorem dX2_nearAt_37 : decode cX2_nearAt 37 = .ok (.if_icmp .ne 13, 3) := dk_160 0 13 (dk_at dksX2_nearAt_1 15 rfl rfl)
theorem dX2_nearAt_40 : decode cX2_nearAt 40 = .ok (.iload_n 3, 1) := dk_29 (dk_at dksX2_nearAt_1 18 rfl rfl)
theorem dX2_nearAt_41 : decode cX2_nearAt 41 = .ok (.ifCond .ne 6, 3) := dk_154 0 6 (dk_at dksX2_nearAt_1 19 rfl rfl)
theorem dX2_nearAt_44 : decode cX2_nearAt 44 = .ok (.iload 5, 2) := dk_21 5 (dk_at dksX2_nearAt_1 22 rfl rfl)
theorem dX2_nearAt_46 : decode cX2_nearAt 46 = .ok (.ireturn, 1) := dk_172 (dk_at dksX2_nearAt_2 0 rfl rfl)
theorem dX2_nearAt_47 : decode cX2_nearAt 47 = .ok (.iinc 3 (-1), 3) := dk_132 3 255 (dk_at dksX2_nearAt_2 1 rfl rfl)
theorem dX2_nearAt_50 : decode cX2_nearAt 50 = .ok (.iinc 5 1, 3) := dk_132 5 1 (dk_at dksX2_nearAt_2 4 rfl rfl)
theorem dX2_nearAt_53 : decode cX2_nearAt 53 = .ok (.goto (-34), 3) := dk_167 255 222 (dk_at dksX2_nearAt_2 7 rfl rfl)
theorem dX2_nearAt_56 : decode cX2_nearAt 56 = .ok (.iinc 4 1, 3) := dk_132 4 1 (dk_at dksX2_nearAt_2 10 rfl rfl)
theorem dX2_nearAt_59 : decode cX2_nearAt 59 = .ok (.goto (-54), 3) := dk_167 255 202 (dk_at dksX2_nearAt_2 13 rfl rfl)
theorem dX2_nearAt_62 : decode cX2_nearAt 62 = .ok (.iconst (-1), 1) := dk_2 (dk_at dksX2_nearAt_2 16 rfl rfl)
theorem dX2_nearAt_63 : decode cX2_nearAt 63 = .ok (.ireturn, 1) := dk_172 (dk_at dksX2_nearAt_2 17 rfl rfl)
abbrev cX2_decided : ByteArray := prog_14_method_80_code
def yX2_decided : MethodName := ⟨RX2, "decided", "(I)I"⟩
def dkwX2_decided_0 : List UInt8 := [42, 27, 182, 1, 43, 153, 0, 7, 3, 167, 0, 8, 42, 27, 182, 0, 121, 172]
abbrev dktX2_decided_0 : List UInt8 := dkwX2_decided_0 ++ []
theorem dksX2_decided_0 : cX2_decided.data.toList.drop 0 = dktX2_decided_0 := by decide +kernel
theorem dX2_decided_0 : decode cX2_decided 0 = .ok (.aload_n 0, 1) := dk_42 (dk_at dksX2_decided_0 0 rfl rfl)
theorem dX2_decided_1 : decode cX2_decided 1 = .ok (.iload_n 1, 1) := dk_27 (dk_at dksX2_decided_0 1 rfl rfl)
theorem dX2_decided_2 : decode cX2_decided 2 = .ok (.invokevirtual 299, 3) := dk_182 1 43 (dk_at dksX2_decided_0 2 rfl rfl)
theorem dX2_decided_5 : decode cX2_decided 5 = .ok (.ifCond .eq 7, 3) := dk_153 0 7 (dk_at dksX2_decided_0 5 rfl rfl)
theorem dX2_decided_8 : decode cX2_decided 8 = .ok (.iconst 0, 1) := dk_3 (dk_at dksX2_decided_0 8 rfl rfl)
theorem dX2_decided_9 : decode cX2_decided 9 = .ok (.goto 8, 3) := dk_167 0 8 (dk_at dksX2_decided_0 9 rfl rfl)
theorem dX2_decided_12 : decode cX2_decided 12 = .ok (.aload_n 0, 1) := dk_42 (dk_at dksX2_decided_0 12 rfl rfl)
theorem dX2_decided_13 : decode cX2_decided 13 = .ok (.iload_n 1, 1) := dk_27 (dk_at dksX2_decided_0 13 rfl rfl)
theorem dX2_decided_14 : decode cX2_decided 14 = .ok (.invokevirtual 121, 3) := dk_182 0 121 (dk_at dksX2_decided_0 14 rfl rfl)
theorem dX2_decided_17 : decode cX2_decided 17 = .ok (.ireturn, 1) := dk_172 (dk_at dksX2_decided_0 17 rfl rfl)
abbrev cX2_how : ByteArray := prog_14_method_81_code
def yX2_how : MethodName := ⟨RX2, "how", "(I)I"⟩
def dkwX2_how_2 : List UInt8 := [167, 0, 4, 6, 172]
abbrev dktX2_how_2 : List UInt8 := dkwX2_how_2 ++ []
def dkwX2_how_1 : List UInt8 := [182, 0, 94, 154, 0, 7, 4, 167, 0, 4, 5, 172, 42, 27, 182, 0, 118, 2, 160, 0, 7, 3]
abbrev dktX2_how_1 : List UInt8 := dkwX2_how_1 ++ dktX2_how_2
def dkwX2_how_0 : List UInt8 := [42, 27, 182, 1, 43, 153, 0, 5, 3, 172, 42, 27, 182, 0, 112, 61, 28, 2, 159, 0, 18, 42, 27, 28]
abbrev dktX2_how_0 : List UInt8 := dkwX2_how_0 ++ dktX2_how_1
theorem dksX2_how_0 : cX2_how.data.toList.drop 0 = dktX2_how_0 := by decide +kernel
theorem dksX2_how_1 : cX2_how.data.toList.drop 24 = dktX2_how_1 := dk_seg dksX2_how_0 24 rfl rfl
theorem dksX2_how_2 : cX2_how.data.toList.drop 46 = dktX2_how_2 := dk_seg dksX2_how_1 22 rfl rfl
theorem dX2_how_0 : decode cX2_how 0 = .ok (.aload_n 0, 1) := dk_42 (dk_at dksX2_how_0 0 rfl rfl)
theorem dX2_how_1 : decode cX2_how 1 = .ok (.iload_n 1, 1) := dk_27 (dk_at dksX2_how_0 1 rfl rfl)
theorem dX2_how_2 : decode cX2_how 2 = .ok (.invokevirtual 299, 3) := dk_182 1 43 (dk_at dksX2_how_0 2 rfl rfl)
theorem dX2_how_5 : decode cX2_how 5 = .ok (.ifCond .eq 5, 3) := dk_153 0 5 (dk_at dksX2_how_0 5 rfl rfl)
theorem dX2_how_8 : decode cX2_how 8 = .ok (.iconst 0, 1) := dk_3 (dk_at dksX2_how_0 8 rfl rfl)
theorem dX2_how_9 : decode cX2_how 9 = .ok (.ireturn, 1) := dk_172 (dk_at dksX2_how_0 9 rfl rfl)
theorem dX2_how_10 : decode cX2_how 10 = .ok (.aload_n 0, 1) := dk_42 (dk_at dksX2_how_0 10 rfl rfl)
theorem dX2_how_11 : decode cX2_how 11 = .ok (.iload_n 1, 1) := dk_27 (dk_at dksX2_how_0 11 rfl rfl)
theorem dX2_how_12 : decode cX2_how 12 = .ok (.invokevirtual 112, 3) := dk_182 0 112 (dk_at dksX2_how_0 12 rfl rfl)
theorem dX2_how_15 : decode cX2_how 15 = .ok (.istore_n 2, 1) := dk_61 (dk_at dksX2_how_0 15 rfl rfl)
theorem dX2_how_16 : decode cX2_how 16 = .ok (.iload_n 2, 1) := dk_28 (dk_at dksX2_how_0 16 rfl rfl)
theorem dX2_how_17 : decode cX2_how 17 = .ok (.iconst (-1), 1) := dk_2 (dk_at dksX2_how_0 17 rfl rfl)
theorem dX2_how_18 : decode cX2_how 18 = .ok (.if_icmp .eq 18, 3) := dk_159 0 18 (dk_at dksX2_how_0 18 rfl rfl)
theorem dX2_how_21 : decode cX2_how 21 = .ok (.aload_n 0, 1) := dk_42 (dk_at dksX2_how_0 21 rfl rfl)
theorem dX2_how_22 : decode cX2_how 22 = .ok (.iload_n 1, 1) := dk_27 (dk_at dksX2_how_0 22 rfl rfl)
theorem dX2_how_23 : decode cX2_how 23 = .ok (.iload_n 2, 1) := dk_28 (dk_at dksX2_how_0 23 rfl rfl)
theorem dX2_how_24 : decode cX2_how 24 = .ok (.invokevirtual 94, 3) := dk_182 0 94 (dk_at dksX2_how_1 0 rfl rfl)
theorem dX2_how_27 : decode cX2_how 27 = .ok (.ifCond .ne 7, 3) := dk_154 0 7 (dk_at dksX2_how_1 3 rfl rfl)
theorem dX2_how_30 : decode cX2_how 30 = .ok (.iconst 1, 1) := dk_4 (dk_at dksX2_how_1 6 rfl rfl)
theorem dX2_how_31 : decode cX2_how 31 = .ok (.goto 4, 3) := dk_167 0 4 (dk_at dksX2_how_1 7 rfl rfl)
theorem dX2_how_34 : decode cX2_how 34 = .ok (.iconst 2, 1) := dk_5 (dk_at dksX2_how_1 10 rfl rfl)
theorem dX2_how_35 : decode cX2_how 35 = .ok (.ireturn, 1) := dk_172 (dk_at dksX2_how_1 11 rfl rfl)
theorem dX2_how_36 : decode cX2_how 36 = .ok (.aload_n 0, 1) := dk_42 (dk_at dksX2_how_1 12 rfl rfl)
theorem dX2_how_37 : decode cX2_how 37 = .ok (.iload_n 1, 1) := dk_27 (dk_at dksX2_how_1 13 rfl rfl)
theorem dX2_how_38 : decode cX2_how 38 = .ok (.invokevirtual 118, 3) := dk_182 0 118 (dk_at dksX2_how_1 14 rfl rfl)
theorem dX2_how_41 : decode cX2_how 41 = .ok (.iconst (-1), 1) := dk_2 (dk_at dksX2_how_1 17 rfl rfl)
theorem dX2_how_42 : decode cX2_how 42 = .ok (.if_icmp .ne 7, 3) := dk_160 0 7 (dk_at dksX2_how_1 18 rfl rfl)
theorem dX2_how_45 : decode cX2_how 45 = .ok (.iconst 0, 1) := dk_3 (dk_at dksX2_how_1 21 rfl rfl)
theorem dX2_how_46 : decode cX2_how 46 = .ok (.goto 4, 3) := dk_167 0 4 (dk_at dksX2_how_2 0 rfl rfl)
theorem dX2_how_49 : decode cX2_how 49 = .ok (.iconst 3, 1) := dk_6 (dk_at dksX2_how_2 3 rfl rfl)
theorem dX2_how_50 : decode cX2_how 50 = .ok (.ireturn, 1) := dk_172 (dk_at dksX2_how_2 4 rfl rfl)
abbrev cX2_whyNot : ByteArray := prog_14_method_82_code
def yX2_whyNot : MethodName := ⟨RX2, "whyNot", "(I)I"⟩
def dkwX2_whyNot_0 : List UInt8 := [42, 27, 182, 1, 43, 153, 0, 7, 3, 167, 0, 8, 42, 27, 182, 0, 127, 172]
abbrev dktX2_whyNot_0 : List UInt8 := dkwX2_whyNot_0 ++ []
theorem dksX2_whyNot_0 : cX2_whyNot.data.toList.drop 0 = dktX2_whyNot_0 := by decide +kernel
theorem dX2_whyNot_0 : decode cX2_whyNot 0 = .ok (.aload_n 0, 1) := dk_42 (dk_at dksX2_whyNot_0 0 rfl rfl)
theorem dX2_whyNot_1 : decode cX2_whyNot 1 = .ok (.iload_n 1, 1) := dk_27 (dk_at dksX2_whyNot_0 1 rfl rfl)
theorem dX2_whyNot_2 : decode cX2_whyNot 2 = .ok (.invokevirtual 299, 3) := dk_182 1 43 (dk_at dksX2_whyNot_0 2 rfl rfl)
theorem dX2_whyNot_5 : decode cX2_whyNot 5 = .ok (.ifCond .eq 7, 3) := dk_153 0 7 (dk_at dksX2_whyNot_0 5 rfl rfl)
theorem dX2_whyNot_8 : decode cX2_whyNot 8 = .ok (.iconst 0, 1) := dk_3 (dk_at dksX2_whyNot_0 8 rfl rfl)
theorem dX2_whyNot_9 : decode cX2_whyNot 9 = .ok (.goto 8, 3) := dk_167 0 8 (dk_at dksX2_whyNot_0 9 rfl rfl)
theorem dX2_whyNot_12 : decode cX2_whyNot 12 = .ok (.aload_n 0, 1) := dk_42 (dk_at dksX2_whyNot_0 12 rfl rfl)
theorem dX2_whyNot_13 : decode cX2_whyNot 13 = .ok (.iload_n 1, 1) := dk_27 (dk_at dksX2_whyNot_0 13 rfl rfl)
theorem dX2_whyNot_14 : decode cX2_whyNot 14 = .ok (.invokevirtual 127, 3) := dk_182 0 127 (dk_at dksX2_whyNot_0 14 rfl rfl)
theorem dX2_whyNot_17 : decode cX2_whyNot 17 = .ok (.ireturn, 1) := dk_172 (dk_at dksX2_whyNot_0 17 rfl rfl)
abbrev cX2_margin : ByteArray := prog_14_method_83_code
def yX2_margin : MethodName := ⟨RX2, "margin", "(I)I"⟩
def dkwX2_margin_5 : List UInt8 := [28, 100, 172]
abbrev dktX2_margin_5 : List UInt8 := dkwX2_margin_5 ++ []
def dkwX2_margin_4 : List UInt8 := [167, 255, 190, 29, 4, 164, 0, 7, 3, 167, 0, 17, 21, 4, 2, 160, 0, 7, 2, 167, 0, 7, 21, 4]
abbrev dktX2_margin_4 : List UInt8 := dkwX2_margin_4 ++ dktX2_margin_5
def dkwX2_margin_3 : List UInt8 := [159, 0, 10, 21, 6, 21, 4, 162, 0, 8, 21, 6, 167, 0, 5, 21, 4, 54, 4, 132, 5, 1]
abbrev dktX2_margin_3 : List UInt8 := dkwX2_margin_3 ++ dktX2_margin_4
def dkwX2_margin_2 : List UInt8 := [160, 0, 7, 4, 167, 0, 4, 3, 184, 0, 86, 96, 62, 21, 6, 28, 164, 0, 21, 21, 4, 2]
abbrev dktX2_margin_2 : List UInt8 := dkwX2_margin_2 ++ dktX2_margin_3
def dkwX2_margin_1 : List UInt8 := [21, 5, 42, 182, 0, 90, 162, 0, 63, 42, 27, 21, 5, 182, 0, 94, 54, 6, 29, 21, 6, 28]
abbrev dktX2_margin_1 : List UInt8 := dkwX2_margin_1 ++ dktX2_margin_2
def dkwX2_margin_0 : List UInt8 := [42, 27, 182, 1, 43, 153, 0, 5, 3, 172, 42, 27, 182, 0, 97, 61, 3, 62, 2, 54, 4, 3, 54, 5]
abbrev dktX2_margin_0 : List UInt8 := dkwX2_margin_0 ++ dktX2_margin_1
theorem dksX2_margin_0 : cX2_margin.data.toList.drop 0 = dktX2_margin_0 := by decide +kernel
theorem dksX2_margin_1 : cX2_margin.data.toList.drop 24 = dktX2_margin_1 := dk_seg dksX2_margin_0 24 rfl rfl
theorem dksX2_margin_2 : cX2_margin.data.toList.drop 46 = dktX2_margin_2 := dk_seg dksX2_margin_1 22 rfl rfl
theorem dksX2_margin_3 : cX2_margin.data.toList.drop 68 = dktX2_margin_3 := dk_seg dksX2_margin_2 22 rfl rfl
theorem dksX2_margin_4 : cX2_margin.data.toList.drop 90 = dktX2_margin_4 := dk_seg dksX2_margin_3 22 rfl rfl
theorem dksX2_margin_5 : cX2_margin.data.toList.drop 114 = dktX2_margin_5 := dk_seg dksX2_margin_4 24 rfl rfl
theorem dX2_margin_0 : decode cX2_margin 0 = .ok (.aload_n 0, 1) := dk_42 (dk_at dksX2_margin_0 0 rfl rfl)
theorem dX2_margin_1 : decode cX2_margin 1 = .ok (.iload_n 1, 1) := dk_27 (dk_at dksX2_margin_0 1 rfl rfl)
theorem dX2_margin_2 : decode cX2_margin 2 = .ok (.invokevirtual 299, 3) := dk_182 1 43 (dk_at dksX2_margin_0 2 rfl rfl)
theorem dX2_margin_5 : decode cX2_margin 5 = .ok (.ifCond .eq 5, 3) := dk_153 0 5 (dk_at dksX2_margin_0 5 rfl rfl)
theorem dX2_margin_8 : decode cX2_margin 8 = .ok (.iconst 0, 1) := dk_3 (dk_at dksX2_margin_0 8 rfl rfl)
theorem dX2_margin_9 : decode cX2_margin 9 = .ok (.ireturn, 1) := dk_172 (dk_at dksX2_margin_0 9 rfl rfl)
theorem dX2_margin_10 : decode cX2_margin 10 = .ok (.aload_n 0, 1) := dk_42 (dk_at dksX2_margin_0 10 rfl rfl)
theorem dX2_margin_11 : decode cX2_margin 11 = .ok (.iload_n 1, 1) := dk_27 (dk_at dksX2_margin_0 11 rfl rfl)
theorem dX2_margin_12 : decode cX2_margin 12 = .ok (.invokevirtual 97, 3) := dk_182 0 97 (dk_at dksX2_margin_0 12 rfl rfl)
theorem dX2_margin_15 : decode cX2_margin 15 = .ok (.istore_n 2, 1) := dk_61 (dk_at dksX2_margin_0 15 rfl rfl)
theorem dX2_margin_16 : decode cX2_margin 16 = .ok (.iconst 0, 1) := dk_3 (dk_at dksX2_margin_0 16 rfl rfl)
theorem dX2_margin_17 : decode cX2_margin 17 = .ok (.istore_n 3, 1) := dk_62 (dk_at dksX2_margin_0 17 rfl rfl)
theorem dX2_margin_18 : decode cX2_margin 18 = .ok (.iconst (-1), 1) := dk_2 (dk_at dksX2_margin_0 18 rfl rfl)
theorem dX2_margin_19 : decode cX2_margin 19 = .ok (.istore 4, 2) := dk_54 4 (dk_at dksX2_margin_0 19 rfl rfl)
theorem dX2_margin_21 : decode cX2_margin 21 = .ok (.iconst 0, 1) := dk_3 (dk_at dksX2_margin_0 21 rfl rfl)
theorem dX2_margin_22 : decode cX2_margin 22 = .ok (.istore 5, 2) := dk_54 5 (dk_at dksX2_margin_0 22 rfl rfl)
theorem dX2_margin_24 : decode cX2_margin 24 = .ok (.iload 5, 2) := dk_21 5 (dk_at dksX2_margin_1 0 rfl rfl)
theorem dX2_margin_26 : decode cX2_margin 26 = .ok (.aload_n 0, 1) := dk_42 (dk_at dksX2_margin_1 2 rfl rfl)
theorem dX2_margin_27 : decode cX2_margin 27 = .ok (.invokevirtual 90, 3) := dk_182 0 90 (dk_at dksX2_margin_1 3 rfl rfl)
theorem dX2_margin_30 : decode cX2_margin 30 = .ok (.if_icmp .ge 63, 3) := dk_162 0 63 (dk_at dksX2_margin_1 6 rfl rfl)
theorem dX2_margin_33 : decode cX2_margin 33 = .ok (.aload_n 0, 1) := dk_42 (dk_at dksX2_margin_1 9 rfl rfl)
theorem dX2_margin_34 : decode cX2_margin 34 = .ok (.iload_n 1, 1) := dk_27 (dk_at dksX2_margin_1 10 rfl rfl)
theorem dX2_margin_35 : decode cX2_margin 35 = .ok (.iload 5, 2) := dk_21 5 (dk_at dksX2_margin_1 11 rfl rfl)
theorem dX2_margin_37 : decode cX2_margin 37 = .ok (.invokevirtual 94, 3) := dk_182 0 94 (dk_at dksX2_margin_1 13 rfl rfl)
theorem dX2_margin_40 : decode cX2_margin 40 = .ok (.istore 6, 2) := dk_54 6 (dk_at dksX2_margin_1 16 rfl rfl)
theorem dX2_margin_42 : decode cX2_margin 42 = .ok (.iload_n 3, 1) := dk_29 (dk_at dksX2_margin_1 18 rfl rfl)
theorem dX2_margin_43 : decode cX2_margin 43 = .ok (.iload 6, 2) := dk_21 6 (dk_at dksX2_margin_1 19 rfl rfl)
theorem dX2_margin_45 : decode cX2_margin 45 = .ok (.iload_n 2, 1) := dk_28 (dk_at dksX2_margin_1 21 rfl rfl)
theorem dX2_margin_46 : decode cX2_margin 46 = .ok (.if_icmp .ne 7, 3) := dk_160 0 7 (dk_at dksX2_margin_2 0 rfl rfl)
theorem dX2_margin_49 : decode cX2_margin 49 = .ok (.iconst 1, 1) := dk_4 (dk_at dksX2_margin_2 3 rfl rfl)
theorem dX2_margin_50 : decode cX2_margin 50 = .ok (.goto 4, 3) := dk_167 0 4 (dk_at dksX2_margin_2 4 rfl rfl)
theorem dX2_margin_53 : decode cX2_margin 53 = .ok (.iconst 0, 1) := dk_3 (dk_at dksX2_margin_2 7 rfl rfl)
theorem dX2_margin_54 : decode cX2_margin 54 = .ok (.invokestatic 86, 3) := dk_184 0 86 (dk_at dksX2_margin_2 8 rfl rfl)
theorem dX2_margin_57 : decode cX2_margin 57 = .ok (.iadd, 1) := dk_96 (dk_at dksX2_margin_2 11 rfl rfl)
theorem dX2_margin_58 : decode cX2_margin 58 = .ok (.istore_n 3, 1) := dk_62 (dk_at dksX2_margin_2 12 rfl rfl)
theorem dX2_margin_59 : decode cX2_margin 59 = .ok (.iload 6, 2) := dk_21 6 (dk_at dksX2_margin_2 13 rfl rfl)
theorem dX2_margin_61 : decode cX2_margin 61 = .ok (.iload_n 2, 1) := dk_28 (dk_at dksX2_margin_2 15 rfl rfl)
theorem dX2_margin_62 : decode cX2_margin 62 = .ok (.if_icmp .le 21, 3) := dk_164 0 21 (dk_at dksX2_margin_2 16 rfl rfl)
theorem dX2_margin_65 : decode cX2_margin 65 = .ok (.iload 4, 2) := dk_21 4 (dk_at dksX2_margin_2 19 rfl rfl)
theorem dX2_margin_67 : decode cX2_margin 67 = .ok (.iconst (-1), 1) := dk_2 (dk_at dksX2_margin_2 21 rfl rfl)
theorem dX2_margin_68 : decode cX2_margin 68 = .ok (.if_icmp .eq 10, 3) := dk_159 0 10 (dk_at dksX2_margin_3 0 rfl rfl)
theorem dX2_margin_71 : decode cX2_margin 71 = .ok (.iload 6, 2) := dk_21 6 (dk_at dksX2_margin_3 3 rfl rfl)
theorem dX2_margin_73 : decode cX2_margin 73 = .ok (.iload 4, 2) := dk_21 4 (dk_at dksX2_margin_3 5 rfl rfl)
theorem dX2_margin_75 : decode cX2_margin 75 = .ok (.if_icmp .ge 8, 3) := dk_162 0 8 (dk_at dksX2_margin_3 7 rfl rfl)
theorem dX2_margin_78 : decode cX2_margin 78 = .ok (.iload 6, 2) := dk_21 6 (dk_at dksX2_margin_3 10 rfl rfl)
theorem dX2_margin_80 : decode cX2_margin 80 = .ok (.goto 5, 3) := dk_167 0 5 (dk_at dksX2_margin_3 12 rfl rfl)
theorem dX2_margin_83 : decode cX2_margin 83 = .ok (.iload 4, 2) := dk_21 4 (dk_at dksX2_margin_3 15 rfl rfl)
theorem dX2_margin_85 : decode cX2_margin 85 = .ok (.istore 4, 2) := dk_54 4 (dk_at dksX2_margin_3 17 rfl rfl)
theorem dX2_margin_87 : decode cX2_margin 87 = .ok (.iinc 5 1, 3) := dk_132 5 1 (dk_at dksX2_margin_3 19 rfl rfl)
theorem dX2_margin_90 : decode cX2_margin 90 = .ok (.goto (-66), 3) := dk_167 255 190 (dk_at dksX2_margin_4 0 rfl rfl)
theorem dX2_margin_93 : decode cX2_margin 93 = .ok (.iload_n 3, 1) := dk_29 (dk_at dksX2_margin_4 3 rfl rfl)
theorem dX2_margin_94 : decode cX2_margin 94 = .ok (.iconst 1, 1) := dk_4 (dk_at dksX2_margin_4 4 rfl rfl)
theorem dX2_margin_95 : decode cX2_margin 95 = .ok (.if_icmp .le 7, 3) := dk_164 0 7 (dk_at dksX2_margin_4 5 rfl rfl)
theorem dX2_margin_98 : decode cX2_margin 98 = .ok (.iconst 0, 1) := dk_3 (dk_at dksX2_margin_4 8 rfl rfl)
theorem dX2_margin_99 : decode cX2_margin 99 = .ok (.goto 17, 3) := dk_167 0 17 (dk_at dksX2_margin_4 9 rfl rfl)
theorem dX2_margin_102 : decode cX2_margin 102 = .ok (.iload 4, 2) := dk_21 4 (dk_at dksX2_margin_4 12 rfl rfl)
theorem dX2_margin_104 : decode cX2_margin 104 = .ok (.iconst (-1), 1) := dk_2 (dk_at dksX2_margin_4 14 rfl rfl)
theorem dX2_margin_105 : decode cX2_margin 105 = .ok (.if_icmp .ne 7, 3) := dk_160 0 7 (dk_at dksX2_margin_4 15 rfl rfl)
theorem dX2_margin_108 : decode cX2_margin 108 = .ok (.iconst (-1), 1) := dk_2 (dk_at dksX2_margin_4 18 rfl rfl)
theorem dX2_margin_109 : decode cX2_margin 109 = .ok (.goto 7, 3) := dk_167 0 7 (dk_at dksX2_margin_4 19 rfl rfl)
theorem dX2_margin_112 : decode cX2_margin 112 = .ok (.iload 4, 2) := dk_21 4 (dk_at dksX2_margin_4 22 rfl rfl)
theorem dX2_margin_114 : decode cX2_margin 114 = .ok (.iload_n 2, 1) := dk_28 (dk_at dksX2_margin_5 0 rfl rfl)
theorem dX2_margin_115 : decode cX2_margin 115 = .ok (.isub, 1) := dk_100 (dk_at dksX2_margin_5 1 rfl rfl)
theorem dX2_margin_116 : decode cX2_margin 116 = .ok (.ireturn, 1) := dk_172 (dk_at dksX2_margin_5 2 rfl rfl)
abbrev cX2_mended : ByteArray := prog_14_method_84_code
def yX2_mended : MethodName := ⟨RX2, "mended", "(I)I"⟩
def dkwX2_mended_3 : List UInt8 := [160, 0, 7, 2, 167, 0, 4, 29, 172]
abbrev dktX2_mended_3 : List UInt8 := dkwX2_mended_3 ++ []
def dkwX2_mended_2 : List UInt8 := [184, 0, 58, 159, 0, 7, 4, 167, 0, 4, 3, 184, 0, 86, 96, 62, 132, 4, 1, 167, 255, 211, 28, 2]
abbrev dktX2_mended_2 : List UInt8 := dkwX2_mended_2 ++ dktX2_mended_3
def dkwX2_mended_1 : List UInt8 := [159, 0, 46, 21, 4, 8, 162, 0, 40, 29, 42, 27, 21, 4, 182, 0, 74, 42, 28, 182, 0, 80, 21, 4]
abbrev dktX2_mended_1 : List UInt8 := dkwX2_mended_1 ++ dktX2_mended_2
def dkwX2_mended_0 : List UInt8 := [42, 27, 182, 1, 43, 153, 0, 5, 3, 172, 42, 27, 182, 0, 121, 61, 3, 62, 3, 54, 4, 28, 2]
abbrev dktX2_mended_0 : List UInt8 := dkwX2_mended_0 ++ dktX2_mended_1
theorem dksX2_mended_0 : cX2_mended.data.toList.drop 0 = dktX2_mended_0 := by decide +kernel
theorem dksX2_mended_1 : cX2_mended.data.toList.drop 23 = dktX2_mended_1 := dk_seg dksX2_mended_0 23 rfl rfl
theorem dksX2_mended_2 : cX2_mended.data.toList.drop 47 = dktX2_mended_2 := dk_seg dksX2_mended_1 24 rfl rfl
theorem dksX2_mended_3 : cX2_mended.data.toList.drop 71 = dktX2_mended_3 := dk_seg dksX2_mended_2 24 rfl rfl
theorem dX2_mended_0 : decode cX2_mended 0 = .ok (.aload_n 0, 1) := dk_42 (dk_at dksX2_mended_0 0 rfl rfl)
theorem dX2_mended_1 : decode cX2_mended 1 = .ok (.iload_n 1, 1) := dk_27 (dk_at dksX2_mended_0 1 rfl rfl)
theorem dX2_mended_2 : decode cX2_mended 2 = .ok (.invokevirtual 299, 3) := dk_182 1 43 (dk_at dksX2_mended_0 2 rfl rfl)
theorem dX2_mended_5 : decode cX2_mended 5 = .ok (.ifCond .eq 5, 3) := dk_153 0 5 (dk_at dksX2_mended_0 5 rfl rfl)
theorem dX2_mended_8 : decode cX2_mended 8 = .ok (.iconst 0, 1) := dk_3 (dk_at dksX2_mended_0 8 rfl rfl)
theorem dX2_mended_9 : decode cX2_mended 9 = .ok (.ireturn, 1) := dk_172 (dk_at dksX2_mended_0 9 rfl rfl)
theorem dX2_mended_10 : decode cX2_mended 10 = .ok (.aload_n 0, 1) := dk_42 (dk_at dksX2_mended_0 10 rfl rfl)
theorem dX2_mended_11 : decode cX2_mended 11 = .ok (.iload_n 1, 1) := dk_27 (dk_at dksX2_mended_0 11 rfl rfl)
theorem dX2_mended_12 : decode cX2_mended 12 = .ok (.invokevirtual 121, 3) := dk_182 0 121 (dk_at dksX2_mended_0 12 rfl rfl)
theorem dX2_mended_15 : decode cX2_mended 15 = .ok (.istore_n 2, 1) := dk_61 (dk_at dksX2_mended_0 15 rfl rfl)
theorem dX2_mended_16 : decode cX2_mended 16 = .ok (.iconst 0, 1) := dk_3 (dk_at dksX2_mended_0 16 rfl rfl)
theorem dX2_mended_17 : decode cX2_mended 17 = .ok (.istore_n 3, 1) := dk_62 (dk_at dksX2_mended_0 17 rfl rfl)
theorem dX2_mended_18 : decode cX2_mended 18 = .ok (.iconst 0, 1) := dk_3 (dk_at dksX2_mended_0 18 rfl rfl)
theorem dX2_mended_19 : decode cX2_mended 19 = .ok (.istore 4, 2) := dk_54 4 (dk_at dksX2_mended_0 19 rfl rfl)
theorem dX2_mended_21 : decode cX2_mended 21 = .ok (.iload_n 2, 1) := dk_28 (dk_at dksX2_mended_0 21 rfl rfl)
theorem dX2_mended_22 : decode cX2_mended 22 = .ok (.iconst (-1), 1) := dk_2 (dk_at dksX2_mended_0 22 rfl rfl)
theorem dX2_mended_23 : decode cX2_mended 23 = .ok (.if_icmp .eq 46, 3) := dk_159 0 46 (dk_at dksX2_mended_1 0 rfl rfl)
theorem dX2_mended_26 : decode cX2_mended 26 = .ok (.iload 4, 2) := dk_21 4 (dk_at dksX2_mended_1 3 rfl rfl)
theorem dX2_mended_28 : decode cX2_mended 28 = .ok (.iconst 5, 1) := dk_8 (dk_at dksX2_mended_1 5 rfl rfl)
theorem dX2_mended_29 : decode cX2_mended 29 = .ok (.if_icmp .ge 40, 3) := dk_162 0 40 (dk_at dksX2_mended_1 6 rfl rfl)
theorem dX2_mended_32 : decode cX2_mended 32 = .ok (.iload_n 3, 1) := dk_29 (dk_at dksX2_mended_1 9 rfl rfl)
theorem dX2_mended_33 : decode cX2_mended 33 = .ok (.aload_n 0, 1) := dk_42 (dk_at dksX2_mended_1 10 rfl rfl)
theorem dX2_mended_34 : decode cX2_mended 34 = .ok (.iload_n 1, 1) := dk_27 (dk_at dksX2_mended_1 11 rfl rfl)
theorem dX2_mended_35 : decode cX2_mended 35 = .ok (.iload 4, 2) := dk_21 4 (dk_at dksX2_mended_1 12 rfl rfl)
theorem dX2_mended_37 : decode cX2_mended 37 = .ok (.invokevirtual 74, 3) := dk_182 0 74 (dk_at dksX2_mended_1 14 rfl rfl)
theorem dX2_mended_40 : decode cX2_mended 40 = .ok (.aload_n 0, 1) := dk_42 (dk_at dksX2_mended_1 17 rfl rfl)
theorem dX2_mended_41 : decode cX2_mended 41 = .ok (.iload_n 2, 1) := dk_28 (dk_at dksX2_mended_1 18 rfl rfl)
theorem dX2_mended_42 : decode cX2_mended 42 = .ok (.invokevirtual 80, 3) := dk_182 0 80 (dk_at dksX2_mended_1 19 rfl rfl)
theorem dX2_mended_45 : decode cX2_mended 45 = .ok (.iload 4, 2) := dk_21 4 (dk_at dksX2_mended_1 22 rfl rfl)
theorem dX2_mended_47 : decode cX2_mended 47 = .ok (.invokestatic 58, 3) := dk_184 0 58 (dk_at dksX2_mended_2 0 rfl rfl)
theorem dX2_mended_50 : decode cX2_mended 50 = .ok (.if_icmp .eq 7, 3) := dk_159 0 7 (dk_at dksX2_mended_2 3 rfl rfl)
theorem dX2_mended_53 : decode cX2_mended 53 = .ok (.iconst 1, 1) := dk_4 (dk_at dksX2_mended_2 6 rfl rfl)
theorem dX2_mended_54 : decode cX2_mended 54 = .ok (.goto 4, 3) := dk_167 0 4 (dk_at dksX2_mended_2 7 rfl rfl)
theorem dX2_mended_57 : decode cX2_mended 57 = .ok (.iconst 0, 1) := dk_3 (dk_at dksX2_mended_2 10 rfl rfl)
theorem dX2_mended_58 : decode cX2_mended 58 = .ok (.invokestatic 86, 3) := dk_184 0 86 (dk_at dksX2_mended_2 11 rfl rfl)
theorem dX2_mended_61 : decode cX2_mended 61 = .ok (.iadd, 1) := dk_96 (dk_at dksX2_mended_2 14 rfl rfl)
theorem dX2_mended_62 : decode cX2_mended 62 = .ok (.istore_n 3, 1) := dk_62 (dk_at dksX2_mended_2 15 rfl rfl)
theorem dX2_mended_63 : decode cX2_mended 63 = .ok (.iinc 4 1, 3) := dk_132 4 1 (dk_at dksX2_mended_2 16 rfl rfl)
theorem dX2_mended_66 : decode cX2_mended 66 = .ok (.goto (-45), 3) := dk_167 255 211 (dk_at dksX2_mended_2 19 rfl rfl)
theorem dX2_mended_69 : decode cX2_mended 69 = .ok (.iload_n 2, 1) := dk_28 (dk_at dksX2_mended_2 22 rfl rfl)
theorem dX2_mended_70 : decode cX2_mended 70 = .ok (.iconst (-1), 1) := dk_2 (dk_at dksX2_mended_2 23 rfl rfl)
theorem dX2_mended_71 : decode cX2_mended 71 = .ok (.if_icmp .ne 7, 3) := dk_160 0 7 (dk_at dksX2_mended_3 0 rfl rfl)
theorem dX2_mended_74 : decode cX2_mended 74 = .ok (.iconst (-1), 1) := dk_2 (dk_at dksX2_mended_3 3 rfl rfl)
theorem dX2_mended_75 : decode cX2_mended 75 = .ok (.goto 4, 3) := dk_167 0 4 (dk_at dksX2_mended_3 4 rfl rfl)
theorem dX2_mended_78 : decode cX2_mended 78 = .ok (.iload_n 3, 1) := dk_29 (dk_at dksX2_mended_3 7 rfl rfl)
theorem dX2_mended_79 : decode cX2_mended 79 = .ok (.ireturn, 1) := dk_172 (dk_at dksX2_mended_3 8 rfl rfl)
abbrev cX2_whyNotAgain : ByteArray := prog_14_method_86_code
def yX2_whyNotAgain : MethodName := ⟨RX2, "whyNotAgain", "(I)I"⟩
def dkwX2_whyNotAgain_0 : List UInt8 := [42, 27, 182, 1, 43, 153, 0, 7, 3, 167, 0, 8, 42, 27, 182, 1, 54, 172]
abbrev dktX2_whyNotAgain_0 : List UInt8 := dkwX2_whyNotAgain_0 ++ []
theorem dksX2_whyNotAgain_0 : cX2_whyNotAgain.data.toList.drop 0 = dktX2_whyNotAgain_0 := by decide +kernel
theorem dX2_whyNotAgain_0 : decode cX2_whyNotAgain 0 = .ok (.aload_n 0, 1) := dk_42 (dk_at dksX2_whyNotAgain_0 0 rfl rfl)
theorem dX2_whyNotAgain_1 : decode cX2_whyNotAgain 1 = .ok (.iload_n 1, 1) := dk_27 (dk_at dksX2_whyNotAgain_0 1 rfl rfl)
theorem dX2_whyNotAgain_2 : decode cX2_whyNotAgain 2 = .ok (.invokevirtual 299, 3) := dk_182 1 43 (dk_at dksX2_whyNotAgain_0 2 rfl rfl)
theorem dX2_whyNotAgain_5 : decode cX2_whyNotAgain 5 = .ok (.ifCond .eq 7, 3) := dk_153 0 7 (dk_at dksX2_whyNotAgain_0 5 rfl rfl)
theorem dX2_whyNotAgain_8 : decode cX2_whyNotAgain 8 = .ok (.iconst 0, 1) := dk_3 (dk_at dksX2_whyNotAgain_0 8 rfl rfl)
theorem dX2_whyNotAgain_9 : decode cX2_whyNotAgain 9 = .ok (.goto 8, 3) := dk_167 0 8 (dk_at dksX2_whyNotAgain_0 9 rfl rfl)
theorem dX2_whyNotAgain_12 : decode cX2_whyNotAgain 12 = .ok (.aload_n 0, 1) := dk_42 (dk_at dksX2_whyNotAgain_0 12 rfl rfl)
theorem dX2_whyNotAgain_13 : decode cX2_whyNotAgain 13 = .ok (.iload_n 1, 1) := dk_27 (dk_at dksX2_whyNotAgain_0 13 rfl rfl)
theorem dX2_whyNotAgain_14 : decode cX2_whyNotAgain 14 = .ok (.invokevirtual 310, 3) := dk_182 1 54 (dk_at dksX2_whyNotAgain_0 14 rfl rfl)
theorem dX2_whyNotAgain_17 : decode cX2_whyNotAgain 17 = .ok (.ireturn, 1) := dk_172 (dk_at dksX2_whyNotAgain_0 17 rfl rfl)
abbrev cX2_whyNotRead : ByteArray := prog_14_method_85_code
def yX2_whyNotRead : MethodName := ⟨RX2, "whyNotRead", "(I)I"⟩
def dkwX2_whyNotRead_1 : List UInt8 := [160, 0, 7, 5, 167, 0, 4, 3, 172]
abbrev dktX2_whyNotRead_1 : List UInt8 := dkwX2_whyNotRead_1 ++ []
def dkwX2_whyNotRead_0 : List UInt8 := [42, 27, 16, 6, 182, 0, 74, 5, 159, 0, 7, 4, 167, 0, 19, 42, 27, 16, 7, 182, 0, 74, 6]
abbrev dktX2_whyNotRead_0 : List UInt8 := dkwX2_whyNotRead_0 ++ dktX2_whyNotRead_1
theorem dksX2_whyNotRead_0 : cX2_whyNotRead.data.toList.drop 0 = dktX2_whyNotRead_0 := by decide +kernel
theorem dksX2_whyNotRead_1 : cX2_whyNotRead.data.toList.drop 23 = dktX2_whyNotRead_1 := dk_seg dksX2_whyNotRead_0 23 rfl rfl
theorem dX2_whyNotRead_0 : decode cX2_whyNotRead 0 = .ok (.aload_n 0, 1) := dk_42 (dk_at dksX2_whyNotRead_0 0 rfl rfl)
theorem dX2_whyNotRead_1 : decode cX2_whyNotRead 1 = .ok (.iload_n 1, 1) := dk_27 (dk_at dksX2_whyNotRead_0 1 rfl rfl)
theorem dX2_whyNotRead_2 : decode cX2_whyNotRead 2 = .ok (.bipush 6, 2) := dk_16 6 (dk_at dksX2_whyNotRead_0 2 rfl rfl)
theorem dX2_whyNotRead_4 : decode cX2_whyNotRead 4 = .ok (.invokevirtual 74, 3) := dk_182 0 74 (dk_at dksX2_whyNotRead_0 4 rfl rfl)
theorem dX2_whyNotRead_7 : decode cX2_whyNotRead 7 = .ok (.iconst 2, 1) := dk_5 (dk_at dksX2_whyNotRead_0 7 rfl rfl)
theorem dX2_whyNotRead_8 : decode cX2_whyNotRead 8 = .ok (.if_icmp .eq 7, 3) := dk_159 0 7 (dk_at dksX2_whyNotRead_0 8 rfl rfl)
theorem dX2_whyNotRead_11 : decode cX2_whyNotRead 11 = .ok (.iconst 1, 1) := dk_4 (dk_at dksX2_whyNotRead_0 11 rfl rfl)
theorem dX2_whyNotRead_12 : decode cX2_whyNotRead 12 = .ok (.goto 19, 3) := dk_167 0 19 (dk_at dksX2_whyNotRead_0 12 rfl rfl)
theorem dX2_whyNotRead_15 : decode cX2_whyNotRead 15 = .ok (.aload_n 0, 1) := dk_42 (dk_at dksX2_whyNotRead_0 15 rfl rfl)
theorem dX2_whyNotRead_16 : decode cX2_whyNotRead 16 = .ok (.iload_n 1, 1) := dk_27 (dk_at dksX2_whyNotRead_0 16 rfl rfl)
theorem dX2_whyNotRead_17 : decode cX2_whyNotRead 17 = .ok (.bipush 7, 2) := dk_16 7 (dk_at dksX2_whyNotRead_0 17 rfl rfl)
theorem dX2_whyNotRead_19 : decode cX2_whyNotRead 19 = .ok (.invokevirtual 74, 3) := dk_182 0 74 (dk_at dksX2_whyNotRead_0 19 rfl rfl)
theorem dX2_whyNotRead_22 : decode cX2_whyNotRead 22 = .ok (.iconst 3, 1) := dk_6 (dk_at dksX2_whyNotRead_0 22 rfl rfl)
theorem dX2_whyNotRead_23 : decode cX2_whyNotRead 23 = .ok (.if_icmp .ne 7, 3) := dk_160 0 7 (dk_at dksX2_whyNotRead_1 0 rfl rfl)
theorem dX2_whyNotRead_26 : decode cX2_whyNotRead 26 = .ok (.iconst 2, 1) := dk_5 (dk_at dksX2_whyNotRead_1 3 rfl rfl)
theorem dX2_whyNotRead_27 : decode cX2_whyNotRead 27 = .ok (.goto 4, 3) := dk_167 0 4 (dk_at dksX2_whyNotRead_1 4 rfl rfl)
theorem dX2_whyNotRead_30 : decode cX2_whyNotRead 30 = .ok (.iconst 0, 1) := dk_3 (dk_at dksX2_whyNotRead_1 7 rfl rfl)
theorem dX2_whyNotRead_31 : decode cX2_whyNotRead 31 = .ok (.ireturn, 1) := dk_172 (dk_at dksX2_whyNotRead_1 8 rfl rfl)
abbrev cX2_leastFix : ByteArray := prog_14_method_88_code
def yX2_leastFix : MethodName := ⟨RX2, "leastFix", "(I)I"⟩
def dkwX2_leastFix_1 : List UInt8 := [182, 0, 83, 172]
abbrev dktX2_leastFix_1 : List UInt8 := dkwX2_leastFix_1 ++ []
def dkwX2_leastFix_0 : List UInt8 := [42, 27, 182, 1, 43, 153, 0, 7, 3, 167, 0, 16, 42, 27, 42, 27, 182, 1, 57, 184, 0, 55]
abbrev dktX2_leastFix_0 : List UInt8 := dkwX2_leastFix_0 ++ dktX2_leastFix_1
theorem dksX2_leastFix_0 : cX2_leastFix.data.toList.drop 0 = dktX2_leastFix_0 := by decide +kernel
theorem dksX2_leastFix_1 : cX2_leastFix.data.toList.drop 22 = dktX2_leastFix_1 := dk_seg dksX2_leastFix_0 22 rfl rfl
theorem dX2_leastFix_0 : decode cX2_leastFix 0 = .ok (.aload_n 0, 1) := dk_42 (dk_at dksX2_leastFix_0 0 rfl rfl)
theorem dX2_leastFix_1 : decode cX2_leastFix 1 = .ok (.iload_n 1, 1) := dk_27 (dk_at dksX2_leastFix_0 1 rfl rfl)
theorem dX2_leastFix_2 : decode cX2_leastFix 2 = .ok (.invokevirtual 299, 3) := dk_182 1 43 (dk_at dksX2_leastFix_0 2 rfl rfl)
theorem dX2_leastFix_5 : decode cX2_leastFix 5 = .ok (.ifCond .eq 7, 3) := dk_153 0 7 (dk_at dksX2_leastFix_0 5 rfl rfl)
theorem dX2_leastFix_8 : decode cX2_leastFix 8 = .ok (.iconst 0, 1) := dk_3 (dk_at dksX2_leastFix_0 8 rfl rfl)
theorem dX2_leastFix_9 : decode cX2_leastFix 9 = .ok (.goto 16, 3) := dk_167 0 16 (dk_at dksX2_leastFix_0 9 rfl rfl)
theorem dX2_leastFix_12 : decode cX2_leastFix 12 = .ok (.aload_n 0, 1) := dk_42 (dk_at dksX2_leastFix_0 12 rfl rfl)
theorem dX2_leastFix_13 : decode cX2_leastFix 13 = .ok (.iload_n 1, 1) := dk_27 (dk_at dksX2_leastFix_0 13 rfl rfl)
theorem dX2_leastFix_14 : decode cX2_leastFix 14 = .ok (.aload_n 0, 1) := dk_42 (dk_at dksX2_leastFix_0 14 rfl rfl)
theorem dX2_leastFix_15 : decode cX2_leastFix 15 = .ok (.iload_n 1, 1) := dk_27 (dk_at dksX2_leastFix_0 15 rfl rfl)
theorem dX2_leastFix_16 : decode cX2_leastFix 16 = .ok (.invokevirtual 313, 3) := dk_182 1 57 (dk_at dksX2_leastFix_0 16 rfl rfl)
theorem dX2_leastFix_19 : decode cX2_leastFix 19 = .ok (.invokestatic 55, 3) := dk_184 0 55 (dk_at dksX2_leastFix_0 19 rfl rfl)
theorem dX2_leastFix_22 : decode cX2_leastFix 22 = .ok (.invokevirtual 83, 3) := dk_182 0 83 (dk_at dksX2_leastFix_1 0 rfl rfl)
theorem dX2_leastFix_25 : decode cX2_leastFix 25 = .ok (.ireturn, 1) := dk_172 (dk_at dksX2_leastFix_1 3 rfl rfl)
abbrev cX2_fix : ByteArray := prog_14_method_87_code
def yX2_fix : MethodName := ⟨RX2, "fix", "(I)I"⟩
def dkwX2_fix_2 : List UInt8 := [167, 255, 217, 28, 172]
abbrev dktX2_fix_2 : List UInt8 := dkwX2_fix_2 ++ []
def dkwX2_fix_1 : List UInt8 := [184, 0, 55, 182, 0, 83, 54, 5, 21, 5, 29, 162, 0, 9, 21, 4, 61, 21, 5, 62, 132, 4, 1]
abbrev dktX2_fix_1 : List UInt8 := dkwX2_fix_1 ++ dktX2_fix_2
def dkwX2_fix_0 : List UInt8 := [3, 61, 16, 11, 62, 3, 54, 4, 21, 4, 17, 39, 16, 162, 0, 37, 29, 158, 0, 33, 42, 27, 21, 4]
abbrev dktX2_fix_0 : List UInt8 := dkwX2_fix_0 ++ dktX2_fix_1
theorem dksX2_fix_0 : cX2_fix.data.toList.drop 0 = dktX2_fix_0 := by decide +kernel
theorem dksX2_fix_1 : cX2_fix.data.toList.drop 24 = dktX2_fix_1 := dk_seg dksX2_fix_0 24 rfl rfl
theorem dksX2_fix_2 : cX2_fix.data.toList.drop 47 = dktX2_fix_2 := dk_seg dksX2_fix_1 23 rfl rfl
theorem dX2_fix_0 : decode cX2_fix 0 = .ok (.iconst 0, 1) := dk_3 (dk_at dksX2_fix_0 0 rfl rfl)
theorem dX2_fix_1 : decode cX2_fix 1 = .ok (.istore_n 2, 1) := dk_61 (dk_at dksX2_fix_0 1 rfl rfl)
theorem dX2_fix_2 : decode cX2_fix 2 = .ok (.bipush 11, 2) := dk_16 11 (dk_at dksX2_fix_0 2 rfl rfl)
theorem dX2_fix_4 : decode cX2_fix 4 = .ok (.istore_n 3, 1) := dk_62 (dk_at dksX2_fix_0 4 rfl rfl)
theorem dX2_fix_5 : decode cX2_fix 5 = .ok (.iconst 0, 1) := dk_3 (dk_at dksX2_fix_0 5 rfl rfl)
theorem dX2_fix_6 : decode cX2_fix 6 = .ok (.istore 4, 2) := dk_54 4 (dk_at dksX2_fix_0 6 rfl rfl)
theorem dX2_fix_8 : decode cX2_fix 8 = .ok (.iload 4, 2) := dk_21 4 (dk_at dksX2_fix_0 8 rfl rfl)
theorem dX2_fix_10 : decode cX2_fix 10 = .ok (.sipush 10000, 3) := dk_17 39 16 (dk_at dksX2_fix_0 10 rfl rfl)
theorem dX2_fix_13 : decode cX2_fix 13 = .ok (.if_icmp .ge 37, 3) := dk_162 0 37 (dk_at dksX2_fix_0 13 rfl rfl)
theorem dX2_fix_16 : decode cX2_fix 16 = .ok (.iload_n 3, 1) := dk_29 (dk_at dksX2_fix_0 16 rfl rfl)
theorem dX2_fix_17 : decode cX2_fix 17 = .ok (.ifCond .le 33, 3) := dk_158 0 33 (dk_at dksX2_fix_0 17 rfl rfl)
theorem dX2_fix_20 : decode cX2_fix 20 = .ok (.aload_n 0, 1) := dk_42 (dk_at dksX2_fix_0 20 rfl rfl)
theorem dX2_fix_21 : decode cX2_fix 21 = .ok (.iload_n 1, 1) := dk_27 (dk_at dksX2_fix_0 21 rfl rfl)
theorem dX2_fix_22 : decode cX2_fix 22 = .ok (.iload 4, 2) := dk_21 4 (dk_at dksX2_fix_0 22 rfl rfl)
theorem dX2_fix_24 : decode cX2_fix 24 = .ok (.invokestatic 55, 3) := dk_184 0 55 (dk_at dksX2_fix_1 0 rfl rfl)
theorem dX2_fix_27 : decode cX2_fix 27 = .ok (.invokevirtual 83, 3) := dk_182 0 83 (dk_at dksX2_fix_1 3 rfl rfl)
theorem dX2_fix_30 : decode cX2_fix 30 = .ok (.istore 5, 2) := dk_54 5 (dk_at dksX2_fix_1 6 rfl rfl)
theorem dX2_fix_32 : decode cX2_fix 32 = .ok (.iload 5, 2) := dk_21 5 (dk_at dksX2_fix_1 8 rfl rfl)
theorem dX2_fix_34 : decode cX2_fix 34 = .ok (.iload_n 3, 1) := dk_29 (dk_at dksX2_fix_1 10 rfl rfl)
theorem dX2_fix_35 : decode cX2_fix 35 = .ok (.if_icmp .ge 9, 3) := dk_162 0 9 (dk_at dksX2_fix_1 11 rfl rfl)
theorem dX2_fix_38 : decode cX2_fix 38 = .ok (.iload 4, 2) := dk_21 4 (dk_at dksX2_fix_1 14 rfl rfl)
theorem dX2_fix_40 : decode cX2_fix 40 = .ok (.istore_n 2, 1) := dk_61 (dk_at dksX2_fix_1 16 rfl rfl)
theorem dX2_fix_41 : decode cX2_fix 41 = .ok (.iload 5, 2) := dk_21 5 (dk_at dksX2_fix_1 17 rfl rfl)
theorem dX2_fix_43 : decode cX2_fix 43 = .ok (.istore_n 3, 1) := dk_62 (dk_at dksX2_fix_1 19 rfl rfl)
theorem dX2_fix_44 : decode cX2_fix 44 = .ok (.iinc 4 1, 3) := dk_132 4 1 (dk_at dksX2_fix_1 20 rfl rfl)
theorem dX2_fix_47 : decode cX2_fix 47 = .ok (.goto (-39), 3) := dk_167 255 217 (dk_at dksX2_fix_2 0 rfl rfl)
theorem dX2_fix_50 : decode cX2_fix 50 = .ok (.iload_n 2, 1) := dk_28 (dk_at dksX2_fix_2 3 rfl rfl)
theorem dX2_fix_51 : decode cX2_fix 51 = .ok (.ireturn, 1) := dk_172 (dk_at dksX2_fix_2 4 rfl rfl)
abbrev cX2_codesNear : ByteArray := prog_14_method_89_code
def yX2_codesNear : MethodName := ⟨RX2, "codesNear", "(II)I"⟩
def dkwX2_codesNear_3 : List UInt8 := [184, 0, 86, 96, 62, 132, 4, 1, 167, 255, 220, 29, 172]
abbrev dktX2_codesNear_3 : List UInt8 := dkwX2_codesNear_3 ++ []
def dkwX2_codesNear_2 : List UInt8 := [162, 0, 34, 29, 42, 27, 21, 4, 184, 0, 55, 182, 0, 83, 28, 163, 0, 7, 4, 167, 0, 4, 3]
abbrev dktX2_codesNear_2 : List UInt8 := dkwX2_codesNear_2 ++ dktX2_codesNear_3
def dkwX2_codesNear_1 : List UInt8 := [167, 0, 4, 3, 6, 182, 0, 43, 153, 0, 5, 3, 172, 3, 62, 3, 54, 4, 21, 4, 17, 39, 16]
abbrev dktX2_codesNear_1 : List UInt8 := dkwX2_codesNear_1 ++ dktX2_codesNear_2
def dkwX2_codesNear_0 : List UInt8 := [42, 27, 182, 1, 43, 154, 0, 28, 42, 28, 133, 9, 20, 1, 60, 184, 0, 195, 154, 0, 7, 4]
abbrev dktX2_codesNear_0 : List UInt8 := dkwX2_codesNear_0 ++ dktX2_codesNear_1
theorem dksX2_codesNear_0 : cX2_codesNear.data.toList.drop 0 = dktX2_codesNear_0 := by decide +kernel
theorem dksX2_codesNear_1 : cX2_codesNear.data.toList.drop 22 = dktX2_codesNear_1 := dk_seg dksX2_codesNear_0 22 rfl rfl
theorem dksX2_codesNear_2 : cX2_codesNear.data.toList.drop 45 = dktX2_codesNear_2 := dk_seg dksX2_codesNear_1 23 rfl rfl
theorem dksX2_codesNear_3 : cX2_codesNear.data.toList.drop 68 = dktX2_codesNear_3 := dk_seg dksX2_codesNear_2 23 rfl rfl
theorem dX2_codesNear_0 : decode cX2_codesNear 0 = .ok (.aload_n 0, 1) := dk_42 (dk_at dksX2_codesNear_0 0 rfl rfl)
theorem dX2_codesNear_1 : decode cX2_codesNear 1 = .ok (.iload_n 1, 1) := dk_27 (dk_at dksX2_codesNear_0 1 rfl rfl)
theorem dX2_codesNear_2 : decode cX2_codesNear 2 = .ok (.invokevirtual 299, 3) := dk_182 1 43 (dk_at dksX2_codesNear_0 2 rfl rfl)
theorem dX2_codesNear_5 : decode cX2_codesNear 5 = .ok (.ifCond .ne 28, 3) := dk_154 0 28 (dk_at dksX2_codesNear_0 5 rfl rfl)
theorem dX2_codesNear_8 : decode cX2_codesNear 8 = .ok (.aload_n 0, 1) := dk_42 (dk_at dksX2_codesNear_0 8 rfl rfl)
theorem dX2_codesNear_9 : decode cX2_codesNear 9 = .ok (.iload_n 2, 1) := dk_28 (dk_at dksX2_codesNear_0 9 rfl rfl)
theorem dX2_codesNear_10 : decode cX2_codesNear 10 = .ok (.i2l, 1) := dk_133 (dk_at dksX2_codesNear_0 10 rfl rfl)
theorem dX2_codesNear_11 : decode cX2_codesNear 11 = .ok (.lconst 0, 1) := dk_9 (dk_at dksX2_codesNear_0 11 rfl rfl)
theorem dX2_codesNear_12 : decode cX2_codesNear 12 = .ok (.ldc2_w 316, 3) := dk_20 1 60 (dk_at dksX2_codesNear_0 12 rfl rfl)
theorem dX2_codesNear_15 : decode cX2_codesNear 15 = .ok (.invokestatic 195, 3) := dk_184 0 195 (dk_at dksX2_codesNear_0 15 rfl rfl)
theorem dX2_codesNear_18 : decode cX2_codesNear 18 = .ok (.ifCond .ne 7, 3) := dk_154 0 7 (dk_at dksX2_codesNear_0 18 rfl rfl)
theorem dX2_codesNear_21 : decode cX2_codesNear 21 = .ok (.iconst 1, 1) := dk_4 (dk_at dksX2_codesNear_0 21 rfl rfl)
theorem dX2_codesNear_22 : decode cX2_codesNear 22 = .ok (.goto 4, 3) := dk_167 0 4 (dk_at dksX2_codesNear_1 0 rfl rfl)
theorem dX2_codesNear_25 : decode cX2_codesNear 25 = .ok (.iconst 0, 1) := dk_3 (dk_at dksX2_codesNear_1 3 rfl rfl)
theorem dX2_codesNear_26 : decode cX2_codesNear 26 = .ok (.iconst 3, 1) := dk_6 (dk_at dksX2_codesNear_1 4 rfl rfl)
theorem dX2_codesNear_27 : decode cX2_codesNear 27 = .ok (.invokevirtual 43, 3) := dk_182 0 43 (dk_at dksX2_codesNear_1 5 rfl rfl)
theorem dX2_codesNear_30 : decode cX2_codesNear 30 = .ok (.ifCond .eq 5, 3) := dk_153 0 5 (dk_at dksX2_codesNear_1 8 rfl rfl)
theorem dX2_codesNear_33 : decode cX2_codesNear 33 = .ok (.iconst 0, 1) := dk_3 (dk_at dksX2_codesNear_1 11 rfl rfl)
theorem dX2_codesNear_34 : decode cX2_codesNear 34 = .ok (.ireturn, 1) := dk_172 (dk_at dksX2_codesNear_1 12 rfl rfl)
theorem dX2_codesNear_35 : decode cX2_codesNear 35 = .ok (.iconst 0, 1) := dk_3 (dk_at dksX2_codesNear_1 13 rfl rfl)
theorem dX2_codesNear_36 : decode cX2_codesNear 36 = .ok (.istore_n 3, 1) := dk_62 (dk_at dksX2_codesNear_1 14 rfl rfl)
theorem dX2_codesNear_37 : decode cX2_codesNear 37 = .ok (.iconst 0, 1) := dk_3 (dk_at dksX2_codesNear_1 15 rfl rfl)
theorem dX2_codesNear_38 : decode cX2_codesNear 38 = .ok (.istore 4, 2) := dk_54 4 (dk_at dksX2_codesNear_1 16 rfl rfl)
theorem dX2_codesNear_40 : decode cX2_codesNear 40 = .ok (.iload 4, 2) := dk_21 4 (dk_at dksX2_codesNear_1 18 rfl rfl)
theorem dX2_codesNear_42 : decode cX2_codesNear 42 = .ok (.sipush 10000, 3) := dk_17 39 16 (dk_at dksX2_codesNear_1 20 rfl rfl)
theorem dX2_codesNear_45 : decode cX2_codesNear 45 = .ok (.if_icmp .ge 34, 3) := dk_162 0 34 (dk_at dksX2_codesNear_2 0 rfl rfl)
theorem dX2_codesNear_48 : decode cX2_codesNear 48 = .ok (.iload_n 3, 1) := dk_29 (dk_at dksX2_codesNear_2 3 rfl rfl)
theorem dX2_codesNear_49 : decode cX2_codesNear 49 = .ok (.aload_n 0, 1) := dk_42 (dk_at dksX2_codesNear_2 4 rfl rfl)
theorem dX2_codesNear_50 : decode cX2_codesNear 50 = .ok (.iload_n 1, 1) := dk_27 (dk_at dksX2_codesNear_2 5 rfl rfl)
theorem dX2_codesNear_51 : decode cX2_codesNear 51 = .ok (.iload 4, 2) := dk_21 4 (dk_at dksX2_codesNear_2 6 rfl rfl)
theorem dX2_codesNear_53 : decode cX2_codesNear 53 = .ok (.invokestatic 55, 3) := dk_184 0 55 (dk_at dksX2_codesNear_2 8 rfl rfl)
theorem dX2_codesNear_56 : decode cX2_codesNear 56 = .ok (.invokevirtual 83, 3) := dk_182 0 83 (dk_at dksX2_codesNear_2 11 rfl rfl)
theorem dX2_codesNear_59 : decode cX2_codesNear 59 = .ok (.iload_n 2, 1) := dk_28 (dk_at dksX2_codesNear_2 14 rfl rfl)
theorem dX2_codesNear_60 : decode cX2_codesNear 60 = .ok (.if_icmp .gt 7, 3) := dk_163 0 7 (dk_at dksX2_codesNear_2 15 rfl rfl)
theorem dX2_codesNear_63 : decode cX2_codesNear 63 = .ok (.iconst 1, 1) := dk_4 (dk_at dksX2_codesNear_2 18 rfl rfl)
theorem dX2_codesNear_64 : decode cX2_codesNear 64 = .ok (.goto 4, 3) := dk_167 0 4 (dk_at dksX2_codesNear_2 19 rfl rfl)
theorem dX2_codesNear_67 : decode cX2_codesNear 67 = .ok (.iconst 0, 1) := dk_3 (dk_at dksX2_codesNear_2 22 rfl rfl)
theorem dX2_codesNear_68 : decode cX2_codesNear 68 = .ok (.invokestatic 86, 3) := dk_184 0 86 (dk_at dksX2_codesNear_3 0 rfl rfl)
theorem dX2_codesNear_71 : decode cX2_codesNear 71 = .ok (.iadd, 1) := dk_96 (dk_at dksX2_codesNear_3 3 rfl rfl)
theorem dX2_codesNear_72 : decode cX2_codesNear 72 = .ok (.istore_n 3, 1) := dk_62 (dk_at dksX2_codesNear_3 4 rfl rfl)
theorem dX2_codesNear_73 : decode cX2_codesNear 73 = .ok (.iinc 4 1, 3) := dk_132 4 1 (dk_at dksX2_codesNear_3 5 rfl rfl)
theorem dX2_codesNear_76 : decode cX2_codesNear 76 = .ok (.goto (-36), 3) := dk_167 255 220 (dk_at dksX2_codesNear_3 8 rfl rfl)
theorem dX2_codesNear_79 : decode cX2_codesNear 79 = .ok (.iload_n 3, 1) := dk_29 (dk_at dksX2_codesNear_3 11 rfl rfl)
theorem dX2_codesNear_80 : decode cX2_codesNear 80 = .ok (.ireturn, 1) := dk_172 (dk_at dksX2_codesNear_3 12 rfl rfl)
abbrev cX2_firstFix : ByteArray := prog_14_method_90_code
def yX2_firstFix : MethodName := ⟨RX2, "firstFix", "(I)I"⟩
def dkwX2_firstFix_0 : List UInt8 := [42, 27, 182, 1, 43, 153, 0, 7, 3, 167, 0, 8, 42, 27, 182, 1, 57, 172]
abbrev dktX2_firstFix_0 : List UInt8 := dkwX2_firstFix_0 ++ []
theorem dksX2_firstFix_0 : cX2_firstFix.data.toList.drop 0 = dktX2_firstFix_0 := by decide +kernel
theorem dX2_firstFix_0 : decode cX2_firstFix 0 = .ok (.aload_n 0, 1) := dk_42 (dk_at dksX2_firstFix_0 0 rfl rfl)
theorem dX2_firstFix_1 : decode cX2_firstFix 1 = .ok (.iload_n 1, 1) := dk_27 (dk_at dksX2_firstFix_0 1 rfl rfl)
theorem dX2_firstFix_2 : decode cX2_firstFix 2 = .ok (.invokevirtual 299, 3) := dk_182 1 43 (dk_at dksX2_firstFix_0 2 rfl rfl)
theorem dX2_firstFix_5 : decode cX2_firstFix 5 = .ok (.ifCond .eq 7, 3) := dk_153 0 7 (dk_at dksX2_firstFix_0 5 rfl rfl)
theorem dX2_firstFix_8 : decode cX2_firstFix 8 = .ok (.iconst 0, 1) := dk_3 (dk_at dksX2_firstFix_0 8 rfl rfl)
theorem dX2_firstFix_9 : decode cX2_firstFix 9 = .ok (.goto 8, 3) := dk_167 0 8 (dk_at dksX2_firstFix_0 9 rfl rfl)
theorem dX2_firstFix_12 : decode cX2_firstFix 12 = .ok (.aload_n 0, 1) := dk_42 (dk_at dksX2_firstFix_0 12 rfl rfl)
theorem dX2_firstFix_13 : decode cX2_firstFix 13 = .ok (.iload_n 1, 1) := dk_27 (dk_at dksX2_firstFix_0 13 rfl rfl)
theorem dX2_firstFix_14 : decode cX2_firstFix 14 = .ok (.invokevirtual 313, 3) := dk_182 1 57 (dk_at dksX2_firstFix_0 14 rfl rfl)
theorem dX2_firstFix_17 : decode cX2_firstFix 17 = .ok (.ireturn, 1) := dk_172 (dk_at dksX2_firstFix_0 17 rfl rfl)
abbrev cX2_bundle : ByteArray := prog_14_method_94_code
def yX2_bundle : MethodName := ⟨RX2, "bundle", "(II)I"⟩
def dkwX2_bundle_4 : List UInt8 := [4, 182, 1, 72, 16, 10, 112, 172]
abbrev dktX2_bundle_4 : List UInt8 := dkwX2_bundle_4 ++ []
def dkwX2_bundle_3 : List UInt8 := [42, 27, 182, 1, 69, 172, 42, 180, 0, 13, 6, 27, 96, 46, 172, 42, 27, 3, 182, 1, 72, 172, 42, 27]
abbrev dktX2_bundle_3 : List UInt8 := dkwX2_bundle_3 ++ dktX2_bundle_4
def dkwX2_bundle_2 : List UInt8 := [170, 0, 0, 0, 0, 0, 0, 50, 0, 0, 0, 0, 0, 0, 0, 2, 0, 0, 0, 28, 0, 0, 0, 34, 0, 0, 0, 43]
abbrev dktX2_bundle_2 : List UInt8 := dkwX2_bundle_2 ++ dktX2_bundle_3
def dkwX2_bundle_1 : List UInt8 := [167, 0, 4, 3, 6, 182, 0, 43, 153, 0, 5, 3, 172, 28]
abbrev dktX2_bundle_1 : List UInt8 := dkwX2_bundle_1 ++ dktX2_bundle_2
def dkwX2_bundle_0 : List UInt8 := [42, 27, 182, 1, 64, 154, 0, 28, 42, 28, 133, 9, 20, 1, 67, 184, 0, 195, 154, 0, 7, 4]
abbrev dktX2_bundle_0 : List UInt8 := dkwX2_bundle_0 ++ dktX2_bundle_1
theorem dksX2_bundle_0 : cX2_bundle.data.toList.drop 0 = dktX2_bundle_0 := by decide +kernel
theorem dksX2_bundle_1 : cX2_bundle.data.toList.drop 22 = dktX2_bundle_1 := dk_seg dksX2_bundle_0 22 rfl rfl
theorem dksX2_bundle_2 : cX2_bundle.data.toList.drop 36 = dktX2_bundle_2 := dk_seg dksX2_bundle_1 14 rfl rfl
theorem dksX2_bundle_3 : cX2_bundle.data.toList.drop 64 = dktX2_bundle_3 := dk_seg dksX2_bundle_2 28 rfl rfl
theorem dksX2_bundle_4 : cX2_bundle.data.toList.drop 88 = dktX2_bundle_4 := dk_seg dksX2_bundle_3 24 rfl rfl
theorem dX2_bundle_0 : decode cX2_bundle 0 = .ok (.aload_n 0, 1) := dk_42 (dk_at dksX2_bundle_0 0 rfl rfl)
theorem dX2_bundle_1 : decode cX2_bundle 1 = .ok (.iload_n 1, 1) := dk_27 (dk_at dksX2_bundle_0 1 rfl rfl)
theorem dX2_bundle_2 : decode cX2_bundle 2 = .ok (.invokevirtual 320, 3) := dk_182 1 64 (dk_at dksX2_bundle_0 2 rfl rfl)
theorem dX2_bundle_5 : decode cX2_bundle 5 = .ok (.ifCond .ne 28, 3) := dk_154 0 28 (dk_at dksX2_bundle_0 5 rfl rfl)
theorem dX2_bundle_8 : decode cX2_bundle 8 = .ok (.aload_n 0, 1) := dk_42 (dk_at dksX2_bundle_0 8 rfl rfl)
theorem dX2_bundle_9 : decode cX2_bundle 9 = .ok (.iload_n 2, 1) := dk_28 (dk_at dksX2_bundle_0 9 rfl rfl)
theorem dX2_bundle_10 : decode cX2_bundle 10 = .ok (.i2l, 1) := dk_133 (dk_at dksX2_bundle_0 10 rfl rfl)
theorem dX2_bundle_11 : decode cX2_bundle 11 = .ok (.lconst 0, 1) := dk_9 (dk_at dksX2_bundle_0 11 rfl rfl)
theorem dX2_bundle_12 : decode cX2_bundle 12 = .ok (.ldc2_w 323, 3) := dk_20 1 67 (dk_at dksX2_bundle_0 12 rfl rfl)
theorem dX2_bundle_15 : decode cX2_bundle 15 = .ok (.invokestatic 195, 3) := dk_184 0 195 (dk_at dksX2_bundle_0 15 rfl rfl)
theorem dX2_bundle_18 : decode cX2_bundle 18 = .ok (.ifCond .ne 7, 3) := dk_154 0 7 (dk_at dksX2_bundle_0 18 rfl rfl)
theorem dX2_bundle_21 : decode cX2_bundle 21 = .ok (.iconst 1, 1) := dk_4 (dk_at dksX2_bundle_0 21 rfl rfl)
theorem dX2_bundle_22 : decode cX2_bundle 22 = .ok (.goto 4, 3) := dk_167 0 4 (dk_at dksX2_bundle_1 0 rfl rfl)
theorem dX2_bundle_25 : decode cX2_bundle 25 = .ok (.iconst 0, 1) := dk_3 (dk_at dksX2_bundle_1 3 rfl rfl)
theorem dX2_bundle_26 : decode cX2_bundle 26 = .ok (.iconst 3, 1) := dk_6 (dk_at dksX2_bundle_1 4 rfl rfl)
theorem dX2_bundle_27 : decode cX2_bundle 27 = .ok (.invokevirtual 43, 3) := dk_182 0 43 (dk_at dksX2_bundle_1 5 rfl rfl)
theorem dX2_bundle_30 : decode cX2_bundle 30 = .ok (.ifCond .eq 5, 3) := dk_153 0 5 (dk_at dksX2_bundle_1 8 rfl rfl)
theorem dX2_bundle_33 : decode cX2_bundle 33 = .ok (.iconst 0, 1) := dk_3 (dk_at dksX2_bundle_1 11 rfl rfl)
theorem dX2_bundle_34 : decode cX2_bundle 34 = .ok (.ireturn, 1) := dk_172 (dk_at dksX2_bundle_1 12 rfl rfl)
theorem dX2_bundle_35 : decode cX2_bundle 35 = .ok (.iload_n 2, 1) := dk_28 (dk_at dksX2_bundle_1 13 rfl rfl)
theorem dX2_bundle_36 : decode cX2_bundle 36 = .ok (.tableswitch 50 0 2 #[28, 34, 43], 28) := by decide +kernel
theorem dX2_bundle_64 : decode cX2_bundle 64 = .ok (.aload_n 0, 1) := dk_42 (dk_at dksX2_bundle_3 0 rfl rfl)
theorem dX2_bundle_65 : decode cX2_bundle 65 = .ok (.iload_n 1, 1) := dk_27 (dk_at dksX2_bundle_3 1 rfl rfl)
theorem dX2_bundle_66 : decode cX2_bundle 66 = .ok (.invokevirtual 325, 3) := dk_182 1 69 (dk_at dksX2_bundle_3 2 rfl rfl)
theorem dX2_bundle_69 : decode cX2_bundle 69 = .ok (.ireturn, 1) := dk_172 (dk_at dksX2_bundle_3 5 rfl rfl)
theorem dX2_bundle_70 : decode cX2_bundle 70 = .ok (.aload_n 0, 1) := dk_42 (dk_at dksX2_bundle_3 6 rfl rfl)
theorem dX2_bundle_71 : decode cX2_bundle 71 = .ok (.getfield 13, 3) := dk_180 0 13 (dk_at dksX2_bundle_3 7 rfl rfl)
theorem dX2_bundle_74 : decode cX2_bundle 74 = .ok (.iconst 3, 1) := dk_6 (dk_at dksX2_bundle_3 10 rfl rfl)
theorem dX2_bundle_75 : decode cX2_bundle 75 = .ok (.iload_n 1, 1) := dk_27 (dk_at dksX2_bundle_3 11 rfl rfl)
theorem dX2_bundle_76 : decode cX2_bundle 76 = .ok (.iadd, 1) := dk_96 (dk_at dksX2_bundle_3 12 rfl rfl)
theorem dX2_bundle_77 : decode cX2_bundle 77 = .ok (.iaload, 1) := dk_46 (dk_at dksX2_bundle_3 13 rfl rfl)
theorem dX2_bundle_78 : decode cX2_bundle 78 = .ok (.ireturn, 1) := dk_172 (dk_at dksX2_bundle_3 14 rfl rfl)
theorem dX2_bundle_79 : decode cX2_bundle 79 = .ok (.aload_n 0, 1) := dk_42 (dk_at dksX2_bundle_3 15 rfl rfl)
theorem dX2_bundle_80 : decode cX2_bundle 80 = .ok (.iload_n 1, 1) := dk_27 (dk_at dksX2_bundle_3 16 rfl rfl)
theorem dX2_bundle_81 : decode cX2_bundle 81 = .ok (.iconst 0, 1) := dk_3 (dk_at dksX2_bundle_3 17 rfl rfl)
theorem dX2_bundle_82 : decode cX2_bundle 82 = .ok (.invokevirtual 328, 3) := dk_182 1 72 (dk_at dksX2_bundle_3 18 rfl rfl)
theorem dX2_bundle_85 : decode cX2_bundle 85 = .ok (.ireturn, 1) := dk_172 (dk_at dksX2_bundle_3 21 rfl rfl)
theorem dX2_bundle_86 : decode cX2_bundle 86 = .ok (.aload_n 0, 1) := dk_42 (dk_at dksX2_bundle_3 22 rfl rfl)
theorem dX2_bundle_87 : decode cX2_bundle 87 = .ok (.iload_n 1, 1) := dk_27 (dk_at dksX2_bundle_3 23 rfl rfl)
theorem dX2_bundle_88 : decode cX2_bundle 88 = .ok (.iconst 1, 1) := dk_4 (dk_at dksX2_bundle_4 0 rfl rfl)
theorem dX2_bundle_89 : decode cX2_bundle 89 = .ok (.invokevirtual 328, 3) := dk_182 1 72 (dk_at dksX2_bundle_4 1 rfl rfl)
theorem dX2_bundle_92 : decode cX2_bundle 92 = .ok (.bipush 10, 2) := dk_16 10 (dk_at dksX2_bundle_4 4 rfl rfl)
theorem dX2_bundle_94 : decode cX2_bundle 94 = .ok (.irem, 1) := dk_112 (dk_at dksX2_bundle_4 6 rfl rfl)
theorem dX2_bundle_95 : decode cX2_bundle 95 = .ok (.ireturn, 1) := dk_172 (dk_at dksX2_bundle_4 7 rfl rfl)
abbrev cX2_noBundle : ByteArray := prog_14_method_91_code
def yX2_noBundle : MethodName := ⟨RX2, "noBundle", "(I)Z"⟩
def dkwX2_noBundle_1 : List UInt8 := [3, 5, 182, 0, 43, 153, 0, 7, 4, 167, 0, 4, 3, 172]
abbrev dktX2_noBundle_1 : List UInt8 := dkwX2_noBundle_1 ++ []
def dkwX2_noBundle_0 : List UInt8 := [42, 182, 1, 4, 154, 0, 28, 42, 27, 133, 9, 20, 1, 62, 184, 0, 195, 154, 0, 7, 4, 167, 0, 4]
abbrev dktX2_noBundle_0 : List UInt8 := dkwX2_noBundle_0 ++ dktX2_noBundle_1
theorem dksX2_noBundle_0 : cX2_noBundle.data.toList.drop 0 = dktX2_noBundle_0 := by decide +kernel
theorem dksX2_noBundle_1 : cX2_noBundle.data.toList.drop 24 = dktX2_noBundle_1 := dk_seg dksX2_noBundle_0 24 rfl rfl
theorem dX2_noBundle_0 : decode cX2_noBundle 0 = .ok (.aload_n 0, 1) := dk_42 (dk_at dksX2_noBundle_0 0 rfl rfl)
theorem dX2_noBundle_1 : decode cX2_noBundle 1 = .ok (.invokevirtual 260, 3) := dk_182 1 4 (dk_at dksX2_noBundle_0 1 rfl rfl)
theorem dX2_noBundle_4 : decode cX2_noBundle 4 = .ok (.ifCond .ne 28, 3) := dk_154 0 28 (dk_at dksX2_noBundle_0 4 rfl rfl)
theorem dX2_noBundle_7 : decode cX2_noBundle 7 = .ok (.aload_n 0, 1) := dk_42 (dk_at dksX2_noBundle_0 7 rfl rfl)
theorem dX2_noBundle_8 : decode cX2_noBundle 8 = .ok (.iload_n 1, 1) := dk_27 (dk_at dksX2_noBundle_0 8 rfl rfl)
theorem dX2_noBundle_9 : decode cX2_noBundle 9 = .ok (.i2l, 1) := dk_133 (dk_at dksX2_noBundle_0 9 rfl rfl)
theorem dX2_noBundle_10 : decode cX2_noBundle 10 = .ok (.lconst 0, 1) := dk_9 (dk_at dksX2_noBundle_0 10 rfl rfl)
theorem dX2_noBundle_11 : decode cX2_noBundle 11 = .ok (.ldc2_w 318, 3) := dk_20 1 62 (dk_at dksX2_noBundle_0 11 rfl rfl)
theorem dX2_noBundle_14 : decode cX2_noBundle 14 = .ok (.invokestatic 195, 3) := dk_184 0 195 (dk_at dksX2_noBundle_0 14 rfl rfl)
theorem dX2_noBundle_17 : decode cX2_noBundle 17 = .ok (.ifCond .ne 7, 3) := dk_154 0 7 (dk_at dksX2_noBundle_0 17 rfl rfl)
theorem dX2_noBundle_20 : decode cX2_noBundle 20 = .ok (.iconst 1, 1) := dk_4 (dk_at dksX2_noBundle_0 20 rfl rfl)
theorem dX2_noBundle_21 : decode cX2_noBundle 21 = .ok (.goto 4, 3) := dk_167 0 4 (dk_at dksX2_noBundle_0 21 rfl rfl)
theorem dX2_noBundle_24 : decode cX2_noBundle 24 = .ok (.iconst 0, 1) := dk_3 (dk_at dksX2_noBundle_1 0 rfl rfl)
theorem dX2_noBundle_25 : decode cX2_noBundle 25 = .ok (.iconst 2, 1) := dk_5 (dk_at dksX2_noBundle_1 1 rfl rfl)
theorem dX2_noBundle_26 : decode cX2_noBundle 26 = .ok (.invokevirtual 43, 3) := dk_182 0 43 (dk_at dksX2_noBundle_1 2 rfl rfl)
theorem dX2_noBundle_29 : decode cX2_noBundle 29 = .ok (.ifCond .eq 7, 3) := dk_153 0 7 (dk_at dksX2_noBundle_1 5 rfl rfl)
theorem dX2_noBundle_32 : decode cX2_noBundle 32 = .ok (.iconst 1, 1) := dk_4 (dk_at dksX2_noBundle_1 8 rfl rfl)
theorem dX2_noBundle_33 : decode cX2_noBundle 33 = .ok (.goto 4, 3) := dk_167 0 4 (dk_at dksX2_noBundle_1 9 rfl rfl)
theorem dX2_noBundle_36 : decode cX2_noBundle 36 = .ok (.iconst 0, 1) := dk_3 (dk_at dksX2_noBundle_1 12 rfl rfl)
theorem dX2_noBundle_37 : decode cX2_noBundle 37 = .ok (.ireturn, 1) := dk_172 (dk_at dksX2_noBundle_1 13 rfl rfl)
abbrev cX2_lettersOf : ByteArray := prog_14_method_92_code
def yX2_lettersOf : MethodName := ⟨RX2, "lettersOf", "(I)I"⟩
def dkwX2_lettersOf_1 : List UInt8 := [167, 0, 4, 3, 184, 0, 86, 96, 61, 132, 3, 1, 167, 255, 224, 28, 172]
abbrev dktX2_lettersOf_1 : List UInt8 := dkwX2_lettersOf_1 ++ []
def dkwX2_lettersOf_0 : List UInt8 := [3, 61, 3, 62, 29, 42, 182, 0, 109, 162, 0, 30, 28, 42, 29, 8, 182, 0, 74, 27, 160, 0, 7, 4]
abbrev dktX2_lettersOf_0 : List UInt8 := dkwX2_lettersOf_0 ++ dktX2_lettersOf_1
theorem dksX2_lettersOf_0 : cX2_lettersOf.data.toList.drop 0 = dktX2_lettersOf_0 := by decide +kernel
theorem dksX2_lettersOf_1 : cX2_lettersOf.data.toList.drop 24 = dktX2_lettersOf_1 := dk_seg dksX2_lettersOf_0 24 rfl rfl
theorem dX2_lettersOf_0 : decode cX2_lettersOf 0 = .ok (.iconst 0, 1) := dk_3 (dk_at dksX2_lettersOf_0 0 rfl rfl)
theorem dX2_lettersOf_1 : decode cX2_lettersOf 1 = .ok (.istore_n 2, 1) := dk_61 (dk_at dksX2_lettersOf_0 1 rfl rfl)
theorem dX2_lettersOf_2 : decode cX2_lettersOf 2 = .ok (.iconst 0, 1) := dk_3 (dk_at dksX2_lettersOf_0 2 rfl rfl)
theorem dX2_lettersOf_3 : decode cX2_lettersOf 3 = .ok (.istore_n 3, 1) := dk_62 (dk_at dksX2_lettersOf_0 3 rfl rfl)
theorem dX2_lettersOf_4 : decode cX2_lettersOf 4 = .ok (.iload_n 3, 1) := dk_29 (dk_at dksX2_lettersOf_0 4 rfl rfl)
theorem dX2_lettersOf_5 : decode cX2_lettersOf 5 = .ok (.aload_n 0, 1) := dk_42 (dk_at dksX2_lettersOf_0 5 rfl rfl)
theorem dX2_lettersOf_6 : decode cX2_lettersOf 6 = .ok (.invokevirtual 109, 3) := dk_182 0 109 (dk_at dksX2_lettersOf_0 6 rfl rfl)
theorem dX2_lettersOf_9 : decode cX2_lettersOf 9 = .ok (.if_icmp .ge 30, 3) := dk_162 0 30 (dk_at dksX2_lettersOf_0 9 rfl rfl)
theorem dX2_lettersOf_12 : decode cX2_lettersOf 12 = .ok (.iload_n 2, 1) := dk_28 (dk_at dksX2_lettersOf_0 12 rfl rfl)
theorem dX2_lettersOf_13 : decode cX2_lettersOf 13 = .ok (.aload_n 0, 1) := dk_42 (dk_at dksX2_lettersOf_0 13 rfl rfl)
theorem dX2_lettersOf_14 : decode cX2_lettersOf 14 = .ok (.iload_n 3, 1) := dk_29 (dk_at dksX2_lettersOf_0 14 rfl rfl)
theorem dX2_lettersOf_15 : decode cX2_lettersOf 15 = .ok (.iconst 5, 1) := dk_8 (dk_at dksX2_lettersOf_0 15 rfl rfl)
theorem dX2_lettersOf_16 : decode cX2_lettersOf 16 = .ok (.invokevirtual 74, 3) := dk_182 0 74 (dk_at dksX2_lettersOf_0 16 rfl rfl)
theorem dX2_lettersOf_19 : decode cX2_lettersOf 19 = .ok (.iload_n 1, 1) := dk_27 (dk_at dksX2_lettersOf_0 19 rfl rfl)
theorem dX2_lettersOf_20 : decode cX2_lettersOf 20 = .ok (.if_icmp .ne 7, 3) := dk_160 0 7 (dk_at dksX2_lettersOf_0 20 rfl rfl)
theorem dX2_lettersOf_23 : decode cX2_lettersOf 23 = .ok (.iconst 1, 1) := dk_4 (dk_at dksX2_lettersOf_0 23 rfl rfl)
theorem dX2_lettersOf_24 : decode cX2_lettersOf 24 = .ok (.goto 4, 3) := dk_167 0 4 (dk_at dksX2_lettersOf_1 0 rfl rfl)
theorem dX2_lettersOf_27 : decode cX2_lettersOf 27 = .ok (.iconst 0, 1) := dk_3 (dk_at dksX2_lettersOf_1 3 rfl rfl)
theorem dX2_lettersOf_28 : decode cX2_lettersOf 28 = .ok (.invokestatic 86, 3) := dk_184 0 86 (dk_at dksX2_lettersOf_1 4 rfl rfl)
theorem dX2_lettersOf_31 : decode cX2_lettersOf 31 = .ok (.iadd, 1) := dk_96 (dk_at dksX2_lettersOf_1 7 rfl rfl)
theorem dX2_lettersOf_32 : decode cX2_lettersOf 32 = .ok (.istore_n 2, 1) := dk_61 (dk_at dksX2_lettersOf_1 8 rfl rfl)
theorem dX2_lettersOf_33 : decode cX2_lettersOf 33 = .ok (.iinc 3 1, 3) := dk_132 3 1 (dk_at dksX2_lettersOf_1 9 rfl rfl)
theorem dX2_lettersOf_36 : decode cX2_lettersOf 36 = .ok (.goto (-32), 3) := dk_167 255 224 (dk_at dksX2_lettersOf_1 12 rfl rfl)
theorem dX2_lettersOf_39 : decode cX2_lettersOf 39 = .ok (.iload_n 2, 1) := dk_28 (dk_at dksX2_lettersOf_1 15 rfl rfl)
theorem dX2_lettersOf_40 : decode cX2_lettersOf 40 = .ok (.ireturn, 1) := dk_172 (dk_at dksX2_lettersOf_1 16 rfl rfl)
abbrev cX2_selves : ByteArray := prog_14_method_93_code
def yX2_selves : MethodName := ⟨RX2, "selves", "(IZ)I"⟩
def dkwX2_selves_3 : List UInt8 := [132, 4, 1, 167, 255, 191, 29, 172]
abbrev dktX2_selves_3 : List UInt8 := dkwX2_selves_3 ++ []
def dkwX2_selves_2 : List UInt8 := [167, 0, 20, 28, 153, 0, 15, 42, 21, 5, 182, 0, 80, 184, 0, 115, 167, 0, 4, 4, 96, 62]
abbrev dktX2_selves_2 : List UInt8 := dkwX2_selves_2 ++ dktX2_selves_3
def dkwX2_selves_1 : List UInt8 := [160, 0, 12, 42, 21, 4, 182, 0, 112, 167, 0, 4, 2, 54, 5, 29, 21, 5, 2, 160, 0, 7, 3]
abbrev dktX2_selves_1 : List UInt8 := dkwX2_selves_1 ++ dktX2_selves_2
def dkwX2_selves_0 : List UInt8 := [3, 62, 3, 54, 4, 21, 4, 42, 182, 0, 109, 162, 0, 62, 42, 21, 4, 8, 182, 0, 74, 27]
abbrev dktX2_selves_0 : List UInt8 := dkwX2_selves_0 ++ dktX2_selves_1
theorem dksX2_selves_0 : cX2_selves.data.toList.drop 0 = dktX2_selves_0 := by decide +kernel
theorem dksX2_selves_1 : cX2_selves.data.toList.drop 22 = dktX2_selves_1 := dk_seg dksX2_selves_0 22 rfl rfl
theorem dksX2_selves_2 : cX2_selves.data.toList.drop 45 = dktX2_selves_2 := dk_seg dksX2_selves_1 23 rfl rfl
theorem dksX2_selves_3 : cX2_selves.data.toList.drop 67 = dktX2_selves_3 := dk_seg dksX2_selves_2 22 rfl rfl
theorem dX2_selves_0 : decode cX2_selves 0 = .ok (.iconst 0, 1) := dk_3 (dk_at dksX2_selves_0 0 rfl rfl)
theorem dX2_selves_1 : decode cX2_selves 1 = .ok (.istore_n 3, 1) := dk_62 (dk_at dksX2_selves_0 1 rfl rfl)
theorem dX2_selves_2 : decode cX2_selves 2 = .ok (.iconst 0, 1) := dk_3 (dk_at dksX2_selves_0 2 rfl rfl)
theorem dX2_selves_3 : decode cX2_selves 3 = .ok (.istore 4, 2) := dk_54 4 (dk_at dksX2_selves_0 3 rfl rfl)
theorem dX2_selves_5 : decode cX2_selves 5 = .ok (.iload 4, 2) := dk_21 4 (dk_at dksX2_selves_0 5 rfl rfl)
theorem dX2_selves_7 : decode cX2_selves 7 = .ok (.aload_n 0, 1) := dk_42 (dk_at dksX2_selves_0 7 rfl rfl)
theorem dX2_selves_8 : decode cX2_selves 8 = .ok (.invokevirtual 109, 3) := dk_182 0 109 (dk_at dksX2_selves_0 8 rfl rfl)
theorem dX2_selves_11 : decode cX2_selves 11 = .ok (.if_icmp .ge 62, 3) := dk_162 0 62 (dk_at dksX2_selves_0 11 rfl rfl)
theorem dX2_selves_14 : decode cX2_selves 14 = .ok (.aload_n 0, 1) := dk_42 (dk_at dksX2_selves_0 14 rfl rfl)
theorem dX2_selves_15 : decode cX2_selves 15 = .ok (.iload 4, 2) := dk_21 4 (dk_at dksX2_selves_0 15 rfl rfl)
theorem dX2_selves_17 : decode cX2_selves 17 = .ok (.iconst 5, 1) := dk_8 (dk_at dksX2_selves_0 17 rfl rfl)
theorem dX2_selves_18 : decode cX2_selves 18 = .ok (.invokevirtual 74, 3) := dk_182 0 74 (dk_at dksX2_selves_0 18 rfl rfl)
theorem dX2_selves_21 : decode cX2_selves 21 = .ok (.iload_n 1, 1) := dk_27 (dk_at dksX2_selves_0 21 rfl rfl)
theorem dX2_selves_22 : decode cX2_selves 22 = .ok (.if_icmp .ne 12, 3) := dk_160 0 12 (dk_at dksX2_selves_1 0 rfl rfl)
theorem dX2_selves_25 : decode cX2_selves 25 = .ok (.aload_n 0, 1) := dk_42 (dk_at dksX2_selves_1 3 rfl rfl)
theorem dX2_selves_26 : decode cX2_selves 26 = .ok (.iload 4, 2) := dk_21 4 (dk_at dksX2_selves_1 4 rfl rfl)
theorem dX2_selves_28 : decode cX2_selves 28 = .ok (.invokevirtual 112, 3) := dk_182 0 112 (dk_at dksX2_selves_1 6 rfl rfl)
theorem dX2_selves_31 : decode cX2_selves 31 = .ok (.goto 4, 3) := dk_167 0 4 (dk_at dksX2_selves_1 9 rfl rfl)
theorem dX2_selves_34 : decode cX2_selves 34 = .ok (.iconst (-1), 1) := dk_2 (dk_at dksX2_selves_1 12 rfl rfl)
theorem dX2_selves_35 : decode cX2_selves 35 = .ok (.istore 5, 2) := dk_54 5 (dk_at dksX2_selves_1 13 rfl rfl)
theorem dX2_selves_37 : decode cX2_selves 37 = .ok (.iload_n 3, 1) := dk_29 (dk_at dksX2_selves_1 15 rfl rfl)
theorem dX2_selves_38 : decode cX2_selves 38 = .ok (.iload 5, 2) := dk_21 5 (dk_at dksX2_selves_1 16 rfl rfl)
theorem dX2_selves_40 : decode cX2_selves 40 = .ok (.iconst (-1), 1) := dk_2 (dk_at dksX2_selves_1 18 rfl rfl)
theorem dX2_selves_41 : decode cX2_selves 41 = .ok (.if_icmp .ne 7, 3) := dk_160 0 7 (dk_at dksX2_selves_1 19 rfl rfl)
theorem dX2_selves_44 : decode cX2_selves 44 = .ok (.iconst 0, 1) := dk_3 (dk_at dksX2_selves_1 22 rfl rfl)
theorem dX2_selves_45 : decode cX2_selves 45 = .ok (.goto 20, 3) := dk_167 0 20 (dk_at dksX2_selves_2 0 rfl rfl)
theorem dX2_selves_48 : decode cX2_selves 48 = .ok (.iload_n 2, 1) := dk_28 (dk_at dksX2_selves_2 3 rfl rfl)
theorem dX2_selves_49 : decode cX2_selves 49 = .ok (.ifCond .eq 15, 3) := dk_153 0 15 (dk_at dksX2_selves_2 4 rfl rfl)
theorem dX2_selves_52 : decode cX2_selves 52 = .ok (.aload_n 0, 1) := dk_42 (dk_at dksX2_selves_2 7 rfl rfl)
theorem dX2_selves_53 : decode cX2_selves 53 = .ok (.iload 5, 2) := dk_21 5 (dk_at dksX2_selves_2 8 rfl rfl)
theorem dX2_selves_55 : decode cX2_selves 55 = .ok (.invokevirtual 80, 3) := dk_182 0 80 (dk_at dksX2_selves_2 10 rfl rfl)
theorem dX2_selves_58 : decode cX2_selves 58 = .ok (.invokestatic 115, 3) := dk_184 0 115 (dk_at dksX2_selves_2 13 rfl rfl)
theorem dX2_selves_61 : decode cX2_selves 61 = .ok (.goto 4, 3) := dk_167 0 4 (dk_at dksX2_selves_2 16 rfl rfl)
theorem dX2_selves_64 : decode cX2_selves 64 = .ok (.iconst 1, 1) := dk_4 (dk_at dksX2_selves_2 19 rfl rfl)
theorem dX2_selves_65 : decode cX2_selves 65 = .ok (.iadd, 1) := dk_96 (dk_at dksX2_selves_2 20 rfl rfl)
theorem dX2_selves_66 : decode cX2_selves 66 = .ok (.istore_n 3, 1) := dk_62 (dk_at dksX2_selves_2 21 rfl rfl)
theorem dX2_selves_67 : decode cX2_selves 67 = .ok (.iinc 4 1, 3) := dk_132 4 1 (dk_at dksX2_selves_3 0 rfl rfl)
theorem dX2_selves_70 : decode cX2_selves 70 = .ok (.goto (-65), 3) := dk_167 255 191 (dk_at dksX2_selves_3 3 rfl rfl)
theorem dX2_selves_73 : decode cX2_selves 73 = .ok (.iload_n 3, 1) := dk_29 (dk_at dksX2_selves_3 6 rfl rfl)
theorem dX2_selves_74 : decode cX2_selves 74 = .ok (.ireturn, 1) := dk_172 (dk_at dksX2_selves_3 7 rfl rfl)
abbrev cX2_bag : ByteArray := prog_14_method_97_code
def yX2_bag : MethodName := ⟨RX2, "bag", "(II)I"⟩
def dkwX2_bag_4 : List UInt8 := [16, 27, 27, 96, 46, 172, 42, 180, 0, 13, 16, 9, 27, 96, 46, 172, 42, 27, 182, 1, 79, 172]
abbrev dktX2_bag_4 : List UInt8 := dkwX2_bag_4 ++ []
def dkwX2_bag_3 : List UInt8 := [42, 180, 0, 13, 16, 15, 27, 96, 46, 172, 42, 180, 0, 13, 16, 21, 27, 96, 46, 172, 42, 180, 0, 13]
abbrev dktX2_bag_3 : List UInt8 := dkwX2_bag_3 ++ dktX2_bag_4
def dkwX2_bag_2 : List UInt8 := [170, 0, 0, 0, 0, 0, 0, 72, 0, 0, 0, 0, 0, 0, 0, 3, 0, 0, 0, 32, 0, 0, 0, 42, 0, 0, 0, 52, 0, 0, 0, 62]
abbrev dktX2_bag_2 : List UInt8 := dkwX2_bag_2 ++ dktX2_bag_3
def dkwX2_bag_1 : List UInt8 := [167, 0, 4, 3, 6, 182, 0, 43, 153, 0, 5, 3, 172, 28]
abbrev dktX2_bag_1 : List UInt8 := dkwX2_bag_1 ++ dktX2_bag_2
def dkwX2_bag_0 : List UInt8 := [42, 27, 182, 1, 76, 154, 0, 28, 42, 28, 133, 9, 20, 1, 33, 184, 0, 195, 154, 0, 7, 4]
abbrev dktX2_bag_0 : List UInt8 := dkwX2_bag_0 ++ dktX2_bag_1
theorem dksX2_bag_0 : cX2_bag.data.toList.drop 0 = dktX2_bag_0 := by decide +kernel
theorem dksX2_bag_1 : cX2_bag.data.toList.drop 22 = dktX2_bag_1 := dk_seg dksX2_bag_0 22 rfl rfl
theorem dksX2_bag_2 : cX2_bag.data.toList.drop 36 = dktX2_bag_2 := dk_seg dksX2_bag_1 14 rfl rfl
theorem dksX2_bag_3 : cX2_bag.data.toList.drop 68 = dktX2_bag_3 := dk_seg dksX2_bag_2 32 rfl rfl
theorem dksX2_bag_4 : cX2_bag.data.toList.drop 92 = dktX2_bag_4 := dk_seg dksX2_bag_3 24 rfl rfl
theorem dX2_bag_0 : decode cX2_bag 0 = .ok (.aload_n 0, 1) := dk_42 (dk_at dksX2_bag_0 0 rfl rfl)
theorem dX2_bag_1 : decode cX2_bag 1 = .ok (.iload_n 1, 1) := dk_27 (dk_at dksX2_bag_0 1 rfl rfl)
theorem dX2_bag_2 : decode cX2_bag 2 = .ok (.invokevirtual 332, 3) := dk_182 1 76 (dk_at dksX2_bag_0 2 rfl rfl)
theorem dX2_bag_5 : decode cX2_bag 5 = .ok (.ifCond .ne 28, 3) := dk_154 0 28 (dk_at dksX2_bag_0 5 rfl rfl)
theorem dX2_bag_8 : decode cX2_bag 8 = .ok (.aload_n 0, 1) := dk_42 (dk_at dksX2_bag_0 8 rfl rfl)
theorem dX2_bag_9 : decode cX2_bag 9 = .ok (.iload_n 2, 1) := dk_28 (dk_at dksX2_bag_0 9 rfl rfl)
theorem dX2_bag_10 : decode cX2_bag 10 = .ok (.i2l, 1) := dk_133 (dk_at dksX2_bag_0 10 rfl rfl)
theorem dX2_bag_11 : decode cX2_bag 11 = .ok (.lconst 0, 1) := dk_9 (dk_at dksX2_bag_0 11 rfl rfl)
theorem dX2_bag_12 : decode cX2_bag 12 = .ok (.ldc2_w 289, 3) := dk_20 1 33 (dk_at dksX2_bag_0 12 rfl rfl)
theorem dX2_bag_15 : decode cX2_bag 15 = .ok (.invokestatic 195, 3) := dk_184 0 195 (dk_at dksX2_bag_0 15 rfl rfl)
theorem dX2_bag_18 : decode cX2_bag 18 = .ok (.ifCond .ne 7, 3) := dk_154 0 7 (dk_at dksX2_bag_0 18 rfl rfl)
theorem dX2_bag_21 : decode cX2_bag 21 = .ok (.iconst 1, 1) := dk_4 (dk_at dksX2_bag_0 21 rfl rfl)
theorem dX2_bag_22 : decode cX2_bag 22 = .ok (.goto 4, 3) := dk_167 0 4 (dk_at dksX2_bag_1 0 rfl rfl)
theorem dX2_bag_25 : decode cX2_bag 25 = .ok (.iconst 0, 1) := dk_3 (dk_at dksX2_bag_1 3 rfl rfl)
theorem dX2_bag_26 : decode cX2_bag 26 = .ok (.iconst 3, 1) := dk_6 (dk_at dksX2_bag_1 4 rfl rfl)
theorem dX2_bag_27 : decode cX2_bag 27 = .ok (.invokevirtual 43, 3) := dk_182 0 43 (dk_at dksX2_bag_1 5 rfl rfl)
theorem dX2_bag_30 : decode cX2_bag 30 = .ok (.ifCond .eq 5, 3) := dk_153 0 5 (dk_at dksX2_bag_1 8 rfl rfl)
theorem dX2_bag_33 : decode cX2_bag 33 = .ok (.iconst 0, 1) := dk_3 (dk_at dksX2_bag_1 11 rfl rfl)
theorem dX2_bag_34 : decode cX2_bag 34 = .ok (.ireturn, 1) := dk_172 (dk_at dksX2_bag_1 12 rfl rfl)
theorem dX2_bag_35 : decode cX2_bag 35 = .ok (.iload_n 2, 1) := dk_28 (dk_at dksX2_bag_1 13 rfl rfl)
theorem dX2_bag_36 : decode cX2_bag 36 = .ok (.tableswitch 72 0 3 #[32, 42, 52, 62], 32) := by decide +kernel
theorem dX2_bag_68 : decode cX2_bag 68 = .ok (.aload_n 0, 1) := dk_42 (dk_at dksX2_bag_3 0 rfl rfl)
theorem dX2_bag_69 : decode cX2_bag 69 = .ok (.getfield 13, 3) := dk_180 0 13 (dk_at dksX2_bag_3 1 rfl rfl)
theorem dX2_bag_72 : decode cX2_bag 72 = .ok (.bipush 15, 2) := dk_16 15 (dk_at dksX2_bag_3 4 rfl rfl)
theorem dX2_bag_74 : decode cX2_bag 74 = .ok (.iload_n 1, 1) := dk_27 (dk_at dksX2_bag_3 6 rfl rfl)
theorem dX2_bag_75 : decode cX2_bag 75 = .ok (.iadd, 1) := dk_96 (dk_at dksX2_bag_3 7 rfl rfl)
theorem dX2_bag_76 : decode cX2_bag 76 = .ok (.iaload, 1) := dk_46 (dk_at dksX2_bag_3 8 rfl rfl)
theorem dX2_bag_77 : decode cX2_bag 77 = .ok (.ireturn, 1) := dk_172 (dk_at dksX2_bag_3 9 rfl rfl)
theorem dX2_bag_78 : decode cX2_bag 78 = .ok (.aload_n 0, 1) := dk_42 (dk_at dksX2_bag_3 10 rfl rfl)
theorem dX2_bag_79 : decode cX2_bag 79 = .ok (.getfield 13, 3) := dk_180 0 13 (dk_at dksX2_bag_3 11 rfl rfl)
theorem dX2_bag_82 : decode cX2_bag 82 = .ok (.bipush 21, 2) := dk_16 21 (dk_at dksX2_bag_3 14 rfl rfl)
theorem dX2_bag_84 : decode cX2_bag 84 = .ok (.iload_n 1, 1) := dk_27 (dk_at dksX2_bag_3 16 rfl rfl)
theorem dX2_bag_85 : decode cX2_bag 85 = .ok (.iadd, 1) := dk_96 (dk_at dksX2_bag_3 17 rfl rfl)
theorem dX2_bag_86 : decode cX2_bag 86 = .ok (.iaload, 1) := dk_46 (dk_at dksX2_bag_3 18 rfl rfl)
theorem dX2_bag_87 : decode cX2_bag 87 = .ok (.ireturn, 1) := dk_172 (dk_at dksX2_bag_3 19 rfl rfl)
theorem dX2_bag_88 : decode cX2_bag 88 = .ok (.aload_n 0, 1) := dk_42 (dk_at dksX2_bag_3 20 rfl rfl)
theorem dX2_bag_89 : decode cX2_bag 89 = .ok (.getfield 13, 3) := dk_180 0 13 (dk_at dksX2_bag_3 21 rfl rfl)
theorem dX2_bag_92 : decode cX2_bag 92 = .ok (.bipush 27, 2) := dk_16 27 (dk_at dksX2_bag_4 0 rfl rfl)
theorem dX2_bag_94 : decode cX2_bag 94 = .ok (.iload_n 1, 1) := dk_27 (dk_at dksX2_bag_4 2 rfl rfl)
theorem dX2_bag_95 : decode cX2_bag 95 = .ok (.iadd, 1) := dk_96 (dk_at dksX2_bag_4 3 rfl rfl)
theorem dX2_bag_96 : decode cX2_bag 96 = .ok (.iaload, 1) := dk_46 (dk_at dksX2_bag_4 4 rfl rfl)
theorem dX2_bag_97 : decode cX2_bag 97 = .ok (.ireturn, 1) := dk_172 (dk_at dksX2_bag_4 5 rfl rfl)
theorem dX2_bag_98 : decode cX2_bag 98 = .ok (.aload_n 0, 1) := dk_42 (dk_at dksX2_bag_4 6 rfl rfl)
theorem dX2_bag_99 : decode cX2_bag 99 = .ok (.getfield 13, 3) := dk_180 0 13 (dk_at dksX2_bag_4 7 rfl rfl)
theorem dX2_bag_102 : decode cX2_bag 102 = .ok (.bipush 9, 2) := dk_16 9 (dk_at dksX2_bag_4 10 rfl rfl)
theorem dX2_bag_104 : decode cX2_bag 104 = .ok (.iload_n 1, 1) := dk_27 (dk_at dksX2_bag_4 12 rfl rfl)
theorem dX2_bag_105 : decode cX2_bag 105 = .ok (.iadd, 1) := dk_96 (dk_at dksX2_bag_4 13 rfl rfl)
theorem dX2_bag_106 : decode cX2_bag 106 = .ok (.iaload, 1) := dk_46 (dk_at dksX2_bag_4 14 rfl rfl)
theorem dX2_bag_107 : decode cX2_bag 107 = .ok (.ireturn, 1) := dk_172 (dk_at dksX2_bag_4 15 rfl rfl)
theorem dX2_bag_108 : decode cX2_bag 108 = .ok (.aload_n 0, 1) := dk_42 (dk_at dksX2_bag_4 16 rfl rfl)
theorem dX2_bag_109 : decode cX2_bag 109 = .ok (.iload_n 1, 1) := dk_27 (dk_at dksX2_bag_4 17 rfl rfl)
theorem dX2_bag_110 : decode cX2_bag 110 = .ok (.invokevirtual 335, 3) := dk_182 1 79 (dk_at dksX2_bag_4 18 rfl rfl)
theorem dX2_bag_113 : decode cX2_bag 113 = .ok (.ireturn, 1) := dk_172 (dk_at dksX2_bag_4 21 rfl rfl)
abbrev cX2_noRoute : ByteArray := prog_14_method_95_code
def yX2_noRoute : MethodName := ⟨RX2, "noRoute", "(I)Z"⟩
def dkwX2_noRoute_1 : List UInt8 := [3, 5, 182, 0, 43, 153, 0, 7, 4, 167, 0, 4, 3, 172]
abbrev dktX2_noRoute_1 : List UInt8 := dkwX2_noRoute_1 ++ []
def dkwX2_noRoute_0 : List UInt8 := [42, 182, 1, 4, 154, 0, 28, 42, 27, 133, 9, 20, 1, 62, 184, 0, 195, 154, 0, 7, 4, 167, 0, 4]
abbrev dktX2_noRoute_0 : List UInt8 := dkwX2_noRoute_0 ++ dktX2_noRoute_1
theorem dksX2_noRoute_0 : cX2_noRoute.data.toList.drop 0 = dktX2_noRoute_0 := by decide +kernel
theorem dksX2_noRoute_1 : cX2_noRoute.data.toList.drop 24 = dktX2_noRoute_1 := dk_seg dksX2_noRoute_0 24 rfl rfl
theorem dX2_noRoute_0 : decode cX2_noRoute 0 = .ok (.aload_n 0, 1) := dk_42 (dk_at dksX2_noRoute_0 0 rfl rfl)
theorem dX2_noRoute_1 : decode cX2_noRoute 1 = .ok (.invokevirtual 260, 3) := dk_182 1 4 (dk_at dksX2_noRoute_0 1 rfl rfl)
theorem dX2_noRoute_4 : decode cX2_noRoute 4 = .ok (.ifCond .ne 28, 3) := dk_154 0 28 (dk_at dksX2_noRoute_0 4 rfl rfl)
theorem dX2_noRoute_7 : decode cX2_noRoute 7 = .ok (.aload_n 0, 1) := dk_42 (dk_at dksX2_noRoute_0 7 rfl rfl)
theorem dX2_noRoute_8 : decode cX2_noRoute 8 = .ok (.iload_n 1, 1) := dk_27 (dk_at dksX2_noRoute_0 8 rfl rfl)
theorem dX2_noRoute_9 : decode cX2_noRoute 9 = .ok (.i2l, 1) := dk_133 (dk_at dksX2_noRoute_0 9 rfl rfl)
theorem dX2_noRoute_10 : decode cX2_noRoute 10 = .ok (.lconst 0, 1) := dk_9 (dk_at dksX2_noRoute_0 10 rfl rfl)
theorem dX2_noRoute_11 : decode cX2_noRoute 11 = .ok (.ldc2_w 318, 3) := dk_20 1 62 (dk_at dksX2_noRoute_0 11 rfl rfl)
theorem dX2_noRoute_14 : decode cX2_noRoute 14 = .ok (.invokestatic 195, 3) := dk_184 0 195 (dk_at dksX2_noRoute_0 14 rfl rfl)
theorem dX2_noRoute_17 : decode cX2_noRoute 17 = .ok (.ifCond .ne 7, 3) := dk_154 0 7 (dk_at dksX2_noRoute_0 17 rfl rfl)
theorem dX2_noRoute_20 : decode cX2_noRoute 20 = .ok (.iconst 1, 1) := dk_4 (dk_at dksX2_noRoute_0 20 rfl rfl)
theorem dX2_noRoute_21 : decode cX2_noRoute 21 = .ok (.goto 4, 3) := dk_167 0 4 (dk_at dksX2_noRoute_0 21 rfl rfl)
theorem dX2_noRoute_24 : decode cX2_noRoute 24 = .ok (.iconst 0, 1) := dk_3 (dk_at dksX2_noRoute_1 0 rfl rfl)
theorem dX2_noRoute_25 : decode cX2_noRoute 25 = .ok (.iconst 2, 1) := dk_5 (dk_at dksX2_noRoute_1 1 rfl rfl)
theorem dX2_noRoute_26 : decode cX2_noRoute 26 = .ok (.invokevirtual 43, 3) := dk_182 0 43 (dk_at dksX2_noRoute_1 2 rfl rfl)
theorem dX2_noRoute_29 : decode cX2_noRoute 29 = .ok (.ifCond .eq 7, 3) := dk_153 0 7 (dk_at dksX2_noRoute_1 5 rfl rfl)
theorem dX2_noRoute_32 : decode cX2_noRoute 32 = .ok (.iconst 1, 1) := dk_4 (dk_at dksX2_noRoute_1 8 rfl rfl)
theorem dX2_noRoute_33 : decode cX2_noRoute 33 = .ok (.goto 4, 3) := dk_167 0 4 (dk_at dksX2_noRoute_1 9 rfl rfl)
theorem dX2_noRoute_36 : decode cX2_noRoute 36 = .ok (.iconst 0, 1) := dk_3 (dk_at dksX2_noRoute_1 12 rfl rfl)
theorem dX2_noRoute_37 : decode cX2_noRoute 37 = .ok (.ireturn, 1) := dk_172 (dk_at dksX2_noRoute_1 13 rfl rfl)
abbrev cX2_townsOn : ByteArray := prog_14_method_96_code
def yX2_townsOn : MethodName := ⟨RX2, "townsOn", "(I)I"⟩
def dkwX2_townsOn_1 : List UInt8 := [160, 0, 7, 4, 167, 0, 4, 3, 184, 0, 86, 96, 61, 132, 3, 1, 167, 255, 221, 28, 172]
abbrev dktX2_townsOn_1 : List UInt8 := dkwX2_townsOn_1 ++ []
def dkwX2_townsOn_0 : List UInt8 := [3, 61, 3, 62, 29, 42, 182, 0, 90, 162, 0, 33, 28, 42, 180, 0, 7, 16, 14, 29, 96, 46, 27]
abbrev dktX2_townsOn_0 : List UInt8 := dkwX2_townsOn_0 ++ dktX2_townsOn_1
theorem dksX2_townsOn_0 : cX2_townsOn.data.toList.drop 0 = dktX2_townsOn_0 := by decide +kernel
theorem dksX2_townsOn_1 : cX2_townsOn.data.toList.drop 23 = dktX2_townsOn_1 := dk_seg dksX2_townsOn_0 23 rfl rfl
theorem dX2_townsOn_0 : decode cX2_townsOn 0 = .ok (.iconst 0, 1) := dk_3 (dk_at dksX2_townsOn_0 0 rfl rfl)
theorem dX2_townsOn_1 : decode cX2_townsOn 1 = .ok (.istore_n 2, 1) := dk_61 (dk_at dksX2_townsOn_0 1 rfl rfl)
theorem dX2_townsOn_2 : decode cX2_townsOn 2 = .ok (.iconst 0, 1) := dk_3 (dk_at dksX2_townsOn_0 2 rfl rfl)
theorem dX2_townsOn_3 : decode cX2_townsOn 3 = .ok (.istore_n 3, 1) := dk_62 (dk_at dksX2_townsOn_0 3 rfl rfl)
theorem dX2_townsOn_4 : decode cX2_townsOn 4 = .ok (.iload_n 3, 1) := dk_29 (dk_at dksX2_townsOn_0 4 rfl rfl)
theorem dX2_townsOn_5 : decode cX2_townsOn 5 = .ok (.aload_n 0, 1) := dk_42 (dk_at dksX2_townsOn_0 5 rfl rfl)
theorem dX2_townsOn_6 : decode cX2_townsOn 6 = .ok (.invokevirtual 90, 3) := dk_182 0 90 (dk_at dksX2_townsOn_0 6 rfl rfl)
theorem dX2_townsOn_9 : decode cX2_townsOn 9 = .ok (.if_icmp .ge 33, 3) := dk_162 0 33 (dk_at dksX2_townsOn_0 9 rfl rfl)
theorem dX2_townsOn_12 : decode cX2_townsOn 12 = .ok (.iload_n 2, 1) := dk_28 (dk_at dksX2_townsOn_0 12 rfl rfl)
theorem dX2_townsOn_13 : decode cX2_townsOn 13 = .ok (.aload_n 0, 1) := dk_42 (dk_at dksX2_townsOn_0 13 rfl rfl)
theorem dX2_townsOn_14 : decode cX2_townsOn 14 = .ok (.getfield 7, 3) := dk_180 0 7 (dk_at dksX2_townsOn_0 14 rfl rfl)
theorem dX2_townsOn_17 : decode cX2_townsOn 17 = .ok (.bipush 14, 2) := dk_16 14 (dk_at dksX2_townsOn_0 17 rfl rfl)
theorem dX2_townsOn_19 : decode cX2_townsOn 19 = .ok (.iload_n 3, 1) := dk_29 (dk_at dksX2_townsOn_0 19 rfl rfl)
theorem dX2_townsOn_20 : decode cX2_townsOn 20 = .ok (.iadd, 1) := dk_96 (dk_at dksX2_townsOn_0 20 rfl rfl)
theorem dX2_townsOn_21 : decode cX2_townsOn 21 = .ok (.iaload, 1) := dk_46 (dk_at dksX2_townsOn_0 21 rfl rfl)
theorem dX2_townsOn_22 : decode cX2_townsOn 22 = .ok (.iload_n 1, 1) := dk_27 (dk_at dksX2_townsOn_0 22 rfl rfl)
theorem dX2_townsOn_23 : decode cX2_townsOn 23 = .ok (.if_icmp .ne 7, 3) := dk_160 0 7 (dk_at dksX2_townsOn_1 0 rfl rfl)
theorem dX2_townsOn_26 : decode cX2_townsOn 26 = .ok (.iconst 1, 1) := dk_4 (dk_at dksX2_townsOn_1 3 rfl rfl)
theorem dX2_townsOn_27 : decode cX2_townsOn 27 = .ok (.goto 4, 3) := dk_167 0 4 (dk_at dksX2_townsOn_1 4 rfl rfl)
theorem dX2_townsOn_30 : decode cX2_townsOn 30 = .ok (.iconst 0, 1) := dk_3 (dk_at dksX2_townsOn_1 7 rfl rfl)
theorem dX2_townsOn_31 : decode cX2_townsOn 31 = .ok (.invokestatic 86, 3) := dk_184 0 86 (dk_at dksX2_townsOn_1 8 rfl rfl)
theorem dX2_townsOn_34 : decode cX2_townsOn 34 = .ok (.iadd, 1) := dk_96 (dk_at dksX2_townsOn_1 11 rfl rfl)
theorem dX2_townsOn_35 : decode cX2_townsOn 35 = .ok (.istore_n 2, 1) := dk_61 (dk_at dksX2_townsOn_1 12 rfl rfl)
theorem dX2_townsOn_36 : decode cX2_townsOn 36 = .ok (.iinc 3 1, 3) := dk_132 3 1 (dk_at dksX2_townsOn_1 13 rfl rfl)
theorem dX2_townsOn_39 : decode cX2_townsOn 39 = .ok (.goto (-35), 3) := dk_167 255 221 (dk_at dksX2_townsOn_1 16 rfl rfl)
theorem dX2_townsOn_42 : decode cX2_townsOn 42 = .ok (.iload_n 2, 1) := dk_28 (dk_at dksX2_townsOn_1 19 rfl rfl)
theorem dX2_townsOn_43 : decode cX2_townsOn 43 = .ok (.ireturn, 1) := dk_172 (dk_at dksX2_townsOn_1 20 rfl rfl)
abbrev cX2_causes : ByteArray := prog_14_method_98_code
def yX2_causes : MethodName := ⟨RX2, "causes", "(I)I"⟩
def dkwX2_causes_3 : List UInt8 := [167, 255, 223, 28, 172]
abbrev dktX2_causes_3 : List UInt8 := dkwX2_causes_3 ++ []
def dkwX2_causes_2 : List UInt8 := [29, 16, 8, 182, 0, 74, 27, 160, 0, 7, 4, 167, 0, 4, 3, 184, 0, 86, 96, 61, 132, 3, 1]
abbrev dktX2_causes_2 : List UInt8 := dkwX2_causes_2 ++ dktX2_causes_3
def dkwX2_causes_1 : List UInt8 := [3, 5, 182, 0, 43, 153, 0, 5, 3, 172, 3, 61, 3, 62, 29, 42, 182, 0, 109, 162, 0, 31, 28, 42]
abbrev dktX2_causes_1 : List UInt8 := dkwX2_causes_1 ++ dktX2_causes_2
def dkwX2_causes_0 : List UInt8 := [42, 182, 1, 4, 154, 0, 28, 42, 27, 133, 10, 20, 1, 33, 184, 0, 195, 154, 0, 7, 4, 167, 0, 4]
abbrev dktX2_causes_0 : List UInt8 := dkwX2_causes_0 ++ dktX2_causes_1
theorem dksX2_causes_0 : cX2_causes.data.toList.drop 0 = dktX2_causes_0 := by decide +kernel
theorem dksX2_causes_1 : cX2_causes.data.toList.drop 24 = dktX2_causes_1 := dk_seg dksX2_causes_0 24 rfl rfl
theorem dksX2_causes_2 : cX2_causes.data.toList.drop 48 = dktX2_causes_2 := dk_seg dksX2_causes_1 24 rfl rfl
theorem dksX2_causes_3 : cX2_causes.data.toList.drop 71 = dktX2_causes_3 := dk_seg dksX2_causes_2 23 rfl rfl
theorem dX2_causes_0 : decode cX2_causes 0 = .ok (.aload_n 0, 1) := dk_42 (dk_at dksX2_causes_0 0 rfl rfl)
theorem dX2_causes_1 : decode cX2_causes 1 = .ok (.invokevirtual 260, 3) := dk_182 1 4 (dk_at dksX2_causes_0 1 rfl rfl)
theorem dX2_causes_4 : decode cX2_causes 4 = .ok (.ifCond .ne 28, 3) := dk_154 0 28 (dk_at dksX2_causes_0 4 rfl rfl)
theorem dX2_causes_7 : decode cX2_causes 7 = .ok (.aload_n 0, 1) := dk_42 (dk_at dksX2_causes_0 7 rfl rfl)
theorem dX2_causes_8 : decode cX2_causes 8 = .ok (.iload_n 1, 1) := dk_27 (dk_at dksX2_causes_0 8 rfl rfl)
theorem dX2_causes_9 : decode cX2_causes 9 = .ok (.i2l, 1) := dk_133 (dk_at dksX2_causes_0 9 rfl rfl)
theorem dX2_causes_10 : decode cX2_causes 10 = .ok (.lconst 1, 1) := dk_10 (dk_at dksX2_causes_0 10 rfl rfl)
theorem dX2_causes_11 : decode cX2_causes 11 = .ok (.ldc2_w 289, 3) := dk_20 1 33 (dk_at dksX2_causes_0 11 rfl rfl)
theorem dX2_causes_14 : decode cX2_causes 14 = .ok (.invokestatic 195, 3) := dk_184 0 195 (dk_at dksX2_causes_0 14 rfl rfl)
theorem dX2_causes_17 : decode cX2_causes 17 = .ok (.ifCond .ne 7, 3) := dk_154 0 7 (dk_at dksX2_causes_0 17 rfl rfl)
theorem dX2_causes_20 : decode cX2_causes 20 = .ok (.iconst 1, 1) := dk_4 (dk_at dksX2_causes_0 20 rfl rfl)
theorem dX2_causes_21 : decode cX2_causes 21 = .ok (.goto 4, 3) := dk_167 0 4 (dk_at dksX2_causes_0 21 rfl rfl)
theorem dX2_causes_24 : decode cX2_causes 24 = .ok (.iconst 0, 1) := dk_3 (dk_at dksX2_causes_1 0 rfl rfl)
theorem dX2_causes_25 : decode cX2_causes 25 = .ok (.iconst 2, 1) := dk_5 (dk_at dksX2_causes_1 1 rfl rfl)
theorem dX2_causes_26 : decode cX2_causes 26 = .ok (.invokevirtual 43, 3) := dk_182 0 43 (dk_at dksX2_causes_1 2 rfl rfl)
theorem dX2_causes_29 : decode cX2_causes 29 = .ok (.ifCond .eq 5, 3) := dk_153 0 5 (dk_at dksX2_causes_1 5 rfl rfl)
theorem dX2_causes_32 : decode cX2_causes 32 = .ok (.iconst 0, 1) := dk_3 (dk_at dksX2_causes_1 8 rfl rfl)
theorem dX2_causes_33 : decode cX2_causes 33 = .ok (.ireturn, 1) := dk_172 (dk_at dksX2_causes_1 9 rfl rfl)
theorem dX2_causes_34 : decode cX2_causes 34 = .ok (.iconst 0, 1) := dk_3 (dk_at dksX2_causes_1 10 rfl rfl)
theorem dX2_causes_35 : decode cX2_causes 35 = .ok (.istore_n 2, 1) := dk_61 (dk_at dksX2_causes_1 11 rfl rfl)
theorem dX2_causes_36 : decode cX2_causes 36 = .ok (.iconst 0, 1) := dk_3 (dk_at dksX2_causes_1 12 rfl rfl)
theorem dX2_causes_37 : decode cX2_causes 37 = .ok (.istore_n 3, 1) := dk_62 (dk_at dksX2_causes_1 13 rfl rfl)
theorem dX2_causes_38 : decode cX2_causes 38 = .ok (.iload_n 3, 1) := dk_29 (dk_at dksX2_causes_1 14 rfl rfl)
theorem dX2_causes_39 : decode cX2_causes 39 = .ok (.aload_n 0, 1) := dk_42 (dk_at dksX2_causes_1 15 rfl rfl)
theorem dX2_causes_40 : decode cX2_causes 40 = .ok (.invokevirtual 109, 3) := dk_182 0 109 (dk_at dksX2_causes_1 16 rfl rfl)
theorem dX2_causes_43 : decode cX2_causes 43 = .ok (.if_icmp .ge 31, 3) := dk_162 0 31 (dk_at dksX2_causes_1 19 rfl rfl)
theorem dX2_causes_46 : decode cX2_causes 46 = .ok (.iload_n 2, 1) := dk_28 (dk_at dksX2_causes_1 22 rfl rfl)
theorem dX2_causes_47 : decode cX2_causes 47 = .ok (.aload_n 0, 1) := dk_42 (dk_at dksX2_causes_1 23 rfl rfl)
theorem dX2_causes_48 : decode cX2_causes 48 = .ok (.iload_n 3, 1) := dk_29 (dk_at dksX2_causes_2 0 rfl rfl)
theorem dX2_causes_49 : decode cX2_causes 49 = .ok (.bipush 8, 2) := dk_16 8 (dk_at dksX2_causes_2 1 rfl rfl)
theorem dX2_causes_51 : decode cX2_causes 51 = .ok (.invokevirtual 74, 3) := dk_182 0 74 (dk_at dksX2_causes_2 3 rfl rfl)
theorem dX2_causes_54 : decode cX2_causes 54 = .ok (.iload_n 1, 1) := dk_27 (dk_at dksX2_causes_2 6 rfl rfl)
theorem dX2_causes_55 : decode cX2_causes 55 = .ok (.if_icmp .ne 7, 3) := dk_160 0 7 (dk_at dksX2_causes_2 7 rfl rfl)
theorem dX2_causes_58 : decode cX2_causes 58 = .ok (.iconst 1, 1) := dk_4 (dk_at dksX2_causes_2 10 rfl rfl)
theorem dX2_causes_59 : decode cX2_causes 59 = .ok (.goto 4, 3) := dk_167 0 4 (dk_at dksX2_causes_2 11 rfl rfl)
theorem dX2_causes_62 : decode cX2_causes 62 = .ok (.iconst 0, 1) := dk_3 (dk_at dksX2_causes_2 14 rfl rfl)
theorem dX2_causes_63 : decode cX2_causes 63 = .ok (.invokestatic 86, 3) := dk_184 0 86 (dk_at dksX2_causes_2 15 rfl rfl)
theorem dX2_causes_66 : decode cX2_causes 66 = .ok (.iadd, 1) := dk_96 (dk_at dksX2_causes_2 18 rfl rfl)
theorem dX2_causes_67 : decode cX2_causes 67 = .ok (.istore_n 2, 1) := dk_61 (dk_at dksX2_causes_2 19 rfl rfl)
theorem dX2_causes_68 : decode cX2_causes 68 = .ok (.iinc 3 1, 3) := dk_132 3 1 (dk_at dksX2_causes_2 20 rfl rfl)
theorem dX2_causes_71 : decode cX2_causes 71 = .ok (.goto (-33), 3) := dk_167 255 223 (dk_at dksX2_causes_3 0 rfl rfl)
theorem dX2_causes_74 : decode cX2_causes 74 = .ok (.iload_n 2, 1) := dk_28 (dk_at dksX2_causes_3 3 rfl rfl)
theorem dX2_causes_75 : decode cX2_causes 75 = .ok (.ireturn, 1) := dk_172 (dk_at dksX2_causes_3 4 rfl rfl)
abbrev cX2_gap : ByteArray := prog_14_method_99_code
def yX2_gap : MethodName := ⟨RX2, "gap", "()I"⟩
def dkwX2_gap_8 : List UInt8 := [172]
abbrev dktX2_gap_8 : List UInt8 := dkwX2_gap_8 ++ []
def dkwX2_gap_7 : List UInt8 := [104, 96, 42, 180, 0, 13, 16, 27, 28, 96, 46, 100, 184, 1, 82, 96, 60, 132, 2, 1, 167, 255, 205, 27]
abbrev dktX2_gap_7 : List UInt8 := dkwX2_gap_7 ++ dktX2_gap_8
def dkwX2_gap_6 : List UInt8 := [42, 180, 0, 13, 16, 15, 28, 96, 46, 42, 180, 0, 7, 3, 46, 42, 180, 0, 13, 16, 21, 28, 96, 46]
abbrev dktX2_gap_6 : List UInt8 := dkwX2_gap_6 ++ dktX2_gap_7
def dkwX2_gap_5 : List UInt8 := [167, 0, 4, 3, 184, 0, 86, 96, 60, 132, 2, 1, 167, 255, 164, 3, 61, 28, 16, 6, 162, 0, 51, 27]
abbrev dktX2_gap_5 : List UInt8 := dkwX2_gap_5 ++ dktX2_gap_6
def dkwX2_gap_4 : List UInt8 := [184, 0, 58, 96, 21, 4, 7, 184, 0, 58, 96, 54, 5, 27, 21, 5, 16, 10, 112, 153, 0, 7, 4]
abbrev dktX2_gap_4 : List UInt8 := dkwX2_gap_4 ++ dktX2_gap_5
def dkwX2_gap_3 : List UInt8 := [184, 0, 58, 104, 21, 4, 4, 184, 0, 58, 96, 6, 21, 4, 5, 184, 0, 58, 104, 96, 21, 4, 6]
abbrev dktX2_gap_3 : List UInt8 := dkwX2_gap_3 ++ dktX2_gap_4
def dkwX2_gap_2 : List UInt8 := [182, 0, 121, 62, 29, 2, 160, 0, 7, 3, 167, 0, 8, 42, 29, 182, 0, 80, 54, 4, 6, 21, 4, 3]
abbrev dktX2_gap_2 : List UInt8 := dkwX2_gap_2 ++ dktX2_gap_3
def dkwX2_gap_1 : List UInt8 := [100, 42, 5, 182, 1, 10, 100, 184, 1, 82, 60, 3, 61, 28, 42, 182, 0, 109, 162, 0, 90, 42, 28]
abbrev dktX2_gap_1 : List UInt8 := dkwX2_gap_1 ++ dktX2_gap_2
def dkwX2_gap_0 : List UInt8 := [42, 182, 1, 4, 153, 0, 5, 3, 172, 42, 182, 0, 109, 42, 3, 182, 1, 10, 100, 42, 4, 182, 1, 10]
abbrev dktX2_gap_0 : List UInt8 := dkwX2_gap_0 ++ dktX2_gap_1
theorem dksX2_gap_0 : cX2_gap.data.toList.drop 0 = dktX2_gap_0 := by decide +kernel
theorem dksX2_gap_1 : cX2_gap.data.toList.drop 24 = dktX2_gap_1 := dk_seg dksX2_gap_0 24 rfl rfl
theorem dksX2_gap_2 : cX2_gap.data.toList.drop 47 = dktX2_gap_2 := dk_seg dksX2_gap_1 23 rfl rfl
theorem dksX2_gap_3 : cX2_gap.data.toList.drop 71 = dktX2_gap_3 := dk_seg dksX2_gap_2 24 rfl rfl
theorem dksX2_gap_4 : cX2_gap.data.toList.drop 94 = dktX2_gap_4 := dk_seg dksX2_gap_3 23 rfl rfl
theorem dksX2_gap_5 : cX2_gap.data.toList.drop 117 = dktX2_gap_5 := dk_seg dksX2_gap_4 23 rfl rfl
theorem dksX2_gap_6 : cX2_gap.data.toList.drop 141 = dktX2_gap_6 := dk_seg dksX2_gap_5 24 rfl rfl
theorem dksX2_gap_7 : cX2_gap.data.toList.drop 165 = dktX2_gap_7 := dk_seg dksX2_gap_6 24 rfl rfl
theorem dksX2_gap_8 : cX2_gap.data.toList.drop 189 = dktX2_gap_8 := dk_seg dksX2_gap_7 24 rfl rfl
theorem dX2_gap_0 : decode cX2_gap 0 = .ok (.aload_n 0, 1) := dk_42 (dk_at dksX2_gap_0 0 rfl rfl)
theorem dX2_gap_1 : decode cX2_gap 1 = .ok (.invokevirtual 260, 3) := dk_182 1 4 (dk_at dksX2_gap_0 1 rfl rfl)
theorem dX2_gap_4 : decode cX2_gap 4 = .ok (.ifCond .eq 5, 3) := dk_153 0 5 (dk_at dksX2_gap_0 4 rfl rfl)
theorem dX2_gap_7 : decode cX2_gap 7 = .ok (.iconst 0, 1) := dk_3 (dk_at dksX2_gap_0 7 rfl rfl)
theorem dX2_gap_8 : decode cX2_gap 8 = .ok (.ireturn, 1) := dk_172 (dk_at dksX2_gap_0 8 rfl rfl)
theorem dX2_gap_9 : decode cX2_gap 9 = .ok (.aload_n 0, 1) := dk_42 (dk_at dksX2_gap_0 9 rfl rfl)
theorem dX2_gap_10 : decode cX2_gap 10 = .ok (.invokevirtual 109, 3) := dk_182 0 109 (dk_at dksX2_gap_0 10 rfl rfl)
theorem dX2_gap_13 : decode cX2_gap 13 = .ok (.aload_n 0, 1) := dk_42 (dk_at dksX2_gap_0 13 rfl rfl)
theorem dX2_gap_14 : decode cX2_gap 14 = .ok (.iconst 0, 1) := dk_3 (dk_at dksX2_gap_0 14 rfl rfl)
theorem dX2_gap_15 : decode cX2_gap 15 = .ok (.invokevirtual 266, 3) := dk_182 1 10 (dk_at dksX2_gap_0 15 rfl rfl)
theorem dX2_gap_18 : decode cX2_gap 18 = .ok (.isub, 1) := dk_100 (dk_at dksX2_gap_0 18 rfl rfl)
theorem dX2_gap_19 : decode cX2_gap 19 = .ok (.aload_n 0, 1) := dk_42 (dk_at dksX2_gap_0 19 rfl rfl)
theorem dX2_gap_20 : decode cX2_gap 20 = .ok (.iconst 1, 1) := dk_4 (dk_at dksX2_gap_0 20 rfl rfl)
theorem dX2_gap_21 : decode cX2_gap 21 = .ok (.invokevirtual 266, 3) := dk_182 1 10 (dk_at dksX2_gap_0 21 rfl rfl)
theorem dX2_gap_24 : decode cX2_gap 24 = .ok (.isub, 1) := dk_100 (dk_at dksX2_gap_1 0 rfl rfl)
theorem dX2_gap_25 : decode cX2_gap 25 = .ok (.aload_n 0, 1) := dk_42 (dk_at dksX2_gap_1 1 rfl rfl)
theorem dX2_gap_26 : decode cX2_gap 26 = .ok (.iconst 2, 1) := dk_5 (dk_at dksX2_gap_1 2 rfl rfl)
theorem dX2_gap_27 : decode cX2_gap 27 = .ok (.invokevirtual 266, 3) := dk_182 1 10 (dk_at dksX2_gap_1 3 rfl rfl)
theorem dX2_gap_30 : decode cX2_gap 30 = .ok (.isub, 1) := dk_100 (dk_at dksX2_gap_1 6 rfl rfl)
theorem dX2_gap_31 : decode cX2_gap 31 = .ok (.invokestatic 338, 3) := dk_184 1 82 (dk_at dksX2_gap_1 7 rfl rfl)
theorem dX2_gap_34 : decode cX2_gap 34 = .ok (.istore_n 1, 1) := dk_60 (dk_at dksX2_gap_1 10 rfl rfl)
theorem dX2_gap_35 : decode cX2_gap 35 = .ok (.iconst 0, 1) := dk_3 (dk_at dksX2_gap_1 11 rfl rfl)
theorem dX2_gap_36 : decode cX2_gap 36 = .ok (.istore_n 2, 1) := dk_61 (dk_at dksX2_gap_1 12 rfl rfl)
theorem dX2_gap_37 : decode cX2_gap 37 = .ok (.iload_n 2, 1) := dk_28 (dk_at dksX2_gap_1 13 rfl rfl)
theorem dX2_gap_38 : decode cX2_gap 38 = .ok (.aload_n 0, 1) := dk_42 (dk_at dksX2_gap_1 14 rfl rfl)
theorem dX2_gap_39 : decode cX2_gap 39 = .ok (.invokevirtual 109, 3) := dk_182 0 109 (dk_at dksX2_gap_1 15 rfl rfl)
theorem dX2_gap_42 : decode cX2_gap 42 = .ok (.if_icmp .ge 90, 3) := dk_162 0 90 (dk_at dksX2_gap_1 18 rfl rfl)
theorem dX2_gap_45 : decode cX2_gap 45 = .ok (.aload_n 0, 1) := dk_42 (dk_at dksX2_gap_1 21 rfl rfl)
theorem dX2_gap_46 : decode cX2_gap 46 = .ok (.iload_n 2, 1) := dk_28 (dk_at dksX2_gap_1 22 rfl rfl)
theorem dX2_gap_47 : decode cX2_gap 47 = .ok (.invokevirtual 121, 3) := dk_182 0 121 (dk_at dksX2_gap_2 0 rfl rfl)
theorem dX2_gap_50 : decode cX2_gap 50 = .ok (.istore_n 3, 1) := dk_62 (dk_at dksX2_gap_2 3 rfl rfl)
theorem dX2_gap_51 : decode cX2_gap 51 = .ok (.iload_n 3, 1) := dk_29 (dk_at dksX2_gap_2 4 rfl rfl)
theorem dX2_gap_52 : decode cX2_gap 52 = .ok (.iconst (-1), 1) := dk_2 (dk_at dksX2_gap_2 5 rfl rfl)
theorem dX2_gap_53 : decode cX2_gap 53 = .ok (.if_icmp .ne 7, 3) := dk_160 0 7 (dk_at dksX2_gap_2 6 rfl rfl)
theorem dX2_gap_56 : decode cX2_gap 56 = .ok (.iconst 0, 1) := dk_3 (dk_at dksX2_gap_2 9 rfl rfl)
theorem dX2_gap_57 : decode cX2_gap 57 = .ok (.goto 8, 3) := dk_167 0 8 (dk_at dksX2_gap_2 10 rfl rfl)
theorem dX2_gap_60 : decode cX2_gap 60 = .ok (.aload_n 0, 1) := dk_42 (dk_at dksX2_gap_2 13 rfl rfl)
theorem dX2_gap_61 : decode cX2_gap 61 = .ok (.iload_n 3, 1) := dk_29 (dk_at dksX2_gap_2 14 rfl rfl)
theorem dX2_gap_62 : decode cX2_gap 62 = .ok (.invokevirtual 80, 3) := dk_182 0 80 (dk_at dksX2_gap_2 15 rfl rfl)
theorem dX2_gap_65 : decode cX2_gap 65 = .ok (.istore 4, 2) := dk_54 4 (dk_at dksX2_gap_2 18 rfl rfl)
theorem dX2_gap_67 : decode cX2_gap 67 = .ok (.iconst 3, 1) := dk_6 (dk_at dksX2_gap_2 20 rfl rfl)
theorem dX2_gap_68 : decode cX2_gap 68 = .ok (.iload 4, 2) := dk_21 4 (dk_at dksX2_gap_2 21 rfl rfl)
theorem dX2_gap_70 : decode cX2_gap 70 = .ok (.iconst 0, 1) := dk_3 (dk_at dksX2_gap_2 23 rfl rfl)
theorem dX2_gap_71 : decode cX2_gap 71 = .ok (.invokestatic 58, 3) := dk_184 0 58 (dk_at dksX2_gap_3 0 rfl rfl)
theorem dX2_gap_74 : decode cX2_gap 74 = .ok (.imul, 1) := dk_104 (dk_at dksX2_gap_3 3 rfl rfl)
theorem dX2_gap_75 : decode cX2_gap 75 = .ok (.iload 4, 2) := dk_21 4 (dk_at dksX2_gap_3 4 rfl rfl)
theorem dX2_gap_77 : decode cX2_gap 77 = .ok (.iconst 1, 1) := dk_4 (dk_at dksX2_gap_3 6 rfl rfl)
theorem dX2_gap_78 : decode cX2_gap 78 = .ok (.invokestatic 58, 3) := dk_184 0 58 (dk_at dksX2_gap_3 7 rfl rfl)
theorem dX2_gap_81 : decode cX2_gap 81 = .ok (.iadd, 1) := dk_96 (dk_at dksX2_gap_3 10 rfl rfl)
theorem dX2_gap_82 : decode cX2_gap 82 = .ok (.iconst 3, 1) := dk_6 (dk_at dksX2_gap_3 11 rfl rfl)
theorem dX2_gap_83 : decode cX2_gap 83 = .ok (.iload 4, 2) := dk_21 4 (dk_at dksX2_gap_3 12 rfl rfl)
theorem dX2_gap_85 : decode cX2_gap 85 = .ok (.iconst 2, 1) := dk_5 (dk_at dksX2_gap_3 14 rfl rfl)
theorem dX2_gap_86 : decode cX2_gap 86 = .ok (.invokestatic 58, 3) := dk_184 0 58 (dk_at dksX2_gap_3 15 rfl rfl)
theorem dX2_gap_89 : decode cX2_gap 89 = .ok (.imul, 1) := dk_104 (dk_at dksX2_gap_3 18 rfl rfl)
theorem dX2_gap_90 : decode cX2_gap 90 = .ok (.iadd, 1) := dk_96 (dk_at dksX2_gap_3 19 rfl rfl)
theorem dX2_gap_91 : decode cX2_gap 91 = .ok (.iload 4, 2) := dk_21 4 (dk_at dksX2_gap_3 20 rfl rfl)
theorem dX2_gap_93 : decode cX2_gap 93 = .ok (.iconst 3, 1) := dk_6 (dk_at dksX2_gap_3 22 rfl rfl)
theorem dX2_gap_94 : decode cX2_gap 94 = .ok (.invokestatic 58, 3) := dk_184 0 58 (dk_at dksX2_gap_4 0 rfl rfl)
theorem dX2_gap_97 : decode cX2_gap 97 = .ok (.iadd, 1) := dk_96 (dk_at dksX2_gap_4 3 rfl rfl)
theorem dX2_gap_98 : decode cX2_gap 98 = .ok (.iload 4, 2) := dk_21 4 (dk_at dksX2_gap_4 4 rfl rfl)
theorem dX2_gap_100 : decode cX2_gap 100 = .ok (.iconst 4, 1) := dk_7 (dk_at dksX2_gap_4 6 rfl rfl)
theorem dX2_gap_101 : decode cX2_gap 101 = .ok (.invokestatic 58, 3) := dk_184 0 58 (dk_at dksX2_gap_4 7 rfl rfl)
theorem dX2_gap_104 : decode cX2_gap 104 = .ok (.iadd, 1) := dk_96 (dk_at dksX2_gap_4 10 rfl rfl)
theorem dX2_gap_105 : decode cX2_gap 105 = .ok (.istore 5, 2) := dk_54 5 (dk_at dksX2_gap_4 11 rfl rfl)
theorem dX2_gap_107 : decode cX2_gap 107 = .ok (.iload_n 1, 1) := dk_27 (dk_at dksX2_gap_4 13 rfl rfl)
theorem dX2_gap_108 : decode cX2_gap 108 = .ok (.iload 5, 2) := dk_21 5 (dk_at dksX2_gap_4 14 rfl rfl)
theorem dX2_gap_110 : decode cX2_gap 110 = .ok (.bipush 10, 2) := dk_16 10 (dk_at dksX2_gap_4 16 rfl rfl)
theorem dX2_gap_112 : decode cX2_gap 112 = .ok (.irem, 1) := dk_112 (dk_at dksX2_gap_4 18 rfl rfl)
theorem dX2_gap_113 : decode cX2_gap 113 = .ok (.ifCond .eq 7, 3) := dk_153 0 7 (dk_at dksX2_gap_4 19 rfl rfl)
theorem dX2_gap_116 : decode cX2_gap 116 = .ok (.iconst 1, 1) := dk_4 (dk_at dksX2_gap_4 22 rfl rfl)
theorem dX2_gap_117 : decode cX2_gap 117 = .ok (.goto 4, 3) := dk_167 0 4 (dk_at dksX2_gap_5 0 rfl rfl)
theorem dX2_gap_120 : decode cX2_gap 120 = .ok (.iconst 0, 1) := dk_3 (dk_at dksX2_gap_5 3 rfl rfl)
theorem dX2_gap_121 : decode cX2_gap 121 = .ok (.invokestatic 86, 3) := dk_184 0 86 (dk_at dksX2_gap_5 4 rfl rfl)
theorem dX2_gap_124 : decode cX2_gap 124 = .ok (.iadd, 1) := dk_96 (dk_at dksX2_gap_5 7 rfl rfl)
theorem dX2_gap_125 : decode cX2_gap 125 = .ok (.istore_n 1, 1) := dk_60 (dk_at dksX2_gap_5 8 rfl rfl)
theorem dX2_gap_126 : decode cX2_gap 126 = .ok (.iinc 2 1, 3) := dk_132 2 1 (dk_at dksX2_gap_5 9 rfl rfl)
theorem dX2_gap_129 : decode cX2_gap 129 = .ok (.goto (-92), 3) := dk_167 255 164 (dk_at dksX2_gap_5 12 rfl rfl)
theorem dX2_gap_132 : decode cX2_gap 132 = .ok (.iconst 0, 1) := dk_3 (dk_at dksX2_gap_5 15 rfl rfl)
theorem dX2_gap_133 : decode cX2_gap 133 = .ok (.istore_n 2, 1) := dk_61 (dk_at dksX2_gap_5 16 rfl rfl)
theorem dX2_gap_134 : decode cX2_gap 134 = .ok (.iload_n 2, 1) := dk_28 (dk_at dksX2_gap_5 17 rfl rfl)
theorem dX2_gap_135 : decode cX2_gap 135 = .ok (.bipush 6, 2) := dk_16 6 (dk_at dksX2_gap_5 18 rfl rfl)
theorem dX2_gap_137 : decode cX2_gap 137 = .ok (.if_icmp .ge 51, 3) := dk_162 0 51 (dk_at dksX2_gap_5 20 rfl rfl)
theorem dX2_gap_140 : decode cX2_gap 140 = .ok (.iload_n 1, 1) := dk_27 (dk_at dksX2_gap_5 23 rfl rfl)
theorem dX2_gap_141 : decode cX2_gap 141 = .ok (.aload_n 0, 1) := dk_42 (dk_at dksX2_gap_6 0 rfl rfl)
theorem dX2_gap_142 : decode cX2_gap 142 = .ok (.getfield 13, 3) := dk_180 0 13 (dk_at dksX2_gap_6 1 rfl rfl)
theorem dX2_gap_145 : decode cX2_gap 145 = .ok (.bipush 15, 2) := dk_16 15 (dk_at dksX2_gap_6 4 rfl rfl)
theorem dX2_gap_147 : decode cX2_gap 147 = .ok (.iload_n 2, 1) := dk_28 (dk_at dksX2_gap_6 6 rfl rfl)
theorem dX2_gap_148 : decode cX2_gap 148 = .ok (.iadd, 1) := dk_96 (dk_at dksX2_gap_6 7 rfl rfl)
theorem dX2_gap_149 : decode cX2_gap 149 = .ok (.iaload, 1) := dk_46 (dk_at dksX2_gap_6 8 rfl rfl)
theorem dX2_gap_150 : decode cX2_gap 150 = .ok (.aload_n 0, 1) := dk_42 (dk_at dksX2_gap_6 9 rfl rfl)
theorem dX2_gap_151 : decode cX2_gap 151 = .ok (.getfield 7, 3) := dk_180 0 7 (dk_at dksX2_gap_6 10 rfl rfl)
theorem dX2_gap_154 : decode cX2_gap 154 = .ok (.iconst 0, 1) := dk_3 (dk_at dksX2_gap_6 13 rfl rfl)
theorem dX2_gap_155 : decode cX2_gap 155 = .ok (.iaload, 1) := dk_46 (dk_at dksX2_gap_6 14 rfl rfl)
theorem dX2_gap_156 : decode cX2_gap 156 = .ok (.aload_n 0, 1) := dk_42 (dk_at dksX2_gap_6 15 rfl rfl)
theorem dX2_gap_157 : decode cX2_gap 157 = .ok (.getfield 13, 3) := dk_180 0 13 (dk_at dksX2_gap_6 16 rfl rfl)
theorem dX2_gap_160 : decode cX2_gap 160 = .ok (.bipush 21, 2) := dk_16 21 (dk_at dksX2_gap_6 19 rfl rfl)
theorem dX2_gap_162 : decode cX2_gap 162 = .ok (.iload_n 2, 1) := dk_28 (dk_at dksX2_gap_6 21 rfl rfl)
theorem dX2_gap_163 : decode cX2_gap 163 = .ok (.iadd, 1) := dk_96 (dk_at dksX2_gap_6 22 rfl rfl)
theorem dX2_gap_164 : decode cX2_gap 164 = .ok (.iaload, 1) := dk_46 (dk_at dksX2_gap_6 23 rfl rfl)
theorem dX2_gap_165 : decode cX2_gap 165 = .ok (.imul, 1) := dk_104 (dk_at dksX2_gap_7 0 rfl rfl)
theorem dX2_gap_166 : decode cX2_gap 166 = .ok (.iadd, 1) := dk_96 (dk_at dksX2_gap_7 1 rfl rfl)
theorem dX2_gap_167 : decode cX2_gap 167 = .ok (.aload_n 0, 1) := dk_42 (dk_at dksX2_gap_7 2 rfl rfl)
theorem dX2_gap_168 : decode cX2_gap 168 = .ok (.getfield 13, 3) := dk_180 0 13 (dk_at dksX2_gap_7 3 rfl rfl)
theorem dX2_gap_171 : decode cX2_gap 171 = .ok (.bipush 27, 2) := dk_16 27 (dk_at dksX2_gap_7 6 rfl rfl)
theorem dX2_gap_173 : decode cX2_gap 173 = .ok (.iload_n 2, 1) := dk_28 (dk_at dksX2_gap_7 8 rfl rfl)
theorem dX2_gap_174 : decode cX2_gap 174 = .ok (.iadd, 1) := dk_96 (dk_at dksX2_gap_7 9 rfl rfl)
theorem dX2_gap_175 : decode cX2_gap 175 = .ok (.iaload, 1) := dk_46 (dk_at dksX2_gap_7 10 rfl rfl)
theorem dX2_gap_176 : decode cX2_gap 176 = .ok (.isub, 1) := dk_100 (dk_at dksX2_gap_7 11 rfl rfl)
theorem dX2_gap_177 : decode cX2_gap 177 = .ok (.invokestatic 338, 3) := dk_184 1 82 (dk_at dksX2_gap_7 12 rfl rfl)
theorem dX2_gap_180 : decode cX2_gap 180 = .ok (.iadd, 1) := dk_96 (dk_at dksX2_gap_7 15 rfl rfl)
theorem dX2_gap_181 : decode cX2_gap 181 = .ok (.istore_n 1, 1) := dk_60 (dk_at dksX2_gap_7 16 rfl rfl)
theorem dX2_gap_182 : decode cX2_gap 182 = .ok (.iinc 2 1, 3) := dk_132 2 1 (dk_at dksX2_gap_7 17 rfl rfl)
theorem dX2_gap_185 : decode cX2_gap 185 = .ok (.goto (-51), 3) := dk_167 255 205 (dk_at dksX2_gap_7 20 rfl rfl)
theorem dX2_gap_188 : decode cX2_gap 188 = .ok (.iload_n 1, 1) := dk_27 (dk_at dksX2_gap_7 23 rfl rfl)
theorem dX2_gap_189 : decode cX2_gap 189 = .ok (.ireturn, 1) := dk_172 (dk_at dksX2_gap_8 0 rfl rfl)
abbrev cX2_decidedIf : ByteArray := prog_14_method_101_code
def yX2_decidedIf : MethodName := ⟨RX2, "decidedIf", "(III)I"⟩
def dkwX2_decidedIf_1 : List UInt8 := [4, 167, 0, 4, 3, 6, 182, 0, 43, 153, 0, 7, 3, 167, 0, 10, 42, 27, 28, 29, 182, 1, 89, 172]
abbrev dktX2_decidedIf_1 : List UInt8 := dkwX2_decidedIf_1 ++ []
def dkwX2_decidedIf_0 : List UInt8 := [42, 27, 28, 182, 1, 48, 154, 0, 30, 42, 29, 133, 20, 1, 85, 20, 1, 87, 184, 0, 195, 154, 0, 7]
abbrev dktX2_decidedIf_0 : List UInt8 := dkwX2_decidedIf_0 ++ dktX2_decidedIf_1
theorem dksX2_decidedIf_0 : cX2_decidedIf.data.toList.drop 0 = dktX2_decidedIf_0 := by decide +kernel
theorem dksX2_decidedIf_1 : cX2_decidedIf.data.toList.drop 24 = dktX2_decidedIf_1 := dk_seg dksX2_decidedIf_0 24 rfl rfl
theorem dX2_decidedIf_0 : decode cX2_decidedIf 0 = .ok (.aload_n 0, 1) := dk_42 (dk_at dksX2_decidedIf_0 0 rfl rfl)
theorem dX2_decidedIf_1 : decode cX2_decidedIf 1 = .ok (.iload_n 1, 1) := dk_27 (dk_at dksX2_decidedIf_0 1 rfl rfl)
theorem dX2_decidedIf_2 : decode cX2_decidedIf 2 = .ok (.iload_n 2, 1) := dk_28 (dk_at dksX2_decidedIf_0 2 rfl rfl)
theorem dX2_decidedIf_3 : decode cX2_decidedIf 3 = .ok (.invokevirtual 304, 3) := dk_182 1 48 (dk_at dksX2_decidedIf_0 3 rfl rfl)
theorem dX2_decidedIf_6 : decode cX2_decidedIf 6 = .ok (.ifCond .ne 30, 3) := dk_154 0 30 (dk_at dksX2_decidedIf_0 6 rfl rfl)
theorem dX2_decidedIf_9 : decode cX2_decidedIf 9 = .ok (.aload_n 0, 1) := dk_42 (dk_at dksX2_decidedIf_0 9 rfl rfl)
theorem dX2_decidedIf_10 : decode cX2_decidedIf 10 = .ok (.iload_n 3, 1) := dk_29 (dk_at dksX2_decidedIf_0 10 rfl rfl)
theorem dX2_decidedIf_11 : decode cX2_decidedIf 11 = .ok (.i2l, 1) := dk_133 (dk_at dksX2_decidedIf_0 11 rfl rfl)
theorem dX2_decidedIf_12 : decode cX2_decidedIf 12 = .ok (.ldc2_w 341, 3) := dk_20 1 85 (dk_at dksX2_decidedIf_0 12 rfl rfl)
theorem dX2_decidedIf_15 : decode cX2_decidedIf 15 = .ok (.ldc2_w 343, 3) := dk_20 1 87 (dk_at dksX2_decidedIf_0 15 rfl rfl)
theorem dX2_decidedIf_18 : decode cX2_decidedIf 18 = .ok (.invokestatic 195, 3) := dk_184 0 195 (dk_at dksX2_decidedIf_0 18 rfl rfl)
theorem dX2_decidedIf_21 : decode cX2_decidedIf 21 = .ok (.ifCond .ne 7, 3) := dk_154 0 7 (dk_at dksX2_decidedIf_0 21 rfl rfl)
theorem dX2_decidedIf_24 : decode cX2_decidedIf 24 = .ok (.iconst 1, 1) := dk_4 (dk_at dksX2_decidedIf_1 0 rfl rfl)
theorem dX2_decidedIf_25 : decode cX2_decidedIf 25 = .ok (.goto 4, 3) := dk_167 0 4 (dk_at dksX2_decidedIf_1 1 rfl rfl)
theorem dX2_decidedIf_28 : decode cX2_decidedIf 28 = .ok (.iconst 0, 1) := dk_3 (dk_at dksX2_decidedIf_1 4 rfl rfl)
theorem dX2_decidedIf_29 : decode cX2_decidedIf 29 = .ok (.iconst 3, 1) := dk_6 (dk_at dksX2_decidedIf_1 5 rfl rfl)
theorem dX2_decidedIf_30 : decode cX2_decidedIf 30 = .ok (.invokevirtual 43, 3) := dk_182 0 43 (dk_at dksX2_decidedIf_1 6 rfl rfl)
theorem dX2_decidedIf_33 : decode cX2_decidedIf 33 = .ok (.ifCond .eq 7, 3) := dk_153 0 7 (dk_at dksX2_decidedIf_1 9 rfl rfl)
theorem dX2_decidedIf_36 : decode cX2_decidedIf 36 = .ok (.iconst 0, 1) := dk_3 (dk_at dksX2_decidedIf_1 12 rfl rfl)
theorem dX2_decidedIf_37 : decode cX2_decidedIf 37 = .ok (.goto 10, 3) := dk_167 0 10 (dk_at dksX2_decidedIf_1 13 rfl rfl)
theorem dX2_decidedIf_40 : decode cX2_decidedIf 40 = .ok (.aload_n 0, 1) := dk_42 (dk_at dksX2_decidedIf_1 16 rfl rfl)
theorem dX2_decidedIf_41 : decode cX2_decidedIf 41 = .ok (.iload_n 1, 1) := dk_27 (dk_at dksX2_decidedIf_1 17 rfl rfl)
theorem dX2_decidedIf_42 : decode cX2_decidedIf 42 = .ok (.iload_n 2, 1) := dk_28 (dk_at dksX2_decidedIf_1 18 rfl rfl)
theorem dX2_decidedIf_43 : decode cX2_decidedIf 43 = .ok (.iload_n 3, 1) := dk_29 (dk_at dksX2_decidedIf_1 19 rfl rfl)
theorem dX2_decidedIf_44 : decode cX2_decidedIf 44 = .ok (.invokevirtual 345, 3) := dk_182 1 89 (dk_at dksX2_decidedIf_1 20 rfl rfl)
theorem dX2_decidedIf_47 : decode cX2_decidedIf 47 = .ok (.ireturn, 1) := dk_172 (dk_at dksX2_decidedIf_1 23 rfl rfl)
abbrev cX2_decidedBy : ByteArray := prog_14_method_100_code
def yX2_decidedBy : MethodName := ⟨RX2, "decidedBy", "(III)I"⟩
def dkwX2_decidedBy_0 : List UInt8 := [42, 182, 0, 248, 42, 27, 28, 29, 182, 0, 133, 42, 42, 27, 182, 0, 121, 182, 0, 254, 172]
abbrev dktX2_decidedBy_0 : List UInt8 := dkwX2_decidedBy_0 ++ []
theorem dksX2_decidedBy_0 : cX2_decidedBy.data.toList.drop 0 = dktX2_decidedBy_0 := by decide +kernel
theorem dX2_decidedBy_0 : decode cX2_decidedBy 0 = .ok (.aload_n 0, 1) := dk_42 (dk_at dksX2_decidedBy_0 0 rfl rfl)
theorem dX2_decidedBy_1 : decode cX2_decidedBy 1 = .ok (.invokevirtual 248, 3) := dk_182 0 248 (dk_at dksX2_decidedBy_0 1 rfl rfl)
theorem dX2_decidedBy_4 : decode cX2_decidedBy 4 = .ok (.aload_n 0, 1) := dk_42 (dk_at dksX2_decidedBy_0 4 rfl rfl)
theorem dX2_decidedBy_5 : decode cX2_decidedBy 5 = .ok (.iload_n 1, 1) := dk_27 (dk_at dksX2_decidedBy_0 5 rfl rfl)
theorem dX2_decidedBy_6 : decode cX2_decidedBy 6 = .ok (.iload_n 2, 1) := dk_28 (dk_at dksX2_decidedBy_0 6 rfl rfl)
theorem dX2_decidedBy_7 : decode cX2_decidedBy 7 = .ok (.iload_n 3, 1) := dk_29 (dk_at dksX2_decidedBy_0 7 rfl rfl)
theorem dX2_decidedBy_8 : decode cX2_decidedBy 8 = .ok (.invokevirtual 133, 3) := dk_182 0 133 (dk_at dksX2_decidedBy_0 8 rfl rfl)
theorem dX2_decidedBy_11 : decode cX2_decidedBy 11 = .ok (.aload_n 0, 1) := dk_42 (dk_at dksX2_decidedBy_0 11 rfl rfl)
theorem dX2_decidedBy_12 : decode cX2_decidedBy 12 = .ok (.aload_n 0, 1) := dk_42 (dk_at dksX2_decidedBy_0 12 rfl rfl)
theorem dX2_decidedBy_13 : decode cX2_decidedBy 13 = .ok (.iload_n 1, 1) := dk_27 (dk_at dksX2_decidedBy_0 13 rfl rfl)
theorem dX2_decidedBy_14 : decode cX2_decidedBy 14 = .ok (.invokevirtual 121, 3) := dk_182 0 121 (dk_at dksX2_decidedBy_0 14 rfl rfl)
theorem dX2_decidedBy_17 : decode cX2_decidedBy 17 = .ok (.invokevirtual 254, 3) := dk_182 0 254 (dk_at dksX2_decidedBy_0 17 rfl rfl)
theorem dX2_decidedBy_20 : decode cX2_decidedBy 20 = .ok (.ireturn, 1) := dk_172 (dk_at dksX2_decidedBy_0 20 rfl rfl)
abbrev cX2_sortedIf : ByteArray := prog_14_method_104_code
def yX2_sortedIf : MethodName := ⟨RX2, "sortedIf", "(I)I"⟩
def dkwX2_sortedIf_0 : List UInt8 := [42, 27, 182, 1, 95, 153, 0, 7, 3, 167, 0, 8, 42, 27, 182, 1, 98, 172]
abbrev dktX2_sortedIf_0 : List UInt8 := dkwX2_sortedIf_0 ++ []
theorem dksX2_sortedIf_0 : cX2_sortedIf.data.toList.drop 0 = dktX2_sortedIf_0 := by decide +kernel
theorem dX2_sortedIf_0 : decode cX2_sortedIf 0 = .ok (.aload_n 0, 1) := dk_42 (dk_at dksX2_sortedIf_0 0 rfl rfl)
theorem dX2_sortedIf_1 : decode cX2_sortedIf 1 = .ok (.iload_n 1, 1) := dk_27 (dk_at dksX2_sortedIf_0 1 rfl rfl)
theorem dX2_sortedIf_2 : decode cX2_sortedIf 2 = .ok (.invokevirtual 351, 3) := dk_182 1 95 (dk_at dksX2_sortedIf_0 2 rfl rfl)
theorem dX2_sortedIf_5 : decode cX2_sortedIf 5 = .ok (.ifCond .eq 7, 3) := dk_153 0 7 (dk_at dksX2_sortedIf_0 5 rfl rfl)
theorem dX2_sortedIf_8 : decode cX2_sortedIf 8 = .ok (.iconst 0, 1) := dk_3 (dk_at dksX2_sortedIf_0 8 rfl rfl)
theorem dX2_sortedIf_9 : decode cX2_sortedIf 9 = .ok (.goto 8, 3) := dk_167 0 8 (dk_at dksX2_sortedIf_0 9 rfl rfl)
theorem dX2_sortedIf_12 : decode cX2_sortedIf 12 = .ok (.aload_n 0, 1) := dk_42 (dk_at dksX2_sortedIf_0 12 rfl rfl)
theorem dX2_sortedIf_13 : decode cX2_sortedIf 13 = .ok (.iload_n 1, 1) := dk_27 (dk_at dksX2_sortedIf_0 13 rfl rfl)
theorem dX2_sortedIf_14 : decode cX2_sortedIf 14 = .ok (.invokevirtual 354, 3) := dk_182 1 98 (dk_at dksX2_sortedIf_0 14 rfl rfl)
theorem dX2_sortedIf_17 : decode cX2_sortedIf 17 = .ok (.ireturn, 1) := dk_172 (dk_at dksX2_sortedIf_0 17 rfl rfl)
abbrev cX2_noLimit : ByteArray := prog_14_method_103_code
def yX2_noLimit : MethodName := ⟨RX2, "noLimit", "(I)Z"⟩
def dkwX2_noLimit_1 : List UInt8 := [3, 5, 182, 0, 43, 153, 0, 7, 4, 167, 0, 4, 3, 172]
abbrev dktX2_noLimit_1 : List UInt8 := dkwX2_noLimit_1 ++ []
def dkwX2_noLimit_0 : List UInt8 := [42, 182, 1, 4, 154, 0, 28, 42, 27, 133, 9, 20, 1, 93, 184, 0, 195, 154, 0, 7, 4, 167, 0, 4]
abbrev dktX2_noLimit_0 : List UInt8 := dkwX2_noLimit_0 ++ dktX2_noLimit_1
theorem dksX2_noLimit_0 : cX2_noLimit.data.toList.drop 0 = dktX2_noLimit_0 := by decide +kernel
theorem dksX2_noLimit_1 : cX2_noLimit.data.toList.drop 24 = dktX2_noLimit_1 := dk_seg dksX2_noLimit_0 24 rfl rfl
theorem dX2_noLimit_0 : decode cX2_noLimit 0 = .ok (.aload_n 0, 1) := dk_42 (dk_at dksX2_noLimit_0 0 rfl rfl)
theorem dX2_noLimit_1 : decode cX2_noLimit 1 = .ok (.invokevirtual 260, 3) := dk_182 1 4 (dk_at dksX2_noLimit_0 1 rfl rfl)
theorem dX2_noLimit_4 : decode cX2_noLimit 4 = .ok (.ifCond .ne 28, 3) := dk_154 0 28 (dk_at dksX2_noLimit_0 4 rfl rfl)
theorem dX2_noLimit_7 : decode cX2_noLimit 7 = .ok (.aload_n 0, 1) := dk_42 (dk_at dksX2_noLimit_0 7 rfl rfl)
theorem dX2_noLimit_8 : decode cX2_noLimit 8 = .ok (.iload_n 1, 1) := dk_27 (dk_at dksX2_noLimit_0 8 rfl rfl)
theorem dX2_noLimit_9 : decode cX2_noLimit 9 = .ok (.i2l, 1) := dk_133 (dk_at dksX2_noLimit_0 9 rfl rfl)
theorem dX2_noLimit_10 : decode cX2_noLimit 10 = .ok (.lconst 0, 1) := dk_9 (dk_at dksX2_noLimit_0 10 rfl rfl)
theorem dX2_noLimit_11 : decode cX2_noLimit 11 = .ok (.ldc2_w 349, 3) := dk_20 1 93 (dk_at dksX2_noLimit_0 11 rfl rfl)
theorem dX2_noLimit_14 : decode cX2_noLimit 14 = .ok (.invokestatic 195, 3) := dk_184 0 195 (dk_at dksX2_noLimit_0 14 rfl rfl)
theorem dX2_noLimit_17 : decode cX2_noLimit 17 = .ok (.ifCond .ne 7, 3) := dk_154 0 7 (dk_at dksX2_noLimit_0 17 rfl rfl)
theorem dX2_noLimit_20 : decode cX2_noLimit 20 = .ok (.iconst 1, 1) := dk_4 (dk_at dksX2_noLimit_0 20 rfl rfl)
theorem dX2_noLimit_21 : decode cX2_noLimit 21 = .ok (.goto 4, 3) := dk_167 0 4 (dk_at dksX2_noLimit_0 21 rfl rfl)
theorem dX2_noLimit_24 : decode cX2_noLimit 24 = .ok (.iconst 0, 1) := dk_3 (dk_at dksX2_noLimit_1 0 rfl rfl)
theorem dX2_noLimit_25 : decode cX2_noLimit 25 = .ok (.iconst 2, 1) := dk_5 (dk_at dksX2_noLimit_1 1 rfl rfl)
theorem dX2_noLimit_26 : decode cX2_noLimit 26 = .ok (.invokevirtual 43, 3) := dk_182 0 43 (dk_at dksX2_noLimit_1 2 rfl rfl)
theorem dX2_noLimit_29 : decode cX2_noLimit 29 = .ok (.ifCond .eq 7, 3) := dk_153 0 7 (dk_at dksX2_noLimit_1 5 rfl rfl)
theorem dX2_noLimit_32 : decode cX2_noLimit 32 = .ok (.iconst 1, 1) := dk_4 (dk_at dksX2_noLimit_1 8 rfl rfl)
theorem dX2_noLimit_33 : decode cX2_noLimit 33 = .ok (.goto 4, 3) := dk_167 0 4 (dk_at dksX2_noLimit_1 9 rfl rfl)
theorem dX2_noLimit_36 : decode cX2_noLimit 36 = .ok (.iconst 0, 1) := dk_3 (dk_at dksX2_noLimit_1 12 rfl rfl)
theorem dX2_noLimit_37 : decode cX2_noLimit 37 = .ok (.ireturn, 1) := dk_172 (dk_at dksX2_noLimit_1 13 rfl rfl)
abbrev cX2_sortedBy : ByteArray := prog_14_method_102_code
def yX2_sortedBy : MethodName := ⟨RX2, "sortedBy", "(I)I"⟩
def dkwX2_sortedBy_0 : List UInt8 := [42, 182, 0, 248, 42, 180, 0, 13, 3, 27, 79, 42, 42, 182, 0, 240, 182, 0, 254, 172]
abbrev dktX2_sortedBy_0 : List UInt8 := dkwX2_sortedBy_0 ++ []
theorem dksX2_sortedBy_0 : cX2_sortedBy.data.toList.drop 0 = dktX2_sortedBy_0 := by decide +kernel
theorem dX2_sortedBy_0 : decode cX2_sortedBy 0 = .ok (.aload_n 0, 1) := dk_42 (dk_at dksX2_sortedBy_0 0 rfl rfl)
theorem dX2_sortedBy_1 : decode cX2_sortedBy 1 = .ok (.invokevirtual 248, 3) := dk_182 0 248 (dk_at dksX2_sortedBy_0 1 rfl rfl)
theorem dX2_sortedBy_4 : decode cX2_sortedBy 4 = .ok (.aload_n 0, 1) := dk_42 (dk_at dksX2_sortedBy_0 4 rfl rfl)
theorem dX2_sortedBy_5 : decode cX2_sortedBy 5 = .ok (.getfield 13, 3) := dk_180 0 13 (dk_at dksX2_sortedBy_0 5 rfl rfl)
theorem dX2_sortedBy_8 : decode cX2_sortedBy 8 = .ok (.iconst 0, 1) := dk_3 (dk_at dksX2_sortedBy_0 8 rfl rfl)
theorem dX2_sortedBy_9 : decode cX2_sortedBy 9 = .ok (.iload_n 1, 1) := dk_27 (dk_at dksX2_sortedBy_0 9 rfl rfl)
theorem dX2_sortedBy_10 : decode cX2_sortedBy 10 = .ok (.iastore, 1) := dk_79 (dk_at dksX2_sortedBy_0 10 rfl rfl)
theorem dX2_sortedBy_11 : decode cX2_sortedBy 11 = .ok (.aload_n 0, 1) := dk_42 (dk_at dksX2_sortedBy_0 11 rfl rfl)
theorem dX2_sortedBy_12 : decode cX2_sortedBy 12 = .ok (.aload_n 0, 1) := dk_42 (dk_at dksX2_sortedBy_0 12 rfl rfl)
theorem dX2_sortedBy_13 : decode cX2_sortedBy 13 = .ok (.invokevirtual 240, 3) := dk_182 0 240 (dk_at dksX2_sortedBy_0 13 rfl rfl)
theorem dX2_sortedBy_16 : decode cX2_sortedBy 16 = .ok (.invokevirtual 254, 3) := dk_182 0 254 (dk_at dksX2_sortedBy_0 16 rfl rfl)
theorem dX2_sortedBy_19 : decode cX2_sortedBy 19 = .ok (.ireturn, 1) := dk_172 (dk_at dksX2_sortedBy_0 19 rfl rfl)
abbrev cX2_bestLimit : ByteArray := prog_14_method_105_code
def yX2_bestLimit : MethodName := ⟨RX2, "bestLimit", "()I"⟩
def dkwX2_bestLimit_2 : List UInt8 := [21, 4, 184, 0, 67, 61, 132, 3, 1, 167, 255, 221, 27, 172]
abbrev dktX2_bestLimit_2 : List UInt8 := dkwX2_bestLimit_2 ++ []
def dkwX2_bestLimit_1 : List UInt8 := [163, 0, 35, 42, 29, 182, 1, 98, 54, 4, 21, 4, 28, 164, 0, 7, 29, 167, 0, 4, 27, 60, 28]
abbrev dktX2_bestLimit_1 : List UInt8 := dkwX2_bestLimit_1 ++ dktX2_bestLimit_2
def dkwX2_bestLimit_0 : List UInt8 := [42, 182, 1, 4, 153, 0, 5, 3, 172, 3, 60, 42, 3, 182, 1, 98, 61, 4, 62, 29, 16, 8]
abbrev dktX2_bestLimit_0 : List UInt8 := dkwX2_bestLimit_0 ++ dktX2_bestLimit_1
theorem dksX2_bestLimit_0 : cX2_bestLimit.data.toList.drop 0 = dktX2_bestLimit_0 := by decide +kernel
theorem dksX2_bestLimit_1 : cX2_bestLimit.data.toList.drop 22 = dktX2_bestLimit_1 := dk_seg dksX2_bestLimit_0 22 rfl rfl
theorem dksX2_bestLimit_2 : cX2_bestLimit.data.toList.drop 45 = dktX2_bestLimit_2 := dk_seg dksX2_bestLimit_1 23 rfl rfl
theorem dX2_bestLimit_0 : decode cX2_bestLimit 0 = .ok (.aload_n 0, 1) := dk_42 (dk_at dksX2_bestLimit_0 0 rfl rfl)
theorem dX2_bestLimit_1 : decode cX2_bestLimit 1 = .ok (.invokevirtual 260, 3) := dk_182 1 4 (dk_at dksX2_bestLimit_0 1 rfl rfl)
theorem dX2_bestLimit_4 : decode cX2_bestLimit 4 = .ok (.ifCond .eq 5, 3) := dk_153 0 5 (dk_at dksX2_bestLimit_0 4 rfl rfl)
theorem dX2_bestLimit_7 : decode cX2_bestLimit 7 = .ok (.iconst 0, 1) := dk_3 (dk_at dksX2_bestLimit_0 7 rfl rfl)
theorem dX2_bestLimit_8 : decode cX2_bestLimit 8 = .ok (.ireturn, 1) := dk_172 (dk_at dksX2_bestLimit_0 8 rfl rfl)
theorem dX2_bestLimit_9 : decode cX2_bestLimit 9 = .ok (.iconst 0, 1) := dk_3 (dk_at dksX2_bestLimit_0 9 rfl rfl)
theorem dX2_bestLimit_10 : decode cX2_bestLimit 10 = .ok (.istore_n 1, 1) := dk_60 (dk_at dksX2_bestLimit_0 10 rfl rfl)
theorem dX2_bestLimit_11 : decode cX2_bestLimit 11 = .ok (.aload_n 0, 1) := dk_42 (dk_at dksX2_bestLimit_0 11 rfl rfl)
theorem dX2_bestLimit_12 : decode cX2_bestLimit 12 = .ok (.iconst 0, 1) := dk_3 (dk_at dksX2_bestLimit_0 12 rfl rfl)
theorem dX2_bestLimit_13 : decode cX2_bestLimit 13 = .ok (.invokevirtual 354, 3) := dk_182 1 98 (dk_at dksX2_bestLimit_0 13 rfl rfl)
theorem dX2_bestLimit_16 : decode cX2_bestLimit 16 = .ok (.istore_n 2, 1) := dk_61 (dk_at dksX2_bestLimit_0 16 rfl rfl)
theorem dX2_bestLimit_17 : decode cX2_bestLimit 17 = .ok (.iconst 1, 1) := dk_4 (dk_at dksX2_bestLimit_0 17 rfl rfl)
theorem dX2_bestLimit_18 : decode cX2_bestLimit 18 = .ok (.istore_n 3, 1) := dk_62 (dk_at dksX2_bestLimit_0 18 rfl rfl)
theorem dX2_bestLimit_19 : decode cX2_bestLimit 19 = .ok (.iload_n 3, 1) := dk_29 (dk_at dksX2_bestLimit_0 19 rfl rfl)
theorem dX2_bestLimit_20 : decode cX2_bestLimit 20 = .ok (.bipush 8, 2) := dk_16 8 (dk_at dksX2_bestLimit_0 20 rfl rfl)
theorem dX2_bestLimit_22 : decode cX2_bestLimit 22 = .ok (.if_icmp .gt 35, 3) := dk_163 0 35 (dk_at dksX2_bestLimit_1 0 rfl rfl)
theorem dX2_bestLimit_25 : decode cX2_bestLimit 25 = .ok (.aload_n 0, 1) := dk_42 (dk_at dksX2_bestLimit_1 3 rfl rfl)
theorem dX2_bestLimit_26 : decode cX2_bestLimit 26 = .ok (.iload_n 3, 1) := dk_29 (dk_at dksX2_bestLimit_1 4 rfl rfl)
theorem dX2_bestLimit_27 : decode cX2_bestLimit 27 = .ok (.invokevirtual 354, 3) := dk_182 1 98 (dk_at dksX2_bestLimit_1 5 rfl rfl)
theorem dX2_bestLimit_30 : decode cX2_bestLimit 30 = .ok (.istore 4, 2) := dk_54 4 (dk_at dksX2_bestLimit_1 8 rfl rfl)
theorem dX2_bestLimit_32 : decode cX2_bestLimit 32 = .ok (.iload 4, 2) := dk_21 4 (dk_at dksX2_bestLimit_1 10 rfl rfl)
theorem dX2_bestLimit_34 : decode cX2_bestLimit 34 = .ok (.iload_n 2, 1) := dk_28 (dk_at dksX2_bestLimit_1 12 rfl rfl)
theorem dX2_bestLimit_35 : decode cX2_bestLimit 35 = .ok (.if_icmp .le 7, 3) := dk_164 0 7 (dk_at dksX2_bestLimit_1 13 rfl rfl)
theorem dX2_bestLimit_38 : decode cX2_bestLimit 38 = .ok (.iload_n 3, 1) := dk_29 (dk_at dksX2_bestLimit_1 16 rfl rfl)
theorem dX2_bestLimit_39 : decode cX2_bestLimit 39 = .ok (.goto 4, 3) := dk_167 0 4 (dk_at dksX2_bestLimit_1 17 rfl rfl)
theorem dX2_bestLimit_42 : decode cX2_bestLimit 42 = .ok (.iload_n 1, 1) := dk_27 (dk_at dksX2_bestLimit_1 20 rfl rfl)
theorem dX2_bestLimit_43 : decode cX2_bestLimit 43 = .ok (.istore_n 1, 1) := dk_60 (dk_at dksX2_bestLimit_1 21 rfl rfl)
theorem dX2_bestLimit_44 : decode cX2_bestLimit 44 = .ok (.iload_n 2, 1) := dk_28 (dk_at dksX2_bestLimit_1 22 rfl rfl)
theorem dX2_bestLimit_45 : decode cX2_bestLimit 45 = .ok (.iload 4, 2) := dk_21 4 (dk_at dksX2_bestLimit_2 0 rfl rfl)
theorem dX2_bestLimit_47 : decode cX2_bestLimit 47 = .ok (.invokestatic 67, 3) := dk_184 0 67 (dk_at dksX2_bestLimit_2 2 rfl rfl)
theorem dX2_bestLimit_50 : decode cX2_bestLimit 50 = .ok (.istore_n 2, 1) := dk_61 (dk_at dksX2_bestLimit_2 5 rfl rfl)
theorem dX2_bestLimit_51 : decode cX2_bestLimit 51 = .ok (.iinc 3 1, 3) := dk_132 3 1 (dk_at dksX2_bestLimit_2 6 rfl rfl)
theorem dX2_bestLimit_54 : decode cX2_bestLimit 54 = .ok (.goto (-35), 3) := dk_167 255 221 (dk_at dksX2_bestLimit_2 9 rfl rfl)
theorem dX2_bestLimit_57 : decode cX2_bestLimit 57 = .ok (.iload_n 1, 1) := dk_27 (dk_at dksX2_bestLimit_2 12 rfl rfl)
theorem dX2_bestLimit_58 : decode cX2_bestLimit 58 = .ok (.ireturn, 1) := dk_172 (dk_at dksX2_bestLimit_2 13 rfl rfl)
abbrev cX2_sumFor : ByteArray := prog_14_method_107_code
def yX2_sumFor : MethodName := ⟨RX2, "sumFor", "(I)I"⟩
def dkwX2_sumFor_2 : List UInt8 := [167, 0, 4, 28, 61, 29, 21, 5, 184, 0, 67, 62, 132, 4, 1, 167, 255, 217, 28, 172]
abbrev dktX2_sumFor_2 : List UInt8 := dkwX2_sumFor_2 ++ []
def dkwX2_sumFor_1 : List UInt8 := [16, 10, 162, 0, 38, 42, 27, 21, 4, 182, 1, 101, 54, 5, 21, 5, 29, 164, 0, 8, 21, 4]
abbrev dktX2_sumFor_1 : List UInt8 := dkwX2_sumFor_1 ++ dktX2_sumFor_2
def dkwX2_sumFor_0 : List UInt8 := [42, 27, 182, 1, 64, 153, 0, 5, 3, 172, 3, 61, 42, 27, 3, 182, 1, 101, 62, 4, 54, 4, 21, 4]
abbrev dktX2_sumFor_0 : List UInt8 := dkwX2_sumFor_0 ++ dktX2_sumFor_1
theorem dksX2_sumFor_0 : cX2_sumFor.data.toList.drop 0 = dktX2_sumFor_0 := by decide +kernel
theorem dksX2_sumFor_1 : cX2_sumFor.data.toList.drop 24 = dktX2_sumFor_1 := dk_seg dksX2_sumFor_0 24 rfl rfl
theorem dksX2_sumFor_2 : cX2_sumFor.data.toList.drop 46 = dktX2_sumFor_2 := dk_seg dksX2_sumFor_1 22 rfl rfl
theorem dX2_sumFor_0 : decode cX2_sumFor 0 = .ok (.aload_n 0, 1) := dk_42 (dk_at dksX2_sumFor_0 0 rfl rfl)
theorem dX2_sumFor_1 : decode cX2_sumFor 1 = .ok (.iload_n 1, 1) := dk_27 (dk_at dksX2_sumFor_0 1 rfl rfl)
theorem dX2_sumFor_2 : decode cX2_sumFor 2 = .ok (.invokevirtual 320, 3) := dk_182 1 64 (dk_at dksX2_sumFor_0 2 rfl rfl)
theorem dX2_sumFor_5 : decode cX2_sumFor 5 = .ok (.ifCond .eq 5, 3) := dk_153 0 5 (dk_at dksX2_sumFor_0 5 rfl rfl)
theorem dX2_sumFor_8 : decode cX2_sumFor 8 = .ok (.iconst 0, 1) := dk_3 (dk_at dksX2_sumFor_0 8 rfl rfl)
theorem dX2_sumFor_9 : decode cX2_sumFor 9 = .ok (.ireturn, 1) := dk_172 (dk_at dksX2_sumFor_0 9 rfl rfl)
theorem dX2_sumFor_10 : decode cX2_sumFor 10 = .ok (.iconst 0, 1) := dk_3 (dk_at dksX2_sumFor_0 10 rfl rfl)
theorem dX2_sumFor_11 : decode cX2_sumFor 11 = .ok (.istore_n 2, 1) := dk_61 (dk_at dksX2_sumFor_0 11 rfl rfl)
theorem dX2_sumFor_12 : decode cX2_sumFor 12 = .ok (.aload_n 0, 1) := dk_42 (dk_at dksX2_sumFor_0 12 rfl rfl)
theorem dX2_sumFor_13 : decode cX2_sumFor 13 = .ok (.iload_n 1, 1) := dk_27 (dk_at dksX2_sumFor_0 13 rfl rfl)
theorem dX2_sumFor_14 : decode cX2_sumFor 14 = .ok (.iconst 0, 1) := dk_3 (dk_at dksX2_sumFor_0 14 rfl rfl)
theorem dX2_sumFor_15 : decode cX2_sumFor 15 = .ok (.invokevirtual 357, 3) := dk_182 1 101 (dk_at dksX2_sumFor_0 15 rfl rfl)
theorem dX2_sumFor_18 : decode cX2_sumFor 18 = .ok (.istore_n 3, 1) := dk_62 (dk_at dksX2_sumFor_0 18 rfl rfl)
theorem dX2_sumFor_19 : decode cX2_sumFor 19 = .ok (.iconst 1, 1) := dk_4 (dk_at dksX2_sumFor_0 19 rfl rfl)
theorem dX2_sumFor_20 : decode cX2_sumFor 20 = .ok (.istore 4, 2) := dk_54 4 (dk_at dksX2_sumFor_0 20 rfl rfl)
theorem dX2_sumFor_22 : decode cX2_sumFor 22 = .ok (.iload 4, 2) := dk_21 4 (dk_at dksX2_sumFor_0 22 rfl rfl)
theorem dX2_sumFor_24 : decode cX2_sumFor 24 = .ok (.bipush 10, 2) := dk_16 10 (dk_at dksX2_sumFor_1 0 rfl rfl)
theorem dX2_sumFor_26 : decode cX2_sumFor 26 = .ok (.if_icmp .ge 38, 3) := dk_162 0 38 (dk_at dksX2_sumFor_1 2 rfl rfl)
theorem dX2_sumFor_29 : decode cX2_sumFor 29 = .ok (.aload_n 0, 1) := dk_42 (dk_at dksX2_sumFor_1 5 rfl rfl)
theorem dX2_sumFor_30 : decode cX2_sumFor 30 = .ok (.iload_n 1, 1) := dk_27 (dk_at dksX2_sumFor_1 6 rfl rfl)
theorem dX2_sumFor_31 : decode cX2_sumFor 31 = .ok (.iload 4, 2) := dk_21 4 (dk_at dksX2_sumFor_1 7 rfl rfl)
theorem dX2_sumFor_33 : decode cX2_sumFor 33 = .ok (.invokevirtual 357, 3) := dk_182 1 101 (dk_at dksX2_sumFor_1 9 rfl rfl)
theorem dX2_sumFor_36 : decode cX2_sumFor 36 = .ok (.istore 5, 2) := dk_54 5 (dk_at dksX2_sumFor_1 12 rfl rfl)
theorem dX2_sumFor_38 : decode cX2_sumFor 38 = .ok (.iload 5, 2) := dk_21 5 (dk_at dksX2_sumFor_1 14 rfl rfl)
theorem dX2_sumFor_40 : decode cX2_sumFor 40 = .ok (.iload_n 3, 1) := dk_29 (dk_at dksX2_sumFor_1 16 rfl rfl)
theorem dX2_sumFor_41 : decode cX2_sumFor 41 = .ok (.if_icmp .le 8, 3) := dk_164 0 8 (dk_at dksX2_sumFor_1 17 rfl rfl)
theorem dX2_sumFor_44 : decode cX2_sumFor 44 = .ok (.iload 4, 2) := dk_21 4 (dk_at dksX2_sumFor_1 20 rfl rfl)
theorem dX2_sumFor_46 : decode cX2_sumFor 46 = .ok (.goto 4, 3) := dk_167 0 4 (dk_at dksX2_sumFor_2 0 rfl rfl)
theorem dX2_sumFor_49 : decode cX2_sumFor 49 = .ok (.iload_n 2, 1) := dk_28 (dk_at dksX2_sumFor_2 3 rfl rfl)
theorem dX2_sumFor_50 : decode cX2_sumFor 50 = .ok (.istore_n 2, 1) := dk_61 (dk_at dksX2_sumFor_2 4 rfl rfl)
theorem dX2_sumFor_51 : decode cX2_sumFor 51 = .ok (.iload_n 3, 1) := dk_29 (dk_at dksX2_sumFor_2 5 rfl rfl)
theorem dX2_sumFor_52 : decode cX2_sumFor 52 = .ok (.iload 5, 2) := dk_21 5 (dk_at dksX2_sumFor_2 6 rfl rfl)
theorem dX2_sumFor_54 : decode cX2_sumFor 54 = .ok (.invokestatic 67, 3) := dk_184 0 67 (dk_at dksX2_sumFor_2 8 rfl rfl)
theorem dX2_sumFor_57 : decode cX2_sumFor 57 = .ok (.istore_n 3, 1) := dk_62 (dk_at dksX2_sumFor_2 11 rfl rfl)
theorem dX2_sumFor_58 : decode cX2_sumFor 58 = .ok (.iinc 4 1, 3) := dk_132 4 1 (dk_at dksX2_sumFor_2 12 rfl rfl)
theorem dX2_sumFor_61 : decode cX2_sumFor 61 = .ok (.goto (-39), 3) := dk_167 255 217 (dk_at dksX2_sumFor_2 15 rfl rfl)
theorem dX2_sumFor_64 : decode cX2_sumFor 64 = .ok (.iload_n 2, 1) := dk_28 (dk_at dksX2_sumFor_2 18 rfl rfl)
theorem dX2_sumFor_65 : decode cX2_sumFor 65 = .ok (.ireturn, 1) := dk_172 (dk_at dksX2_sumFor_2 19 rfl rfl)
abbrev cX2_decidedIn : ByteArray := prog_14_method_106_code
def yX2_decidedIn : MethodName := ⟨RX2, "decidedIn", "(II)I"⟩
def dkwX2_decidedIn_3 : List UInt8 := [172]
abbrev dktX2_decidedIn_3 : List UInt8 := dkwX2_decidedIn_3 ++ []
def dkwX2_decidedIn_2 : List UInt8 := [159, 0, 7, 4, 167, 0, 4, 3, 184, 0, 86, 96, 62, 132, 4, 1, 167, 255, 212, 42, 29, 182, 0, 254]
abbrev dktX2_decidedIn_2 : List UInt8 := dkwX2_decidedIn_2 ++ dktX2_decidedIn_3
def dkwX2_decidedIn_1 : List UInt8 := [162, 0, 41, 29, 42, 21, 4, 8, 182, 0, 74, 27, 160, 0, 17, 42, 21, 4, 182, 0, 121, 2]
abbrev dktX2_decidedIn_1 : List UInt8 := dkwX2_decidedIn_1 ++ dktX2_decidedIn_2
def dkwX2_decidedIn_0 : List UInt8 := [42, 182, 0, 248, 42, 180, 0, 13, 6, 27, 96, 28, 79, 3, 62, 3, 54, 4, 21, 4, 42, 182, 0, 109]
abbrev dktX2_decidedIn_0 : List UInt8 := dkwX2_decidedIn_0 ++ dktX2_decidedIn_1
theorem dksX2_decidedIn_0 : cX2_decidedIn.data.toList.drop 0 = dktX2_decidedIn_0 := by decide +kernel
theorem dksX2_decidedIn_1 : cX2_decidedIn.data.toList.drop 24 = dktX2_decidedIn_1 := dk_seg dksX2_decidedIn_0 24 rfl rfl
theorem dksX2_decidedIn_2 : cX2_decidedIn.data.toList.drop 46 = dktX2_decidedIn_2 := dk_seg dksX2_decidedIn_1 22 rfl rfl
theorem dksX2_decidedIn_3 : cX2_decidedIn.data.toList.drop 70 = dktX2_decidedIn_3 := dk_seg dksX2_decidedIn_2 24 rfl rfl
theorem dX2_decidedIn_0 : decode cX2_decidedIn 0 = .ok (.aload_n 0, 1) := dk_42 (dk_at dksX2_decidedIn_0 0 rfl rfl)
theorem dX2_decidedIn_1 : decode cX2_decidedIn 1 = .ok (.invokevirtual 248, 3) := dk_182 0 248 (dk_at dksX2_decidedIn_0 1 rfl rfl)
theorem dX2_decidedIn_4 : decode cX2_decidedIn 4 = .ok (.aload_n 0, 1) := dk_42 (dk_at dksX2_decidedIn_0 4 rfl rfl)
theorem dX2_decidedIn_5 : decode cX2_decidedIn 5 = .ok (.getfield 13, 3) := dk_180 0 13 (dk_at dksX2_decidedIn_0 5 rfl rfl)
theorem dX2_decidedIn_8 : decode cX2_decidedIn 8 = .ok (.iconst 3, 1) := dk_6 (dk_at dksX2_decidedIn_0 8 rfl rfl)
theorem dX2_decidedIn_9 : decode cX2_decidedIn 9 = .ok (.iload_n 1, 1) := dk_27 (dk_at dksX2_decidedIn_0 9 rfl rfl)
theorem dX2_decidedIn_10 : decode cX2_decidedIn 10 = .ok (.iadd, 1) := dk_96 (dk_at dksX2_decidedIn_0 10 rfl rfl)
theorem dX2_decidedIn_11 : decode cX2_decidedIn 11 = .ok (.iload_n 2, 1) := dk_28 (dk_at dksX2_decidedIn_0 11 rfl rfl)
theorem dX2_decidedIn_12 : decode cX2_decidedIn 12 = .ok (.iastore, 1) := dk_79 (dk_at dksX2_decidedIn_0 12 rfl rfl)
theorem dX2_decidedIn_13 : decode cX2_decidedIn 13 = .ok (.iconst 0, 1) := dk_3 (dk_at dksX2_decidedIn_0 13 rfl rfl)
theorem dX2_decidedIn_14 : decode cX2_decidedIn 14 = .ok (.istore_n 3, 1) := dk_62 (dk_at dksX2_decidedIn_0 14 rfl rfl)
theorem dX2_decidedIn_15 : decode cX2_decidedIn 15 = .ok (.iconst 0, 1) := dk_3 (dk_at dksX2_decidedIn_0 15 rfl rfl)
theorem dX2_decidedIn_16 : decode cX2_decidedIn 16 = .ok (.istore 4, 2) := dk_54 4 (dk_at dksX2_decidedIn_0 16 rfl rfl)
theorem dX2_decidedIn_18 : decode cX2_decidedIn 18 = .ok (.iload 4, 2) := dk_21 4 (dk_at dksX2_decidedIn_0 18 rfl rfl)
theorem dX2_decidedIn_20 : decode cX2_decidedIn 20 = .ok (.aload_n 0, 1) := dk_42 (dk_at dksX2_decidedIn_0 20 rfl rfl)
theorem dX2_decidedIn_21 : decode cX2_decidedIn 21 = .ok (.invokevirtual 109, 3) := dk_182 0 109 (dk_at dksX2_decidedIn_0 21 rfl rfl)
theorem dX2_decidedIn_24 : decode cX2_decidedIn 24 = .ok (.if_icmp .ge 41, 3) := dk_162 0 41 (dk_at dksX2_decidedIn_1 0 rfl rfl)
theorem dX2_decidedIn_27 : decode cX2_decidedIn 27 = .ok (.iload_n 3, 1) := dk_29 (dk_at dksX2_decidedIn_1 3 rfl rfl)
theorem dX2_decidedIn_28 : decode cX2_decidedIn 28 = .ok (.aload_n 0, 1) := dk_42 (dk_at dksX2_decidedIn_1 4 rfl rfl)
theorem dX2_decidedIn_29 : decode cX2_decidedIn 29 = .ok (.iload 4, 2) := dk_21 4 (dk_at dksX2_decidedIn_1 5 rfl rfl)
theorem dX2_decidedIn_31 : decode cX2_decidedIn 31 = .ok (.iconst 5, 1) := dk_8 (dk_at dksX2_decidedIn_1 7 rfl rfl)
theorem dX2_decidedIn_32 : decode cX2_decidedIn 32 = .ok (.invokevirtual 74, 3) := dk_182 0 74 (dk_at dksX2_decidedIn_1 8 rfl rfl)
theorem dX2_decidedIn_35 : decode cX2_decidedIn 35 = .ok (.iload_n 1, 1) := dk_27 (dk_at dksX2_decidedIn_1 11 rfl rfl)
theorem dX2_decidedIn_36 : decode cX2_decidedIn 36 = .ok (.if_icmp .ne 17, 3) := dk_160 0 17 (dk_at dksX2_decidedIn_1 12 rfl rfl)
theorem dX2_decidedIn_39 : decode cX2_decidedIn 39 = .ok (.aload_n 0, 1) := dk_42 (dk_at dksX2_decidedIn_1 15 rfl rfl)
theorem dX2_decidedIn_40 : decode cX2_decidedIn 40 = .ok (.iload 4, 2) := dk_21 4 (dk_at dksX2_decidedIn_1 16 rfl rfl)
theorem dX2_decidedIn_42 : decode cX2_decidedIn 42 = .ok (.invokevirtual 121, 3) := dk_182 0 121 (dk_at dksX2_decidedIn_1 18 rfl rfl)
theorem dX2_decidedIn_45 : decode cX2_decidedIn 45 = .ok (.iconst (-1), 1) := dk_2 (dk_at dksX2_decidedIn_1 21 rfl rfl)
theorem dX2_decidedIn_46 : decode cX2_decidedIn 46 = .ok (.if_icmp .eq 7, 3) := dk_159 0 7 (dk_at dksX2_decidedIn_2 0 rfl rfl)
theorem dX2_decidedIn_49 : decode cX2_decidedIn 49 = .ok (.iconst 1, 1) := dk_4 (dk_at dksX2_decidedIn_2 3 rfl rfl)
theorem dX2_decidedIn_50 : decode cX2_decidedIn 50 = .ok (.goto 4, 3) := dk_167 0 4 (dk_at dksX2_decidedIn_2 4 rfl rfl)
theorem dX2_decidedIn_53 : decode cX2_decidedIn 53 = .ok (.iconst 0, 1) := dk_3 (dk_at dksX2_decidedIn_2 7 rfl rfl)
theorem dX2_decidedIn_54 : decode cX2_decidedIn 54 = .ok (.invokestatic 86, 3) := dk_184 0 86 (dk_at dksX2_decidedIn_2 8 rfl rfl)
theorem dX2_decidedIn_57 : decode cX2_decidedIn 57 = .ok (.iadd, 1) := dk_96 (dk_at dksX2_decidedIn_2 11 rfl rfl)
theorem dX2_decidedIn_58 : decode cX2_decidedIn 58 = .ok (.istore_n 3, 1) := dk_62 (dk_at dksX2_decidedIn_2 12 rfl rfl)
theorem dX2_decidedIn_59 : decode cX2_decidedIn 59 = .ok (.iinc 4 1, 3) := dk_132 4 1 (dk_at dksX2_decidedIn_2 13 rfl rfl)
theorem dX2_decidedIn_62 : decode cX2_decidedIn 62 = .ok (.goto (-44), 3) := dk_167 255 212 (dk_at dksX2_decidedIn_2 16 rfl rfl)
theorem dX2_decidedIn_65 : decode cX2_decidedIn 65 = .ok (.aload_n 0, 1) := dk_42 (dk_at dksX2_decidedIn_2 19 rfl rfl)
theorem dX2_decidedIn_66 : decode cX2_decidedIn 66 = .ok (.iload_n 3, 1) := dk_29 (dk_at dksX2_decidedIn_2 20 rfl rfl)
theorem dX2_decidedIn_67 : decode cX2_decidedIn 67 = .ok (.invokevirtual 254, 3) := dk_182 0 254 (dk_at dksX2_decidedIn_2 21 rfl rfl)
theorem dX2_decidedIn_70 : decode cX2_decidedIn 70 = .ok (.ireturn, 1) := dk_172 (dk_at dksX2_decidedIn_3 0 rfl rfl)
abbrev cX2_bagsIf : ByteArray := prog_14_method_108_code
def yX2_bagsIf : MethodName := ⟨RX2, "bagsIf", "(I)I"⟩
def dkwX2_bagsIf_4 : List UInt8 := [180, 0, 7, 3, 28, 79, 42, 42, 16, 21, 182, 1, 16, 182, 0, 254, 172]
abbrev dktX2_bagsIf_4 : List UInt8 := dkwX2_bagsIf_4 ++ []
def dkwX2_bagsIf_3 : List UInt8 := [42, 180, 0, 13, 16, 21, 29, 96, 3, 79, 132, 3, 1, 167, 255, 227, 42, 182, 0, 240, 62, 42]
abbrev dktX2_bagsIf_3 : List UInt8 := dkwX2_bagsIf_3 ++ dktX2_bagsIf_4
def dkwX2_bagsIf_2 : List UInt8 := [180, 0, 7, 3, 27, 79, 3, 62, 29, 16, 6, 162, 0, 29, 42, 180, 0, 13, 16, 15, 29, 96, 3, 79]
abbrev dktX2_bagsIf_2 : List UInt8 := dkwX2_bagsIf_2 ++ dktX2_bagsIf_3
def dkwX2_bagsIf_1 : List UInt8 := [3, 5, 182, 0, 43, 153, 0, 5, 3, 172, 42, 182, 0, 248, 42, 180, 0, 7, 3, 46, 61, 42]
abbrev dktX2_bagsIf_1 : List UInt8 := dkwX2_bagsIf_1 ++ dktX2_bagsIf_2
def dkwX2_bagsIf_0 : List UInt8 := [42, 182, 1, 4, 154, 0, 28, 42, 27, 133, 10, 20, 1, 87, 184, 0, 195, 154, 0, 7, 4, 167, 0, 4]
abbrev dktX2_bagsIf_0 : List UInt8 := dkwX2_bagsIf_0 ++ dktX2_bagsIf_1
theorem dksX2_bagsIf_0 : cX2_bagsIf.data.toList.drop 0 = dktX2_bagsIf_0 := by decide +kernel
theorem dksX2_bagsIf_1 : cX2_bagsIf.data.toList.drop 24 = dktX2_bagsIf_1 := dk_seg dksX2_bagsIf_0 24 rfl rfl
theorem dksX2_bagsIf_2 : cX2_bagsIf.data.toList.drop 46 = dktX2_bagsIf_2 := dk_seg dksX2_bagsIf_1 22 rfl rfl
theorem dksX2_bagsIf_3 : cX2_bagsIf.data.toList.drop 70 = dktX2_bagsIf_3 := dk_seg dksX2_bagsIf_2 24 rfl rfl
theorem dksX2_bagsIf_4 : cX2_bagsIf.data.toList.drop 92 = dktX2_bagsIf_4 := dk_seg dksX2_bagsIf_3 22 rfl rfl
theorem dX2_bagsIf_0 : decode cX2_bagsIf 0 = .ok (.aload_n 0, 1) := dk_42 (dk_at dksX2_bagsIf_0 0 rfl rfl)
theorem dX2_bagsIf_1 : decode cX2_bagsIf 1 = .ok (.invokevirtual 260, 3) := dk_182 1 4 (dk_at dksX2_bagsIf_0 1 rfl rfl)
theorem dX2_bagsIf_4 : decode cX2_bagsIf 4 = .ok (.ifCond .ne 28, 3) := dk_154 0 28 (dk_at dksX2_bagsIf_0 4 rfl rfl)
theorem dX2_bagsIf_7 : decode cX2_bagsIf 7 = .ok (.aload_n 0, 1) := dk_42 (dk_at dksX2_bagsIf_0 7 rfl rfl)
theorem dX2_bagsIf_8 : decode cX2_bagsIf 8 = .ok (.iload_n 1, 1) := dk_27 (dk_at dksX2_bagsIf_0 8 rfl rfl)
theorem dX2_bagsIf_9 : decode cX2_bagsIf 9 = .ok (.i2l, 1) := dk_133 (dk_at dksX2_bagsIf_0 9 rfl rfl)
theorem dX2_bagsIf_10 : decode cX2_bagsIf 10 = .ok (.lconst 1, 1) := dk_10 (dk_at dksX2_bagsIf_0 10 rfl rfl)
theorem dX2_bagsIf_11 : decode cX2_bagsIf 11 = .ok (.ldc2_w 343, 3) := dk_20 1 87 (dk_at dksX2_bagsIf_0 11 rfl rfl)
theorem dX2_bagsIf_14 : decode cX2_bagsIf 14 = .ok (.invokestatic 195, 3) := dk_184 0 195 (dk_at dksX2_bagsIf_0 14 rfl rfl)
theorem dX2_bagsIf_17 : decode cX2_bagsIf 17 = .ok (.ifCond .ne 7, 3) := dk_154 0 7 (dk_at dksX2_bagsIf_0 17 rfl rfl)
theorem dX2_bagsIf_20 : decode cX2_bagsIf 20 = .ok (.iconst 1, 1) := dk_4 (dk_at dksX2_bagsIf_0 20 rfl rfl)
theorem dX2_bagsIf_21 : decode cX2_bagsIf 21 = .ok (.goto 4, 3) := dk_167 0 4 (dk_at dksX2_bagsIf_0 21 rfl rfl)
theorem dX2_bagsIf_24 : decode cX2_bagsIf 24 = .ok (.iconst 0, 1) := dk_3 (dk_at dksX2_bagsIf_1 0 rfl rfl)
theorem dX2_bagsIf_25 : decode cX2_bagsIf 25 = .ok (.iconst 2, 1) := dk_5 (dk_at dksX2_bagsIf_1 1 rfl rfl)
theorem dX2_bagsIf_26 : decode cX2_bagsIf 26 = .ok (.invokevirtual 43, 3) := dk_182 0 43 (dk_at dksX2_bagsIf_1 2 rfl rfl)
theorem dX2_bagsIf_29 : decode cX2_bagsIf 29 = .ok (.ifCond .eq 5, 3) := dk_153 0 5 (dk_at dksX2_bagsIf_1 5 rfl rfl)
theorem dX2_bagsIf_32 : decode cX2_bagsIf 32 = .ok (.iconst 0, 1) := dk_3 (dk_at dksX2_bagsIf_1 8 rfl rfl)
theorem dX2_bagsIf_33 : decode cX2_bagsIf 33 = .ok (.ireturn, 1) := dk_172 (dk_at dksX2_bagsIf_1 9 rfl rfl)
theorem dX2_bagsIf_34 : decode cX2_bagsIf 34 = .ok (.aload_n 0, 1) := dk_42 (dk_at dksX2_bagsIf_1 10 rfl rfl)
theorem dX2_bagsIf_35 : decode cX2_bagsIf 35 = .ok (.invokevirtual 248, 3) := dk_182 0 248 (dk_at dksX2_bagsIf_1 11 rfl rfl)
theorem dX2_bagsIf_38 : decode cX2_bagsIf 38 = .ok (.aload_n 0, 1) := dk_42 (dk_at dksX2_bagsIf_1 14 rfl rfl)
theorem dX2_bagsIf_39 : decode cX2_bagsIf 39 = .ok (.getfield 7, 3) := dk_180 0 7 (dk_at dksX2_bagsIf_1 15 rfl rfl)
theorem dX2_bagsIf_42 : decode cX2_bagsIf 42 = .ok (.iconst 0, 1) := dk_3 (dk_at dksX2_bagsIf_1 18 rfl rfl)
theorem dX2_bagsIf_43 : decode cX2_bagsIf 43 = .ok (.iaload, 1) := dk_46 (dk_at dksX2_bagsIf_1 19 rfl rfl)
theorem dX2_bagsIf_44 : decode cX2_bagsIf 44 = .ok (.istore_n 2, 1) := dk_61 (dk_at dksX2_bagsIf_1 20 rfl rfl)
theorem dX2_bagsIf_45 : decode cX2_bagsIf 45 = .ok (.aload_n 0, 1) := dk_42 (dk_at dksX2_bagsIf_1 21 rfl rfl)
theorem dX2_bagsIf_46 : decode cX2_bagsIf 46 = .ok (.getfield 7, 3) := dk_180 0 7 (dk_at dksX2_bagsIf_2 0 rfl rfl)
theorem dX2_bagsIf_49 : decode cX2_bagsIf 49 = .ok (.iconst 0, 1) := dk_3 (dk_at dksX2_bagsIf_2 3 rfl rfl)
theorem dX2_bagsIf_50 : decode cX2_bagsIf 50 = .ok (.iload_n 1, 1) := dk_27 (dk_at dksX2_bagsIf_2 4 rfl rfl)
theorem dX2_bagsIf_51 : decode cX2_bagsIf 51 = .ok (.iastore, 1) := dk_79 (dk_at dksX2_bagsIf_2 5 rfl rfl)
theorem dX2_bagsIf_52 : decode cX2_bagsIf 52 = .ok (.iconst 0, 1) := dk_3 (dk_at dksX2_bagsIf_2 6 rfl rfl)
theorem dX2_bagsIf_53 : decode cX2_bagsIf 53 = .ok (.istore_n 3, 1) := dk_62 (dk_at dksX2_bagsIf_2 7 rfl rfl)
theorem dX2_bagsIf_54 : decode cX2_bagsIf 54 = .ok (.iload_n 3, 1) := dk_29 (dk_at dksX2_bagsIf_2 8 rfl rfl)
theorem dX2_bagsIf_55 : decode cX2_bagsIf 55 = .ok (.bipush 6, 2) := dk_16 6 (dk_at dksX2_bagsIf_2 9 rfl rfl)
theorem dX2_bagsIf_57 : decode cX2_bagsIf 57 = .ok (.if_icmp .ge 29, 3) := dk_162 0 29 (dk_at dksX2_bagsIf_2 11 rfl rfl)
theorem dX2_bagsIf_60 : decode cX2_bagsIf 60 = .ok (.aload_n 0, 1) := dk_42 (dk_at dksX2_bagsIf_2 14 rfl rfl)
theorem dX2_bagsIf_61 : decode cX2_bagsIf 61 = .ok (.getfield 13, 3) := dk_180 0 13 (dk_at dksX2_bagsIf_2 15 rfl rfl)
theorem dX2_bagsIf_64 : decode cX2_bagsIf 64 = .ok (.bipush 15, 2) := dk_16 15 (dk_at dksX2_bagsIf_2 18 rfl rfl)
theorem dX2_bagsIf_66 : decode cX2_bagsIf 66 = .ok (.iload_n 3, 1) := dk_29 (dk_at dksX2_bagsIf_2 20 rfl rfl)
theorem dX2_bagsIf_67 : decode cX2_bagsIf 67 = .ok (.iadd, 1) := dk_96 (dk_at dksX2_bagsIf_2 21 rfl rfl)
theorem dX2_bagsIf_68 : decode cX2_bagsIf 68 = .ok (.iconst 0, 1) := dk_3 (dk_at dksX2_bagsIf_2 22 rfl rfl)
theorem dX2_bagsIf_69 : decode cX2_bagsIf 69 = .ok (.iastore, 1) := dk_79 (dk_at dksX2_bagsIf_2 23 rfl rfl)
theorem dX2_bagsIf_70 : decode cX2_bagsIf 70 = .ok (.aload_n 0, 1) := dk_42 (dk_at dksX2_bagsIf_3 0 rfl rfl)
theorem dX2_bagsIf_71 : decode cX2_bagsIf 71 = .ok (.getfield 13, 3) := dk_180 0 13 (dk_at dksX2_bagsIf_3 1 rfl rfl)
theorem dX2_bagsIf_74 : decode cX2_bagsIf 74 = .ok (.bipush 21, 2) := dk_16 21 (dk_at dksX2_bagsIf_3 4 rfl rfl)
theorem dX2_bagsIf_76 : decode cX2_bagsIf 76 = .ok (.iload_n 3, 1) := dk_29 (dk_at dksX2_bagsIf_3 6 rfl rfl)
theorem dX2_bagsIf_77 : decode cX2_bagsIf 77 = .ok (.iadd, 1) := dk_96 (dk_at dksX2_bagsIf_3 7 rfl rfl)
theorem dX2_bagsIf_78 : decode cX2_bagsIf 78 = .ok (.iconst 0, 1) := dk_3 (dk_at dksX2_bagsIf_3 8 rfl rfl)
theorem dX2_bagsIf_79 : decode cX2_bagsIf 79 = .ok (.iastore, 1) := dk_79 (dk_at dksX2_bagsIf_3 9 rfl rfl)
theorem dX2_bagsIf_80 : decode cX2_bagsIf 80 = .ok (.iinc 3 1, 3) := dk_132 3 1 (dk_at dksX2_bagsIf_3 10 rfl rfl)
theorem dX2_bagsIf_83 : decode cX2_bagsIf 83 = .ok (.goto (-29), 3) := dk_167 255 227 (dk_at dksX2_bagsIf_3 13 rfl rfl)
theorem dX2_bagsIf_86 : decode cX2_bagsIf 86 = .ok (.aload_n 0, 1) := dk_42 (dk_at dksX2_bagsIf_3 16 rfl rfl)
theorem dX2_bagsIf_87 : decode cX2_bagsIf 87 = .ok (.invokevirtual 240, 3) := dk_182 0 240 (dk_at dksX2_bagsIf_3 17 rfl rfl)
theorem dX2_bagsIf_90 : decode cX2_bagsIf 90 = .ok (.istore_n 3, 1) := dk_62 (dk_at dksX2_bagsIf_3 20 rfl rfl)
theorem dX2_bagsIf_91 : decode cX2_bagsIf 91 = .ok (.aload_n 0, 1) := dk_42 (dk_at dksX2_bagsIf_3 21 rfl rfl)
theorem dX2_bagsIf_92 : decode cX2_bagsIf 92 = .ok (.getfield 7, 3) := dk_180 0 7 (dk_at dksX2_bagsIf_4 0 rfl rfl)
theorem dX2_bagsIf_95 : decode cX2_bagsIf 95 = .ok (.iconst 0, 1) := dk_3 (dk_at dksX2_bagsIf_4 3 rfl rfl)
theorem dX2_bagsIf_96 : decode cX2_bagsIf 96 = .ok (.iload_n 2, 1) := dk_28 (dk_at dksX2_bagsIf_4 4 rfl rfl)
theorem dX2_bagsIf_97 : decode cX2_bagsIf 97 = .ok (.iastore, 1) := dk_79 (dk_at dksX2_bagsIf_4 5 rfl rfl)
theorem dX2_bagsIf_98 : decode cX2_bagsIf 98 = .ok (.aload_n 0, 1) := dk_42 (dk_at dksX2_bagsIf_4 6 rfl rfl)
theorem dX2_bagsIf_99 : decode cX2_bagsIf 99 = .ok (.aload_n 0, 1) := dk_42 (dk_at dksX2_bagsIf_4 7 rfl rfl)
theorem dX2_bagsIf_100 : decode cX2_bagsIf 100 = .ok (.bipush 21, 2) := dk_16 21 (dk_at dksX2_bagsIf_4 8 rfl rfl)
theorem dX2_bagsIf_102 : decode cX2_bagsIf 102 = .ok (.invokevirtual 272, 3) := dk_182 1 16 (dk_at dksX2_bagsIf_4 10 rfl rfl)
theorem dX2_bagsIf_105 : decode cX2_bagsIf 105 = .ok (.invokevirtual 254, 3) := dk_182 0 254 (dk_at dksX2_bagsIf_4 13 rfl rfl)
theorem dX2_bagsIf_108 : decode cX2_bagsIf 108 = .ok (.ireturn, 1) := dk_172 (dk_at dksX2_bagsIf_4 16 rfl rfl)
abbrev cX2_helpful : ByteArray := prog_14_method_109_code
def yX2_helpful : MethodName := ⟨RX2, "helpful", "(I)I"⟩
def dkwX2_helpful_2 : List UInt8 := [27, 28, 2, 182, 1, 89, 2, 159, 0, 5, 28, 172, 132, 2, 1, 167, 255, 225, 2, 172]
abbrev dktX2_helpful_2 : List UInt8 := dkwX2_helpful_2 ++ []
def dkwX2_helpful_1 : List UInt8 := [2, 167, 0, 4, 3, 172, 3, 61, 28, 8, 162, 0, 32, 42, 27, 28, 182, 0, 74, 2, 159, 0, 16, 42]
abbrev dktX2_helpful_1 : List UInt8 := dkwX2_helpful_1 ++ dktX2_helpful_2
def dkwX2_helpful_0 : List UInt8 := [42, 27, 182, 1, 43, 154, 0, 12, 42, 27, 182, 0, 121, 2, 159, 0, 16, 42, 180, 0, 36, 154, 0, 7]
abbrev dktX2_helpful_0 : List UInt8 := dkwX2_helpful_0 ++ dktX2_helpful_1
theorem dksX2_helpful_0 : cX2_helpful.data.toList.drop 0 = dktX2_helpful_0 := by decide +kernel
theorem dksX2_helpful_1 : cX2_helpful.data.toList.drop 24 = dktX2_helpful_1 := dk_seg dksX2_helpful_0 24 rfl rfl
theorem dksX2_helpful_2 : cX2_helpful.data.toList.drop 48 = dktX2_helpful_2 := dk_seg dksX2_helpful_1 24 rfl rfl
theorem dX2_helpful_0 : decode cX2_helpful 0 = .ok (.aload_n 0, 1) := dk_42 (dk_at dksX2_helpful_0 0 rfl rfl)
theorem dX2_helpful_1 : decode cX2_helpful 1 = .ok (.iload_n 1, 1) := dk_27 (dk_at dksX2_helpful_0 1 rfl rfl)
theorem dX2_helpful_2 : decode cX2_helpful 2 = .ok (.invokevirtual 299, 3) := dk_182 1 43 (dk_at dksX2_helpful_0 2 rfl rfl)
theorem dX2_helpful_5 : decode cX2_helpful 5 = .ok (.ifCond .ne 12, 3) := dk_154 0 12 (dk_at dksX2_helpful_0 5 rfl rfl)
theorem dX2_helpful_8 : decode cX2_helpful 8 = .ok (.aload_n 0, 1) := dk_42 (dk_at dksX2_helpful_0 8 rfl rfl)
theorem dX2_helpful_9 : decode cX2_helpful 9 = .ok (.iload_n 1, 1) := dk_27 (dk_at dksX2_helpful_0 9 rfl rfl)
theorem dX2_helpful_10 : decode cX2_helpful 10 = .ok (.invokevirtual 121, 3) := dk_182 0 121 (dk_at dksX2_helpful_0 10 rfl rfl)
theorem dX2_helpful_13 : decode cX2_helpful 13 = .ok (.iconst (-1), 1) := dk_2 (dk_at dksX2_helpful_0 13 rfl rfl)
theorem dX2_helpful_14 : decode cX2_helpful 14 = .ok (.if_icmp .eq 16, 3) := dk_159 0 16 (dk_at dksX2_helpful_0 14 rfl rfl)
theorem dX2_helpful_17 : decode cX2_helpful 17 = .ok (.aload_n 0, 1) := dk_42 (dk_at dksX2_helpful_0 17 rfl rfl)
theorem dX2_helpful_18 : decode cX2_helpful 18 = .ok (.getfield 36, 3) := dk_180 0 36 (dk_at dksX2_helpful_0 18 rfl rfl)
theorem dX2_helpful_21 : decode cX2_helpful 21 = .ok (.ifCond .ne 7, 3) := dk_154 0 7 (dk_at dksX2_helpful_0 21 rfl rfl)
theorem dX2_helpful_24 : decode cX2_helpful 24 = .ok (.iconst (-1), 1) := dk_2 (dk_at dksX2_helpful_1 0 rfl rfl)
theorem dX2_helpful_25 : decode cX2_helpful 25 = .ok (.goto 4, 3) := dk_167 0 4 (dk_at dksX2_helpful_1 1 rfl rfl)
theorem dX2_helpful_28 : decode cX2_helpful 28 = .ok (.iconst 0, 1) := dk_3 (dk_at dksX2_helpful_1 4 rfl rfl)
theorem dX2_helpful_29 : decode cX2_helpful 29 = .ok (.ireturn, 1) := dk_172 (dk_at dksX2_helpful_1 5 rfl rfl)
theorem dX2_helpful_30 : decode cX2_helpful 30 = .ok (.iconst 0, 1) := dk_3 (dk_at dksX2_helpful_1 6 rfl rfl)
theorem dX2_helpful_31 : decode cX2_helpful 31 = .ok (.istore_n 2, 1) := dk_61 (dk_at dksX2_helpful_1 7 rfl rfl)
theorem dX2_helpful_32 : decode cX2_helpful 32 = .ok (.iload_n 2, 1) := dk_28 (dk_at dksX2_helpful_1 8 rfl rfl)
theorem dX2_helpful_33 : decode cX2_helpful 33 = .ok (.iconst 5, 1) := dk_8 (dk_at dksX2_helpful_1 9 rfl rfl)
theorem dX2_helpful_34 : decode cX2_helpful 34 = .ok (.if_icmp .ge 32, 3) := dk_162 0 32 (dk_at dksX2_helpful_1 10 rfl rfl)
theorem dX2_helpful_37 : decode cX2_helpful 37 = .ok (.aload_n 0, 1) := dk_42 (dk_at dksX2_helpful_1 13 rfl rfl)
theorem dX2_helpful_38 : decode cX2_helpful 38 = .ok (.iload_n 1, 1) := dk_27 (dk_at dksX2_helpful_1 14 rfl rfl)
theorem dX2_helpful_39 : decode cX2_helpful 39 = .ok (.iload_n 2, 1) := dk_28 (dk_at dksX2_helpful_1 15 rfl rfl)
theorem dX2_helpful_40 : decode cX2_helpful 40 = .ok (.invokevirtual 74, 3) := dk_182 0 74 (dk_at dksX2_helpful_1 16 rfl rfl)
theorem dX2_helpful_43 : decode cX2_helpful 43 = .ok (.iconst (-1), 1) := dk_2 (dk_at dksX2_helpful_1 19 rfl rfl)
theorem dX2_helpful_44 : decode cX2_helpful 44 = .ok (.if_icmp .eq 16, 3) := dk_159 0 16 (dk_at dksX2_helpful_1 20 rfl rfl)
theorem dX2_helpful_47 : decode cX2_helpful 47 = .ok (.aload_n 0, 1) := dk_42 (dk_at dksX2_helpful_1 23 rfl rfl)
theorem dX2_helpful_48 : decode cX2_helpful 48 = .ok (.iload_n 1, 1) := dk_27 (dk_at dksX2_helpful_2 0 rfl rfl)
theorem dX2_helpful_49 : decode cX2_helpful 49 = .ok (.iload_n 2, 1) := dk_28 (dk_at dksX2_helpful_2 1 rfl rfl)
theorem dX2_helpful_50 : decode cX2_helpful 50 = .ok (.iconst (-1), 1) := dk_2 (dk_at dksX2_helpful_2 2 rfl rfl)
theorem dX2_helpful_51 : decode cX2_helpful 51 = .ok (.invokevirtual 345, 3) := dk_182 1 89 (dk_at dksX2_helpful_2 3 rfl rfl)
theorem dX2_helpful_54 : decode cX2_helpful 54 = .ok (.iconst (-1), 1) := dk_2 (dk_at dksX2_helpful_2 6 rfl rfl)
theorem dX2_helpful_55 : decode cX2_helpful 55 = .ok (.if_icmp .eq 5, 3) := dk_159 0 5 (dk_at dksX2_helpful_2 7 rfl rfl)
theorem dX2_helpful_58 : decode cX2_helpful 58 = .ok (.iload_n 2, 1) := dk_28 (dk_at dksX2_helpful_2 10 rfl rfl)
theorem dX2_helpful_59 : decode cX2_helpful 59 = .ok (.ireturn, 1) := dk_172 (dk_at dksX2_helpful_2 11 rfl rfl)
theorem dX2_helpful_60 : decode cX2_helpful 60 = .ok (.iinc 2 1, 3) := dk_132 2 1 (dk_at dksX2_helpful_2 12 rfl rfl)
theorem dX2_helpful_63 : decode cX2_helpful 63 = .ok (.goto (-31), 3) := dk_167 255 225 (dk_at dksX2_helpful_2 15 rfl rfl)
theorem dX2_helpful_66 : decode cX2_helpful 66 = .ok (.iconst (-1), 1) := dk_2 (dk_at dksX2_helpful_2 18 rfl rfl)
theorem dX2_helpful_67 : decode cX2_helpful 67 = .ok (.ireturn, 1) := dk_172 (dk_at dksX2_helpful_2 19 rfl rfl)
abbrev cX2_causeIf : ByteArray := prog_14_method_110_code
def yX2_causeIf : MethodName := ⟨RX2, "causeIf", "(I)I"⟩
def dkwX2_causeIf_1 : List UInt8 := [182, 0, 130, 172]
abbrev dktX2_causeIf_1 : List UInt8 := dkwX2_causeIf_1 ++ []
def dkwX2_causeIf_0 : List UInt8 := [42, 27, 182, 1, 43, 154, 0, 13, 42, 27, 16, 6, 182, 0, 74, 153, 0, 7, 3, 167, 0, 8, 42, 27]
abbrev dktX2_causeIf_0 : List UInt8 := dkwX2_causeIf_0 ++ dktX2_causeIf_1
theorem dksX2_causeIf_0 : cX2_causeIf.data.toList.drop 0 = dktX2_causeIf_0 := by decide +kernel
theorem dksX2_causeIf_1 : cX2_causeIf.data.toList.drop 24 = dktX2_causeIf_1 := dk_seg dksX2_causeIf_0 24 rfl rfl
theorem dX2_causeIf_0 : decode cX2_causeIf 0 = .ok (.aload_n 0, 1) := dk_42 (dk_at dksX2_causeIf_0 0 rfl rfl)
theorem dX2_causeIf_1 : decode cX2_causeIf 1 = .ok (.iload_n 1, 1) := dk_27 (dk_at dksX2_causeIf_0 1 rfl rfl)
theorem dX2_causeIf_2 : decode cX2_causeIf 2 = .ok (.invokevirtual 299, 3) := dk_182 1 43 (dk_at dksX2_causeIf_0 2 rfl rfl)
theorem dX2_causeIf_5 : decode cX2_causeIf 5 = .ok (.ifCond .ne 13, 3) := dk_154 0 13 (dk_at dksX2_causeIf_0 5 rfl rfl)
theorem dX2_causeIf_8 : decode cX2_causeIf 8 = .ok (.aload_n 0, 1) := dk_42 (dk_at dksX2_causeIf_0 8 rfl rfl)
theorem dX2_causeIf_9 : decode cX2_causeIf 9 = .ok (.iload_n 1, 1) := dk_27 (dk_at dksX2_causeIf_0 9 rfl rfl)
theorem dX2_causeIf_10 : decode cX2_causeIf 10 = .ok (.bipush 6, 2) := dk_16 6 (dk_at dksX2_causeIf_0 10 rfl rfl)
theorem dX2_causeIf_12 : decode cX2_causeIf 12 = .ok (.invokevirtual 74, 3) := dk_182 0 74 (dk_at dksX2_causeIf_0 12 rfl rfl)
theorem dX2_causeIf_15 : decode cX2_causeIf 15 = .ok (.ifCond .eq 7, 3) := dk_153 0 7 (dk_at dksX2_causeIf_0 15 rfl rfl)
theorem dX2_causeIf_18 : decode cX2_causeIf 18 = .ok (.iconst 0, 1) := dk_3 (dk_at dksX2_causeIf_0 18 rfl rfl)
theorem dX2_causeIf_19 : decode cX2_causeIf 19 = .ok (.goto 8, 3) := dk_167 0 8 (dk_at dksX2_causeIf_0 19 rfl rfl)
theorem dX2_causeIf_22 : decode cX2_causeIf 22 = .ok (.aload_n 0, 1) := dk_42 (dk_at dksX2_causeIf_0 22 rfl rfl)
theorem dX2_causeIf_23 : decode cX2_causeIf 23 = .ok (.iload_n 1, 1) := dk_27 (dk_at dksX2_causeIf_0 23 rfl rfl)
theorem dX2_causeIf_24 : decode cX2_causeIf 24 = .ok (.invokevirtual 130, 3) := dk_182 0 130 (dk_at dksX2_causeIf_1 0 rfl rfl)
theorem dX2_causeIf_27 : decode cX2_causeIf 27 = .ok (.ireturn, 1) := dk_172 (dk_at dksX2_causeIf_1 3 rfl rfl)
abbrev cX2_share : ByteArray := prog_14_method_111_code
def yX2_share : MethodName := ⟨RX2, "share", "()F"⟩
def dkwX2_share_1 : List UInt8 := [154, 0, 7, 11, 167, 0, 12, 42, 4, 182, 1, 10, 134, 27, 134, 110, 174]
abbrev dktX2_share_1 : List UInt8 := dkwX2_share_1 ++ []
def dkwX2_share_0 : List UInt8 := [42, 182, 1, 4, 153, 0, 5, 11, 174, 42, 4, 182, 1, 10, 42, 5, 182, 1, 10, 96, 60, 27]
abbrev dktX2_share_0 : List UInt8 := dkwX2_share_0 ++ dktX2_share_1
theorem dksX2_share_0 : cX2_share.data.toList.drop 0 = dktX2_share_0 := by decide +kernel
theorem dksX2_share_1 : cX2_share.data.toList.drop 22 = dktX2_share_1 := dk_seg dksX2_share_0 22 rfl rfl
theorem dX2_share_0 : decode cX2_share 0 = .ok (.aload_n 0, 1) := dk_42 (dk_at dksX2_share_0 0 rfl rfl)
theorem dX2_share_1 : decode cX2_share 1 = .ok (.invokevirtual 260, 3) := dk_182 1 4 (dk_at dksX2_share_0 1 rfl rfl)
theorem dX2_share_4 : decode cX2_share 4 = .ok (.ifCond .eq 5, 3) := dk_153 0 5 (dk_at dksX2_share_0 4 rfl rfl)
theorem dX2_share_7 : decode cX2_share 7 = .ok (.fconst 0, 1) := dk_11 (dk_at dksX2_share_0 7 rfl rfl)
theorem dX2_share_8 : decode cX2_share 8 = .ok (.freturn, 1) := dk_174 (dk_at dksX2_share_0 8 rfl rfl)
theorem dX2_share_9 : decode cX2_share 9 = .ok (.aload_n 0, 1) := dk_42 (dk_at dksX2_share_0 9 rfl rfl)
theorem dX2_share_10 : decode cX2_share 10 = .ok (.iconst 1, 1) := dk_4 (dk_at dksX2_share_0 10 rfl rfl)
theorem dX2_share_11 : decode cX2_share 11 = .ok (.invokevirtual 266, 3) := dk_182 1 10 (dk_at dksX2_share_0 11 rfl rfl)
theorem dX2_share_14 : decode cX2_share 14 = .ok (.aload_n 0, 1) := dk_42 (dk_at dksX2_share_0 14 rfl rfl)
theorem dX2_share_15 : decode cX2_share 15 = .ok (.iconst 2, 1) := dk_5 (dk_at dksX2_share_0 15 rfl rfl)
theorem dX2_share_16 : decode cX2_share 16 = .ok (.invokevirtual 266, 3) := dk_182 1 10 (dk_at dksX2_share_0 16 rfl rfl)
theorem dX2_share_19 : decode cX2_share 19 = .ok (.iadd, 1) := dk_96 (dk_at dksX2_share_0 19 rfl rfl)
theorem dX2_share_20 : decode cX2_share 20 = .ok (.istore_n 1, 1) := dk_60 (dk_at dksX2_share_0 20 rfl rfl)
theorem dX2_share_21 : decode cX2_share 21 = .ok (.iload_n 1, 1) := dk_27 (dk_at dksX2_share_0 21 rfl rfl)
theorem dX2_share_22 : decode cX2_share 22 = .ok (.ifCond .ne 7, 3) := dk_154 0 7 (dk_at dksX2_share_1 0 rfl rfl)
theorem dX2_share_25 : decode cX2_share 25 = .ok (.fconst 0, 1) := dk_11 (dk_at dksX2_share_1 3 rfl rfl)
theorem dX2_share_26 : decode cX2_share 26 = .ok (.goto 12, 3) := dk_167 0 12 (dk_at dksX2_share_1 4 rfl rfl)
theorem dX2_share_29 : decode cX2_share 29 = .ok (.aload_n 0, 1) := dk_42 (dk_at dksX2_share_1 7 rfl rfl)
theorem dX2_share_30 : decode cX2_share 30 = .ok (.iconst 1, 1) := dk_4 (dk_at dksX2_share_1 8 rfl rfl)
theorem dX2_share_31 : decode cX2_share 31 = .ok (.invokevirtual 266, 3) := dk_182 1 10 (dk_at dksX2_share_1 9 rfl rfl)
theorem dX2_share_34 : decode cX2_share 34 = .ok (.i2f, 1) := dk_134 (dk_at dksX2_share_1 12 rfl rfl)
theorem dX2_share_35 : decode cX2_share 35 = .ok (.iload_n 1, 1) := dk_27 (dk_at dksX2_share_1 13 rfl rfl)
theorem dX2_share_36 : decode cX2_share 36 = .ok (.i2f, 1) := dk_134 (dk_at dksX2_share_1 14 rfl rfl)
theorem dX2_share_37 : decode cX2_share 37 = .ok (.fdiv, 1) := dk_110 (dk_at dksX2_share_1 15 rfl rfl)
theorem dX2_share_38 : decode cX2_share 38 = .ok (.freturn, 1) := dk_174 (dk_at dksX2_share_1 16 rfl rfl)
abbrev cX2_meanDistance : ByteArray := prog_14_method_112_code
def yX2_meanDistance : MethodName := ⟨RX2, "meanDistance", "()D"⟩
def dkwX2_meanDistance_3 : List UInt8 := [167, 255, 201, 28, 154, 0, 7, 14, 167, 0, 8, 27, 135, 28, 135, 111, 175]
abbrev dktX2_meanDistance_3 : List UInt8 := dkwX2_meanDistance_3 ++ []
def dkwX2_meanDistance_2 : List UInt8 := [96, 60, 28, 21, 4, 2, 159, 0, 7, 4, 167, 0, 4, 3, 184, 0, 86, 96, 61, 132, 3, 1]
abbrev dktX2_meanDistance_2 : List UInt8 := dkwX2_meanDistance_2 ++ dktX2_meanDistance_3
def dkwX2_meanDistance_1 : List UInt8 := [29, 182, 0, 121, 54, 4, 27, 21, 4, 2, 160, 0, 7, 3, 167, 0, 10, 42, 29, 21, 4, 182, 0, 94]
abbrev dktX2_meanDistance_1 : List UInt8 := dkwX2_meanDistance_1 ++ dktX2_meanDistance_2
def dkwX2_meanDistance_0 : List UInt8 := [42, 182, 1, 4, 153, 0, 5, 14, 175, 3, 60, 3, 61, 3, 62, 29, 42, 182, 0, 109, 162, 0, 53, 42]
abbrev dktX2_meanDistance_0 : List UInt8 := dkwX2_meanDistance_0 ++ dktX2_meanDistance_1
theorem dksX2_meanDistance_0 : cX2_meanDistance.data.toList.drop 0 = dktX2_meanDistance_0 := by decide +kernel
theorem dksX2_meanDistance_1 : cX2_meanDistance.data.toList.drop 24 = dktX2_meanDistance_1 := dk_seg dksX2_meanDistance_0 24 rfl rfl
theorem dksX2_meanDistance_2 : cX2_meanDistance.data.toList.drop 48 = dktX2_meanDistance_2 := dk_seg dksX2_meanDistance_1 24 rfl rfl
theorem dksX2_meanDistance_3 : cX2_meanDistance.data.toList.drop 70 = dktX2_meanDistance_3 := dk_seg dksX2_meanDistance_2 22 rfl rfl
theorem dX2_meanDistance_0 : decode cX2_meanDistance 0 = .ok (.aload_n 0, 1) := dk_42 (dk_at dksX2_meanDistance_0 0 rfl rfl)
theorem dX2_meanDistance_1 : decode cX2_meanDistance 1 = .ok (.invokevirtual 260, 3) := dk_182 1 4 (dk_at dksX2_meanDistance_0 1 rfl rfl)
theorem dX2_meanDistance_4 : decode cX2_meanDistance 4 = .ok (.ifCond .eq 5, 3) := dk_153 0 5 (dk_at dksX2_meanDistance_0 4 rfl rfl)
theorem dX2_meanDistance_7 : decode cX2_meanDistance 7 = .ok (.dconst 0, 1) := dk_14 (dk_at dksX2_meanDistance_0 7 rfl rfl)
theorem dX2_meanDistance_8 : decode cX2_meanDistance 8 = .ok (.dreturn, 1) := dk_175 (dk_at dksX2_meanDistance_0 8 rfl rfl)
theorem dX2_meanDistance_9 : decode cX2_meanDistance 9 = .ok (.iconst 0, 1) := dk_3 (dk_at dksX2_meanDistance_0 9 rfl rfl)
theorem dX2_meanDistance_10 : decode cX2_meanDistance 10 = .ok (.istore_n 1, 1) := dk_60 (dk_at dksX2_meanDistance_0 10 rfl rfl)
theorem dX2_meanDistance_11 : decode cX2_meanDistance 11 = .ok (.iconst 0, 1) := dk_3 (dk_at dksX2_meanDistance_0 11 rfl rfl)
theorem dX2_meanDistance_12 : decode cX2_meanDistance 12 = .ok (.istore_n 2, 1) := dk_61 (dk_at dksX2_meanDistance_0 12 rfl rfl)
theorem dX2_meanDistance_13 : decode cX2_meanDistance 13 = .ok (.iconst 0, 1) := dk_3 (dk_at dksX2_meanDistance_0 13 rfl rfl)
theorem dX2_meanDistance_14 : decode cX2_meanDistance 14 = .ok (.istore_n 3, 1) := dk_62 (dk_at dksX2_meanDistance_0 14 rfl rfl)
theorem dX2_meanDistance_15 : decode cX2_meanDistance 15 = .ok (.iload_n 3, 1) := dk_29 (dk_at dksX2_meanDistance_0 15 rfl rfl)
theorem dX2_meanDistance_16 : decode cX2_meanDistance 16 = .ok (.aload_n 0, 1) := dk_42 (dk_at dksX2_meanDistance_0 16 rfl rfl)
theorem dX2_meanDistance_17 : decode cX2_meanDistance 17 = .ok (.invokevirtual 109, 3) := dk_182 0 109 (dk_at dksX2_meanDistance_0 17 rfl rfl)
theorem dX2_meanDistance_20 : decode cX2_meanDistance 20 = .ok (.if_icmp .ge 53, 3) := dk_162 0 53 (dk_at dksX2_meanDistance_0 20 rfl rfl)
theorem dX2_meanDistance_23 : decode cX2_meanDistance 23 = .ok (.aload_n 0, 1) := dk_42 (dk_at dksX2_meanDistance_0 23 rfl rfl)
theorem dX2_meanDistance_24 : decode cX2_meanDistance 24 = .ok (.iload_n 3, 1) := dk_29 (dk_at dksX2_meanDistance_1 0 rfl rfl)
theorem dX2_meanDistance_25 : decode cX2_meanDistance 25 = .ok (.invokevirtual 121, 3) := dk_182 0 121 (dk_at dksX2_meanDistance_1 1 rfl rfl)
theorem dX2_meanDistance_28 : decode cX2_meanDistance 28 = .ok (.istore 4, 2) := dk_54 4 (dk_at dksX2_meanDistance_1 4 rfl rfl)
theorem dX2_meanDistance_30 : decode cX2_meanDistance 30 = .ok (.iload_n 1, 1) := dk_27 (dk_at dksX2_meanDistance_1 6 rfl rfl)
theorem dX2_meanDistance_31 : decode cX2_meanDistance 31 = .ok (.iload 4, 2) := dk_21 4 (dk_at dksX2_meanDistance_1 7 rfl rfl)
theorem dX2_meanDistance_33 : decode cX2_meanDistance 33 = .ok (.iconst (-1), 1) := dk_2 (dk_at dksX2_meanDistance_1 9 rfl rfl)
theorem dX2_meanDistance_34 : decode cX2_meanDistance 34 = .ok (.if_icmp .ne 7, 3) := dk_160 0 7 (dk_at dksX2_meanDistance_1 10 rfl rfl)
theorem dX2_meanDistance_37 : decode cX2_meanDistance 37 = .ok (.iconst 0, 1) := dk_3 (dk_at dksX2_meanDistance_1 13 rfl rfl)
theorem dX2_meanDistance_38 : decode cX2_meanDistance 38 = .ok (.goto 10, 3) := dk_167 0 10 (dk_at dksX2_meanDistance_1 14 rfl rfl)
theorem dX2_meanDistance_41 : decode cX2_meanDistance 41 = .ok (.aload_n 0, 1) := dk_42 (dk_at dksX2_meanDistance_1 17 rfl rfl)
theorem dX2_meanDistance_42 : decode cX2_meanDistance 42 = .ok (.iload_n 3, 1) := dk_29 (dk_at dksX2_meanDistance_1 18 rfl rfl)
theorem dX2_meanDistance_43 : decode cX2_meanDistance 43 = .ok (.iload 4, 2) := dk_21 4 (dk_at dksX2_meanDistance_1 19 rfl rfl)
theorem dX2_meanDistance_45 : decode cX2_meanDistance 45 = .ok (.invokevirtual 94, 3) := dk_182 0 94 (dk_at dksX2_meanDistance_1 21 rfl rfl)
theorem dX2_meanDistance_48 : decode cX2_meanDistance 48 = .ok (.iadd, 1) := dk_96 (dk_at dksX2_meanDistance_2 0 rfl rfl)
theorem dX2_meanDistance_49 : decode cX2_meanDistance 49 = .ok (.istore_n 1, 1) := dk_60 (dk_at dksX2_meanDistance_2 1 rfl rfl)
theorem dX2_meanDistance_50 : decode cX2_meanDistance 50 = .ok (.iload_n 2, 1) := dk_28 (dk_at dksX2_meanDistance_2 2 rfl rfl)
theorem dX2_meanDistance_51 : decode cX2_meanDistance 51 = .ok (.iload 4, 2) := dk_21 4 (dk_at dksX2_meanDistance_2 3 rfl rfl)
theorem dX2_meanDistance_53 : decode cX2_meanDistance 53 = .ok (.iconst (-1), 1) := dk_2 (dk_at dksX2_meanDistance_2 5 rfl rfl)
theorem dX2_meanDistance_54 : decode cX2_meanDistance 54 = .ok (.if_icmp .eq 7, 3) := dk_159 0 7 (dk_at dksX2_meanDistance_2 6 rfl rfl)
theorem dX2_meanDistance_57 : decode cX2_meanDistance 57 = .ok (.iconst 1, 1) := dk_4 (dk_at dksX2_meanDistance_2 9 rfl rfl)
theorem dX2_meanDistance_58 : decode cX2_meanDistance 58 = .ok (.goto 4, 3) := dk_167 0 4 (dk_at dksX2_meanDistance_2 10 rfl rfl)
theorem dX2_meanDistance_61 : decode cX2_meanDistance 61 = .ok (.iconst 0, 1) := dk_3 (dk_at dksX2_meanDistance_2 13 rfl rfl)
theorem dX2_meanDistance_62 : decode cX2_meanDistance 62 = .ok (.invokestatic 86, 3) := dk_184 0 86 (dk_at dksX2_meanDistance_2 14 rfl rfl)
theorem dX2_meanDistance_65 : decode cX2_meanDistance 65 = .ok (.iadd, 1) := dk_96 (dk_at dksX2_meanDistance_2 17 rfl rfl)
theorem dX2_meanDistance_66 : decode cX2_meanDistance 66 = .ok (.istore_n 2, 1) := dk_61 (dk_at dksX2_meanDistance_2 18 rfl rfl)
theorem dX2_meanDistance_67 : decode cX2_meanDistance 67 = .ok (.iinc 3 1, 3) := dk_132 3 1 (dk_at dksX2_meanDistance_2 19 rfl rfl)
theorem dX2_meanDistance_70 : decode cX2_meanDistance 70 = .ok (.goto (-55), 3) := dk_167 255 201 (dk_at dksX2_meanDistance_3 0 rfl rfl)
theorem dX2_meanDistance_73 : decode cX2_meanDistance 73 = .ok (.iload_n 2, 1) := dk_28 (dk_at dksX2_meanDistance_3 3 rfl rfl)
theorem dX2_meanDistance_74 : decode cX2_meanDistance 74 = .ok (.ifCond .ne 7, 3) := dk_154 0 7 (dk_at dksX2_meanDistance_3 4 rfl rfl)
theorem dX2_meanDistance_77 : decode cX2_meanDistance 77 = .ok (.dconst 0, 1) := dk_14 (dk_at dksX2_meanDistance_3 7 rfl rfl)
theorem dX2_meanDistance_78 : decode cX2_meanDistance 78 = .ok (.goto 8, 3) := dk_167 0 8 (dk_at dksX2_meanDistance_3 8 rfl rfl)
theorem dX2_meanDistance_81 : decode cX2_meanDistance 81 = .ok (.iload_n 1, 1) := dk_27 (dk_at dksX2_meanDistance_3 11 rfl rfl)
theorem dX2_meanDistance_82 : decode cX2_meanDistance 82 = .ok (.i2d, 1) := dk_135 (dk_at dksX2_meanDistance_3 12 rfl rfl)
theorem dX2_meanDistance_83 : decode cX2_meanDistance 83 = .ok (.iload_n 2, 1) := dk_28 (dk_at dksX2_meanDistance_3 13 rfl rfl)
theorem dX2_meanDistance_84 : decode cX2_meanDistance 84 = .ok (.i2d, 1) := dk_135 (dk_at dksX2_meanDistance_3 14 rfl rfl)
theorem dX2_meanDistance_85 : decode cX2_meanDistance 85 = .ok (.ddiv, 1) := dk_111 (dk_at dksX2_meanDistance_3 15 rfl rfl)
theorem dX2_meanDistance_86 : decode cX2_meanDistance 86 = .ok (.dreturn, 1) := dk_175 (dk_at dksX2_meanDistance_3 16 rfl rfl)
abbrev cX2_writeLetter : ByteArray := prog_14_method_116_code
def yX2_writeLetter : MethodName := ⟨RX2, "writeLetter", "(I)I"⟩
def dkwX2_writeLetter_3 : List UInt8 := [160, 0, 12, 42, 16, 45, 182, 1, 107, 167, 0, 8, 42, 28, 182, 1, 110, 42, 180, 1, 104, 172]
abbrev dktX2_writeLetter_3 : List UInt8 := dkwX2_writeLetter_3 ++ []
def dkwX2_writeLetter_2 : List UInt8 := [182, 1, 107, 132, 2, 1, 167, 255, 220, 42, 16, 62, 182, 1, 107, 42, 27, 182, 0, 121, 61, 28, 2]
abbrev dktX2_writeLetter_2 : List UInt8 := dkwX2_writeLetter_2 ++ dktX2_writeLetter_3
def dkwX2_writeLetter_1 : List UInt8 := [27, 28, 182, 0, 74, 2, 160, 0, 8, 16, 63, 167, 0, 12, 16, 48, 42, 27, 28, 182, 0, 74, 96]
abbrev dktX2_writeLetter_1 : List UInt8 := dkwX2_writeLetter_1 ++ dktX2_writeLetter_2
def dkwX2_writeLetter_0 : List UInt8 := [42, 27, 182, 1, 43, 153, 0, 5, 3, 172, 42, 3, 181, 1, 104, 3, 61, 28, 8, 162, 0, 37, 42, 42]
abbrev dktX2_writeLetter_0 : List UInt8 := dkwX2_writeLetter_0 ++ dktX2_writeLetter_1
theorem dksX2_writeLetter_0 : cX2_writeLetter.data.toList.drop 0 = dktX2_writeLetter_0 := by decide +kernel
theorem dksX2_writeLetter_1 : cX2_writeLetter.data.toList.drop 24 = dktX2_writeLetter_1 := dk_seg dksX2_writeLetter_0 24 rfl rfl
theorem dksX2_writeLetter_2 : cX2_writeLetter.data.toList.drop 47 = dktX2_writeLetter_2 := dk_seg dksX2_writeLetter_1 23 rfl rfl
theorem dksX2_writeLetter_3 : cX2_writeLetter.data.toList.drop 70 = dktX2_writeLetter_3 := dk_seg dksX2_writeLetter_2 23 rfl rfl
theorem dX2_writeLetter_0 : decode cX2_writeLetter 0 = .ok (.aload_n 0, 1) := dk_42 (dk_at dksX2_writeLetter_0 0 rfl rfl)
theorem dX2_writeLetter_1 : decode cX2_writeLetter 1 = .ok (.iload_n 1, 1) := dk_27 (dk_at dksX2_writeLetter_0 1 rfl rfl)
theorem dX2_writeLetter_2 : decode cX2_writeLetter 2 = .ok (.invokevirtual 299, 3) := dk_182 1 43 (dk_at dksX2_writeLetter_0 2 rfl rfl)
theorem dX2_writeLetter_5 : decode cX2_writeLetter 5 = .ok (.ifCond .eq 5, 3) := dk_153 0 5 (dk_at dksX2_writeLetter_0 5 rfl rfl)
theorem dX2_writeLetter_8 : decode cX2_writeLetter 8 = .ok (.iconst 0, 1) := dk_3 (dk_at dksX2_writeLetter_0 8 rfl rfl)
theorem dX2_writeLetter_9 : decode cX2_writeLetter 9 = .ok (.ireturn, 1) := dk_172 (dk_at dksX2_writeLetter_0 9 rfl rfl)
theorem dX2_writeLetter_10 : decode cX2_writeLetter 10 = .ok (.aload_n 0, 1) := dk_42 (dk_at dksX2_writeLetter_0 10 rfl rfl)
theorem dX2_writeLetter_11 : decode cX2_writeLetter 11 = .ok (.iconst 0, 1) := dk_3 (dk_at dksX2_writeLetter_0 11 rfl rfl)
theorem dX2_writeLetter_12 : decode cX2_writeLetter 12 = .ok (.putfield 360, 3) := dk_181 1 104 (dk_at dksX2_writeLetter_0 12 rfl rfl)
theorem dX2_writeLetter_15 : decode cX2_writeLetter 15 = .ok (.iconst 0, 1) := dk_3 (dk_at dksX2_writeLetter_0 15 rfl rfl)
theorem dX2_writeLetter_16 : decode cX2_writeLetter 16 = .ok (.istore_n 2, 1) := dk_61 (dk_at dksX2_writeLetter_0 16 rfl rfl)
theorem dX2_writeLetter_17 : decode cX2_writeLetter 17 = .ok (.iload_n 2, 1) := dk_28 (dk_at dksX2_writeLetter_0 17 rfl rfl)
theorem dX2_writeLetter_18 : decode cX2_writeLetter 18 = .ok (.iconst 5, 1) := dk_8 (dk_at dksX2_writeLetter_0 18 rfl rfl)
theorem dX2_writeLetter_19 : decode cX2_writeLetter 19 = .ok (.if_icmp .ge 37, 3) := dk_162 0 37 (dk_at dksX2_writeLetter_0 19 rfl rfl)
theorem dX2_writeLetter_22 : decode cX2_writeLetter 22 = .ok (.aload_n 0, 1) := dk_42 (dk_at dksX2_writeLetter_0 22 rfl rfl)
theorem dX2_writeLetter_23 : decode cX2_writeLetter 23 = .ok (.aload_n 0, 1) := dk_42 (dk_at dksX2_writeLetter_0 23 rfl rfl)
theorem dX2_writeLetter_24 : decode cX2_writeLetter 24 = .ok (.iload_n 1, 1) := dk_27 (dk_at dksX2_writeLetter_1 0 rfl rfl)
theorem dX2_writeLetter_25 : decode cX2_writeLetter 25 = .ok (.iload_n 2, 1) := dk_28 (dk_at dksX2_writeLetter_1 1 rfl rfl)
theorem dX2_writeLetter_26 : decode cX2_writeLetter 26 = .ok (.invokevirtual 74, 3) := dk_182 0 74 (dk_at dksX2_writeLetter_1 2 rfl rfl)
theorem dX2_writeLetter_29 : decode cX2_writeLetter 29 = .ok (.iconst (-1), 1) := dk_2 (dk_at dksX2_writeLetter_1 5 rfl rfl)
theorem dX2_writeLetter_30 : decode cX2_writeLetter 30 = .ok (.if_icmp .ne 8, 3) := dk_160 0 8 (dk_at dksX2_writeLetter_1 6 rfl rfl)
theorem dX2_writeLetter_33 : decode cX2_writeLetter 33 = .ok (.bipush 63, 2) := dk_16 63 (dk_at dksX2_writeLetter_1 9 rfl rfl)
theorem dX2_writeLetter_35 : decode cX2_writeLetter 35 = .ok (.goto 12, 3) := dk_167 0 12 (dk_at dksX2_writeLetter_1 11 rfl rfl)
theorem dX2_writeLetter_38 : decode cX2_writeLetter 38 = .ok (.bipush 48, 2) := dk_16 48 (dk_at dksX2_writeLetter_1 14 rfl rfl)
theorem dX2_writeLetter_40 : decode cX2_writeLetter 40 = .ok (.aload_n 0, 1) := dk_42 (dk_at dksX2_writeLetter_1 16 rfl rfl)
theorem dX2_writeLetter_41 : decode cX2_writeLetter 41 = .ok (.iload_n 1, 1) := dk_27 (dk_at dksX2_writeLetter_1 17 rfl rfl)
theorem dX2_writeLetter_42 : decode cX2_writeLetter 42 = .ok (.iload_n 2, 1) := dk_28 (dk_at dksX2_writeLetter_1 18 rfl rfl)
theorem dX2_writeLetter_43 : decode cX2_writeLetter 43 = .ok (.invokevirtual 74, 3) := dk_182 0 74 (dk_at dksX2_writeLetter_1 19 rfl rfl)
theorem dX2_writeLetter_46 : decode cX2_writeLetter 46 = .ok (.iadd, 1) := dk_96 (dk_at dksX2_writeLetter_1 22 rfl rfl)
theorem dX2_writeLetter_47 : decode cX2_writeLetter 47 = .ok (.invokevirtual 363, 3) := dk_182 1 107 (dk_at dksX2_writeLetter_2 0 rfl rfl)
theorem dX2_writeLetter_50 : decode cX2_writeLetter 50 = .ok (.iinc 2 1, 3) := dk_132 2 1 (dk_at dksX2_writeLetter_2 3 rfl rfl)
theorem dX2_writeLetter_53 : decode cX2_writeLetter 53 = .ok (.goto (-36), 3) := dk_167 255 220 (dk_at dksX2_writeLetter_2 6 rfl rfl)
theorem dX2_writeLetter_56 : decode cX2_writeLetter 56 = .ok (.aload_n 0, 1) := dk_42 (dk_at dksX2_writeLetter_2 9 rfl rfl)
theorem dX2_writeLetter_57 : decode cX2_writeLetter 57 = .ok (.bipush 62, 2) := dk_16 62 (dk_at dksX2_writeLetter_2 10 rfl rfl)
theorem dX2_writeLetter_59 : decode cX2_writeLetter 59 = .ok (.invokevirtual 363, 3) := dk_182 1 107 (dk_at dksX2_writeLetter_2 12 rfl rfl)
theorem dX2_writeLetter_62 : decode cX2_writeLetter 62 = .ok (.aload_n 0, 1) := dk_42 (dk_at dksX2_writeLetter_2 15 rfl rfl)
theorem dX2_writeLetter_63 : decode cX2_writeLetter 63 = .ok (.iload_n 1, 1) := dk_27 (dk_at dksX2_writeLetter_2 16 rfl rfl)
theorem dX2_writeLetter_64 : decode cX2_writeLetter 64 = .ok (.invokevirtual 121, 3) := dk_182 0 121 (dk_at dksX2_writeLetter_2 17 rfl rfl)
theorem dX2_writeLetter_67 : decode cX2_writeLetter 67 = .ok (.istore_n 2, 1) := dk_61 (dk_at dksX2_writeLetter_2 20 rfl rfl)
theorem dX2_writeLetter_68 : decode cX2_writeLetter 68 = .ok (.iload_n 2, 1) := dk_28 (dk_at dksX2_writeLetter_2 21 rfl rfl)
theorem dX2_writeLetter_69 : decode cX2_writeLetter 69 = .ok (.iconst (-1), 1) := dk_2 (dk_at dksX2_writeLetter_2 22 rfl rfl)
theorem dX2_writeLetter_70 : decode cX2_writeLetter 70 = .ok (.if_icmp .ne 12, 3) := dk_160 0 12 (dk_at dksX2_writeLetter_3 0 rfl rfl)
theorem dX2_writeLetter_73 : decode cX2_writeLetter 73 = .ok (.aload_n 0, 1) := dk_42 (dk_at dksX2_writeLetter_3 3 rfl rfl)
theorem dX2_writeLetter_74 : decode cX2_writeLetter 74 = .ok (.bipush 45, 2) := dk_16 45 (dk_at dksX2_writeLetter_3 4 rfl rfl)
theorem dX2_writeLetter_76 : decode cX2_writeLetter 76 = .ok (.invokevirtual 363, 3) := dk_182 1 107 (dk_at dksX2_writeLetter_3 6 rfl rfl)
theorem dX2_writeLetter_79 : decode cX2_writeLetter 79 = .ok (.goto 8, 3) := dk_167 0 8 (dk_at dksX2_writeLetter_3 9 rfl rfl)
theorem dX2_writeLetter_82 : decode cX2_writeLetter 82 = .ok (.aload_n 0, 1) := dk_42 (dk_at dksX2_writeLetter_3 12 rfl rfl)
theorem dX2_writeLetter_83 : decode cX2_writeLetter 83 = .ok (.iload_n 2, 1) := dk_28 (dk_at dksX2_writeLetter_3 13 rfl rfl)
theorem dX2_writeLetter_84 : decode cX2_writeLetter 84 = .ok (.invokevirtual 366, 3) := dk_182 1 110 (dk_at dksX2_writeLetter_3 14 rfl rfl)
theorem dX2_writeLetter_87 : decode cX2_writeLetter 87 = .ok (.aload_n 0, 1) := dk_42 (dk_at dksX2_writeLetter_3 17 rfl rfl)
theorem dX2_writeLetter_88 : decode cX2_writeLetter 88 = .ok (.getfield 360, 3) := dk_180 1 104 (dk_at dksX2_writeLetter_3 18 rfl rfl)
theorem dX2_writeLetter_91 : decode cX2_writeLetter 91 = .ok (.ireturn, 1) := dk_172 (dk_at dksX2_writeLetter_3 21 rfl rfl)
abbrev cX2_says : ByteArray := prog_14_method_113_code
def yX2_says : MethodName := ⟨RX2, "says", "(I)V"⟩
def dkwX2_says_0 : List UInt8 := [42, 180, 0, 33, 42, 180, 1, 104, 27, 79, 42, 89, 180, 1, 104, 4, 96, 181, 1, 104, 177]
abbrev dktX2_says_0 : List UInt8 := dkwX2_says_0 ++ []
theorem dksX2_says_0 : cX2_says.data.toList.drop 0 = dktX2_says_0 := by decide +kernel
theorem dX2_says_0 : decode cX2_says 0 = .ok (.aload_n 0, 1) := dk_42 (dk_at dksX2_says_0 0 rfl rfl)
theorem dX2_says_1 : decode cX2_says 1 = .ok (.getfield 33, 3) := dk_180 0 33 (dk_at dksX2_says_0 1 rfl rfl)
theorem dX2_says_4 : decode cX2_says 4 = .ok (.aload_n 0, 1) := dk_42 (dk_at dksX2_says_0 4 rfl rfl)
theorem dX2_says_5 : decode cX2_says 5 = .ok (.getfield 360, 3) := dk_180 1 104 (dk_at dksX2_says_0 5 rfl rfl)
theorem dX2_says_8 : decode cX2_says 8 = .ok (.iload_n 1, 1) := dk_27 (dk_at dksX2_says_0 8 rfl rfl)
theorem dX2_says_9 : decode cX2_says 9 = .ok (.iastore, 1) := dk_79 (dk_at dksX2_says_0 9 rfl rfl)
theorem dX2_says_10 : decode cX2_says 10 = .ok (.aload_n 0, 1) := dk_42 (dk_at dksX2_says_0 10 rfl rfl)
theorem dX2_says_11 : decode cX2_says 11 = .ok (.dup, 1) := dk_89 (dk_at dksX2_says_0 11 rfl rfl)
theorem dX2_says_12 : decode cX2_says 12 = .ok (.getfield 360, 3) := dk_180 1 104 (dk_at dksX2_says_0 12 rfl rfl)
theorem dX2_says_15 : decode cX2_says 15 = .ok (.iconst 1, 1) := dk_4 (dk_at dksX2_says_0 15 rfl rfl)
theorem dX2_says_16 : decode cX2_says 16 = .ok (.iadd, 1) := dk_96 (dk_at dksX2_says_0 16 rfl rfl)
theorem dX2_says_17 : decode cX2_says 17 = .ok (.putfield 360, 3) := dk_181 1 104 (dk_at dksX2_says_0 17 rfl rfl)
theorem dX2_says_20 : decode cX2_says 20 = .ok (.return_, 1) := dk_177 (dk_at dksX2_says_0 20 rfl rfl)
abbrev cX2_saysCode : ByteArray := prog_14_method_115_code
def yX2_saysCode : MethodName := ⟨RX2, "saysCode", "(I)V"⟩
def dkwX2_saysCode_1 : List UInt8 := [132, 2, 1, 167, 255, 232, 177]
abbrev dktX2_saysCode_1 : List UInt8 := dkwX2_saysCode_1 ++ []
def dkwX2_saysCode_0 : List UInt8 := [3, 61, 28, 8, 162, 0, 25, 42, 16, 48, 42, 27, 182, 0, 80, 28, 184, 0, 58, 96, 182, 1, 107]
abbrev dktX2_saysCode_0 : List UInt8 := dkwX2_saysCode_0 ++ dktX2_saysCode_1
theorem dksX2_saysCode_0 : cX2_saysCode.data.toList.drop 0 = dktX2_saysCode_0 := by decide +kernel
theorem dksX2_saysCode_1 : cX2_saysCode.data.toList.drop 23 = dktX2_saysCode_1 := dk_seg dksX2_saysCode_0 23 rfl rfl
theorem dX2_saysCode_0 : decode cX2_saysCode 0 = .ok (.iconst 0, 1) := dk_3 (dk_at dksX2_saysCode_0 0 rfl rfl)
theorem dX2_saysCode_1 : decode cX2_saysCode 1 = .ok (.istore_n 2, 1) := dk_61 (dk_at dksX2_saysCode_0 1 rfl rfl)
theorem dX2_saysCode_2 : decode cX2_saysCode 2 = .ok (.iload_n 2, 1) := dk_28 (dk_at dksX2_saysCode_0 2 rfl rfl)
theorem dX2_saysCode_3 : decode cX2_saysCode 3 = .ok (.iconst 5, 1) := dk_8 (dk_at dksX2_saysCode_0 3 rfl rfl)
theorem dX2_saysCode_4 : decode cX2_saysCode 4 = .ok (.if_icmp .ge 25, 3) := dk_162 0 25 (dk_at dksX2_saysCode_0 4 rfl rfl)
theorem dX2_saysCode_7 : decode cX2_saysCode 7 = .ok (.aload_n 0, 1) := dk_42 (dk_at dksX2_saysCode_0 7 rfl rfl)
theorem dX2_saysCode_8 : decode cX2_saysCode 8 = .ok (.bipush 48, 2) := dk_16 48 (dk_at dksX2_saysCode_0 8 rfl rfl)
theorem dX2_saysCode_10 : decode cX2_saysCode 10 = .ok (.aload_n 0, 1) := dk_42 (dk_at dksX2_saysCode_0 10 rfl rfl)
theorem dX2_saysCode_11 : decode cX2_saysCode 11 = .ok (.iload_n 1, 1) := dk_27 (dk_at dksX2_saysCode_0 11 rfl rfl)
theorem dX2_saysCode_12 : decode cX2_saysCode 12 = .ok (.invokevirtual 80, 3) := dk_182 0 80 (dk_at dksX2_saysCode_0 12 rfl rfl)
theorem dX2_saysCode_15 : decode cX2_saysCode 15 = .ok (.iload_n 2, 1) := dk_28 (dk_at dksX2_saysCode_0 15 rfl rfl)
theorem dX2_saysCode_16 : decode cX2_saysCode 16 = .ok (.invokestatic 58, 3) := dk_184 0 58 (dk_at dksX2_saysCode_0 16 rfl rfl)
theorem dX2_saysCode_19 : decode cX2_saysCode 19 = .ok (.iadd, 1) := dk_96 (dk_at dksX2_saysCode_0 19 rfl rfl)
theorem dX2_saysCode_20 : decode cX2_saysCode 20 = .ok (.invokevirtual 363, 3) := dk_182 1 107 (dk_at dksX2_saysCode_0 20 rfl rfl)
theorem dX2_saysCode_23 : decode cX2_saysCode 23 = .ok (.iinc 2 1, 3) := dk_132 2 1 (dk_at dksX2_saysCode_1 0 rfl rfl)
theorem dX2_saysCode_26 : decode cX2_saysCode 26 = .ok (.goto (-24), 3) := dk_167 255 232 (dk_at dksX2_saysCode_1 3 rfl rfl)
theorem dX2_saysCode_29 : decode cX2_saysCode 29 = .ok (.return_, 1) := dk_177 (dk_at dksX2_saysCode_1 6 rfl rfl)
abbrev cX2_writeNear : ByteArray := prog_14_method_117_code
def yX2_writeNear : MethodName := ⟨RX2, "writeNear", "(I)I"⟩
def dkwX2_writeNear_3 : List UInt8 := [167, 255, 206, 42, 180, 1, 104, 154, 0, 9, 42, 16, 45, 182, 1, 107, 42, 180, 1, 104, 172]
abbrev dktX2_writeNear_3 : List UInt8 := dkwX2_writeNear_3 ++ []
def dkwX2_writeNear_2 : List UInt8 := [182, 1, 110, 42, 16, 58, 182, 1, 107, 42, 42, 27, 29, 182, 0, 94, 182, 1, 113, 132, 2, 1]
abbrev dktX2_writeNear_2 : List UInt8 := dkwX2_writeNear_2 ++ dktX2_writeNear_3
def dkwX2_writeNear_1 : List UInt8 := [162, 0, 47, 28, 158, 0, 9, 42, 16, 32, 182, 1, 107, 42, 27, 28, 182, 1, 51, 62, 42, 29]
abbrev dktX2_writeNear_1 : List UInt8 := dkwX2_writeNear_1 ++ dktX2_writeNear_2
def dkwX2_writeNear_0 : List UInt8 := [42, 27, 182, 1, 43, 153, 0, 5, 3, 172, 42, 3, 181, 1, 104, 3, 61, 28, 42, 27, 182, 0, 124]
abbrev dktX2_writeNear_0 : List UInt8 := dkwX2_writeNear_0 ++ dktX2_writeNear_1
theorem dksX2_writeNear_0 : cX2_writeNear.data.toList.drop 0 = dktX2_writeNear_0 := by decide +kernel
theorem dksX2_writeNear_1 : cX2_writeNear.data.toList.drop 23 = dktX2_writeNear_1 := dk_seg dksX2_writeNear_0 23 rfl rfl
theorem dksX2_writeNear_2 : cX2_writeNear.data.toList.drop 45 = dktX2_writeNear_2 := dk_seg dksX2_writeNear_1 22 rfl rfl
theorem dksX2_writeNear_3 : cX2_writeNear.data.toList.drop 67 = dktX2_writeNear_3 := dk_seg dksX2_writeNear_2 22 rfl rfl
theorem dX2_writeNear_0 : decode cX2_writeNear 0 = .ok (.aload_n 0, 1) := dk_42 (dk_at dksX2_writeNear_0 0 rfl rfl)
theorem dX2_writeNear_1 : decode cX2_writeNear 1 = .ok (.iload_n 1, 1) := dk_27 (dk_at dksX2_writeNear_0 1 rfl rfl)
theorem dX2_writeNear_2 : decode cX2_writeNear 2 = .ok (.invokevirtual 299, 3) := dk_182 1 43 (dk_at dksX2_writeNear_0 2 rfl rfl)
theorem dX2_writeNear_5 : decode cX2_writeNear 5 = .ok (.ifCond .eq 5, 3) := dk_153 0 5 (dk_at dksX2_writeNear_0 5 rfl rfl)
theorem dX2_writeNear_8 : decode cX2_writeNear 8 = .ok (.iconst 0, 1) := dk_3 (dk_at dksX2_writeNear_0 8 rfl rfl)
theorem dX2_writeNear_9 : decode cX2_writeNear 9 = .ok (.ireturn, 1) := dk_172 (dk_at dksX2_writeNear_0 9 rfl rfl)
theorem dX2_writeNear_10 : decode cX2_writeNear 10 = .ok (.aload_n 0, 1) := dk_42 (dk_at dksX2_writeNear_0 10 rfl rfl)
theorem dX2_writeNear_11 : decode cX2_writeNear 11 = .ok (.iconst 0, 1) := dk_3 (dk_at dksX2_writeNear_0 11 rfl rfl)
theorem dX2_writeNear_12 : decode cX2_writeNear 12 = .ok (.putfield 360, 3) := dk_181 1 104 (dk_at dksX2_writeNear_0 12 rfl rfl)
theorem dX2_writeNear_15 : decode cX2_writeNear 15 = .ok (.iconst 0, 1) := dk_3 (dk_at dksX2_writeNear_0 15 rfl rfl)
theorem dX2_writeNear_16 : decode cX2_writeNear 16 = .ok (.istore_n 2, 1) := dk_61 (dk_at dksX2_writeNear_0 16 rfl rfl)
theorem dX2_writeNear_17 : decode cX2_writeNear 17 = .ok (.iload_n 2, 1) := dk_28 (dk_at dksX2_writeNear_0 17 rfl rfl)
theorem dX2_writeNear_18 : decode cX2_writeNear 18 = .ok (.aload_n 0, 1) := dk_42 (dk_at dksX2_writeNear_0 18 rfl rfl)
theorem dX2_writeNear_19 : decode cX2_writeNear 19 = .ok (.iload_n 1, 1) := dk_27 (dk_at dksX2_writeNear_0 19 rfl rfl)
theorem dX2_writeNear_20 : decode cX2_writeNear 20 = .ok (.invokevirtual 124, 3) := dk_182 0 124 (dk_at dksX2_writeNear_0 20 rfl rfl)
theorem dX2_writeNear_23 : decode cX2_writeNear 23 = .ok (.if_icmp .ge 47, 3) := dk_162 0 47 (dk_at dksX2_writeNear_1 0 rfl rfl)
theorem dX2_writeNear_26 : decode cX2_writeNear 26 = .ok (.iload_n 2, 1) := dk_28 (dk_at dksX2_writeNear_1 3 rfl rfl)
theorem dX2_writeNear_27 : decode cX2_writeNear 27 = .ok (.ifCond .le 9, 3) := dk_158 0 9 (dk_at dksX2_writeNear_1 4 rfl rfl)
theorem dX2_writeNear_30 : decode cX2_writeNear 30 = .ok (.aload_n 0, 1) := dk_42 (dk_at dksX2_writeNear_1 7 rfl rfl)
theorem dX2_writeNear_31 : decode cX2_writeNear 31 = .ok (.bipush 32, 2) := dk_16 32 (dk_at dksX2_writeNear_1 8 rfl rfl)
theorem dX2_writeNear_33 : decode cX2_writeNear 33 = .ok (.invokevirtual 363, 3) := dk_182 1 107 (dk_at dksX2_writeNear_1 10 rfl rfl)
theorem dX2_writeNear_36 : decode cX2_writeNear 36 = .ok (.aload_n 0, 1) := dk_42 (dk_at dksX2_writeNear_1 13 rfl rfl)
theorem dX2_writeNear_37 : decode cX2_writeNear 37 = .ok (.iload_n 1, 1) := dk_27 (dk_at dksX2_writeNear_1 14 rfl rfl)
theorem dX2_writeNear_38 : decode cX2_writeNear 38 = .ok (.iload_n 2, 1) := dk_28 (dk_at dksX2_writeNear_1 15 rfl rfl)
theorem dX2_writeNear_39 : decode cX2_writeNear 39 = .ok (.invokevirtual 307, 3) := dk_182 1 51 (dk_at dksX2_writeNear_1 16 rfl rfl)
theorem dX2_writeNear_42 : decode cX2_writeNear 42 = .ok (.istore_n 3, 1) := dk_62 (dk_at dksX2_writeNear_1 19 rfl rfl)
theorem dX2_writeNear_43 : decode cX2_writeNear 43 = .ok (.aload_n 0, 1) := dk_42 (dk_at dksX2_writeNear_1 20 rfl rfl)
theorem dX2_writeNear_44 : decode cX2_writeNear 44 = .ok (.iload_n 3, 1) := dk_29 (dk_at dksX2_writeNear_1 21 rfl rfl)
theorem dX2_writeNear_45 : decode cX2_writeNear 45 = .ok (.invokevirtual 366, 3) := dk_182 1 110 (dk_at dksX2_writeNear_2 0 rfl rfl)
theorem dX2_writeNear_48 : decode cX2_writeNear 48 = .ok (.aload_n 0, 1) := dk_42 (dk_at dksX2_writeNear_2 3 rfl rfl)
theorem dX2_writeNear_49 : decode cX2_writeNear 49 = .ok (.bipush 58, 2) := dk_16 58 (dk_at dksX2_writeNear_2 4 rfl rfl)
theorem dX2_writeNear_51 : decode cX2_writeNear 51 = .ok (.invokevirtual 363, 3) := dk_182 1 107 (dk_at dksX2_writeNear_2 6 rfl rfl)
theorem dX2_writeNear_54 : decode cX2_writeNear 54 = .ok (.aload_n 0, 1) := dk_42 (dk_at dksX2_writeNear_2 9 rfl rfl)
theorem dX2_writeNear_55 : decode cX2_writeNear 55 = .ok (.aload_n 0, 1) := dk_42 (dk_at dksX2_writeNear_2 10 rfl rfl)
theorem dX2_writeNear_56 : decode cX2_writeNear 56 = .ok (.iload_n 1, 1) := dk_27 (dk_at dksX2_writeNear_2 11 rfl rfl)
theorem dX2_writeNear_57 : decode cX2_writeNear 57 = .ok (.iload_n 3, 1) := dk_29 (dk_at dksX2_writeNear_2 12 rfl rfl)
theorem dX2_writeNear_58 : decode cX2_writeNear 58 = .ok (.invokevirtual 94, 3) := dk_182 0 94 (dk_at dksX2_writeNear_2 13 rfl rfl)
theorem dX2_writeNear_61 : decode cX2_writeNear 61 = .ok (.invokevirtual 369, 3) := dk_182 1 113 (dk_at dksX2_writeNear_2 16 rfl rfl)
theorem dX2_writeNear_64 : decode cX2_writeNear 64 = .ok (.iinc 2 1, 3) := dk_132 2 1 (dk_at dksX2_writeNear_2 19 rfl rfl)
theorem dX2_writeNear_67 : decode cX2_writeNear 67 = .ok (.goto (-50), 3) := dk_167 255 206 (dk_at dksX2_writeNear_3 0 rfl rfl)
theorem dX2_writeNear_70 : decode cX2_writeNear 70 = .ok (.aload_n 0, 1) := dk_42 (dk_at dksX2_writeNear_3 3 rfl rfl)
theorem dX2_writeNear_71 : decode cX2_writeNear 71 = .ok (.getfield 360, 3) := dk_180 1 104 (dk_at dksX2_writeNear_3 4 rfl rfl)
theorem dX2_writeNear_74 : decode cX2_writeNear 74 = .ok (.ifCond .ne 9, 3) := dk_154 0 9 (dk_at dksX2_writeNear_3 7 rfl rfl)
theorem dX2_writeNear_77 : decode cX2_writeNear 77 = .ok (.aload_n 0, 1) := dk_42 (dk_at dksX2_writeNear_3 10 rfl rfl)
theorem dX2_writeNear_78 : decode cX2_writeNear 78 = .ok (.bipush 45, 2) := dk_16 45 (dk_at dksX2_writeNear_3 11 rfl rfl)
theorem dX2_writeNear_80 : decode cX2_writeNear 80 = .ok (.invokevirtual 363, 3) := dk_182 1 107 (dk_at dksX2_writeNear_3 13 rfl rfl)
theorem dX2_writeNear_83 : decode cX2_writeNear 83 = .ok (.aload_n 0, 1) := dk_42 (dk_at dksX2_writeNear_3 16 rfl rfl)
theorem dX2_writeNear_84 : decode cX2_writeNear 84 = .ok (.getfield 360, 3) := dk_180 1 104 (dk_at dksX2_writeNear_3 17 rfl rfl)
theorem dX2_writeNear_87 : decode cX2_writeNear 87 = .ok (.ireturn, 1) := dk_172 (dk_at dksX2_writeNear_3 20 rfl rfl)
abbrev cX2_saysNumber : ByteArray := prog_14_method_114_code
def yX2_saysNumber : MethodName := ⟨RX2, "saysNumber", "(I)V"⟩
def dkwX2_saysNumber_1 : List UInt8 := [96, 182, 1, 107, 177]
abbrev dktX2_saysNumber_1 : List UInt8 := dkwX2_saysNumber_1 ++ []
def dkwX2_saysNumber_0 : List UInt8 := [27, 16, 9, 164, 0, 14, 42, 16, 48, 27, 16, 10, 108, 96, 182, 1, 107, 42, 16, 48, 27, 16, 10, 112]
abbrev dktX2_saysNumber_0 : List UInt8 := dkwX2_saysNumber_0 ++ dktX2_saysNumber_1
theorem dksX2_saysNumber_0 : cX2_saysNumber.data.toList.drop 0 = dktX2_saysNumber_0 := by decide +kernel
theorem dksX2_saysNumber_1 : cX2_saysNumber.data.toList.drop 24 = dktX2_saysNumber_1 := dk_seg dksX2_saysNumber_0 24 rfl rfl
theorem dX2_saysNumber_0 : decode cX2_saysNumber 0 = .ok (.iload_n 1, 1) := dk_27 (dk_at dksX2_saysNumber_0 0 rfl rfl)
theorem dX2_saysNumber_1 : decode cX2_saysNumber 1 = .ok (.bipush 9, 2) := dk_16 9 (dk_at dksX2_saysNumber_0 1 rfl rfl)
theorem dX2_saysNumber_3 : decode cX2_saysNumber 3 = .ok (.if_icmp .le 14, 3) := dk_164 0 14 (dk_at dksX2_saysNumber_0 3 rfl rfl)
theorem dX2_saysNumber_6 : decode cX2_saysNumber 6 = .ok (.aload_n 0, 1) := dk_42 (dk_at dksX2_saysNumber_0 6 rfl rfl)
theorem dX2_saysNumber_7 : decode cX2_saysNumber 7 = .ok (.bipush 48, 2) := dk_16 48 (dk_at dksX2_saysNumber_0 7 rfl rfl)
theorem dX2_saysNumber_9 : decode cX2_saysNumber 9 = .ok (.iload_n 1, 1) := dk_27 (dk_at dksX2_saysNumber_0 9 rfl rfl)
theorem dX2_saysNumber_10 : decode cX2_saysNumber 10 = .ok (.bipush 10, 2) := dk_16 10 (dk_at dksX2_saysNumber_0 10 rfl rfl)
theorem dX2_saysNumber_12 : decode cX2_saysNumber 12 = .ok (.idiv, 1) := dk_108 (dk_at dksX2_saysNumber_0 12 rfl rfl)
theorem dX2_saysNumber_13 : decode cX2_saysNumber 13 = .ok (.iadd, 1) := dk_96 (dk_at dksX2_saysNumber_0 13 rfl rfl)
theorem dX2_saysNumber_14 : decode cX2_saysNumber 14 = .ok (.invokevirtual 363, 3) := dk_182 1 107 (dk_at dksX2_saysNumber_0 14 rfl rfl)
theorem dX2_saysNumber_17 : decode cX2_saysNumber 17 = .ok (.aload_n 0, 1) := dk_42 (dk_at dksX2_saysNumber_0 17 rfl rfl)
theorem dX2_saysNumber_18 : decode cX2_saysNumber 18 = .ok (.bipush 48, 2) := dk_16 48 (dk_at dksX2_saysNumber_0 18 rfl rfl)
theorem dX2_saysNumber_20 : decode cX2_saysNumber 20 = .ok (.iload_n 1, 1) := dk_27 (dk_at dksX2_saysNumber_0 20 rfl rfl)
theorem dX2_saysNumber_21 : decode cX2_saysNumber 21 = .ok (.bipush 10, 2) := dk_16 10 (dk_at dksX2_saysNumber_0 21 rfl rfl)
theorem dX2_saysNumber_23 : decode cX2_saysNumber 23 = .ok (.irem, 1) := dk_112 (dk_at dksX2_saysNumber_0 23 rfl rfl)
theorem dX2_saysNumber_24 : decode cX2_saysNumber 24 = .ok (.iadd, 1) := dk_96 (dk_at dksX2_saysNumber_1 0 rfl rfl)
theorem dX2_saysNumber_25 : decode cX2_saysNumber 25 = .ok (.invokevirtual 363, 3) := dk_182 1 107 (dk_at dksX2_saysNumber_1 1 rfl rfl)
theorem dX2_saysNumber_28 : decode cX2_saysNumber 28 = .ok (.return_, 1) := dk_177 (dk_at dksX2_saysNumber_1 4 rfl rfl)
abbrev cX2_writeBags : ByteArray := prog_14_method_118_code
def yX2_writeBags : MethodName := ⟨RX2, "writeBags", "()I"⟩
def dkwX2_writeBags_3 : List UInt8 := [27, 96, 46, 154, 0, 9, 42, 16, 120, 182, 1, 107, 132, 1, 1, 167, 255, 187, 42, 180, 1, 104, 172]
abbrev dktX2_writeBags_3 : List UInt8 := dkwX2_writeBags_3 ++ []
def dkwX2_writeBags_2 : List UInt8 := [16, 43, 182, 1, 107, 42, 42, 180, 0, 13, 16, 15, 27, 96, 46, 182, 1, 113, 42, 180, 0, 13, 16, 9]
abbrev dktX2_writeBags_2 : List UInt8 := dkwX2_writeBags_2 ++ dktX2_writeBags_3
def dkwX2_writeBags_1 : List UInt8 := [158, 0, 9, 42, 16, 32, 182, 1, 107, 42, 42, 180, 0, 13, 16, 21, 27, 96, 46, 182, 1, 113, 42]
abbrev dktX2_writeBags_1 : List UInt8 := dkwX2_writeBags_1 ++ dktX2_writeBags_2
def dkwX2_writeBags_0 : List UInt8 := [42, 182, 1, 4, 153, 0, 5, 3, 172, 42, 3, 181, 1, 104, 3, 60, 27, 16, 6, 162, 0, 69, 27]
abbrev dktX2_writeBags_0 : List UInt8 := dkwX2_writeBags_0 ++ dktX2_writeBags_1
theorem dksX2_writeBags_0 : cX2_writeBags.data.toList.drop 0 = dktX2_writeBags_0 := by decide +kernel
theorem dksX2_writeBags_1 : cX2_writeBags.data.toList.drop 23 = dktX2_writeBags_1 := dk_seg dksX2_writeBags_0 23 rfl rfl
theorem dksX2_writeBags_2 : cX2_writeBags.data.toList.drop 46 = dktX2_writeBags_2 := dk_seg dksX2_writeBags_1 23 rfl rfl
theorem dksX2_writeBags_3 : cX2_writeBags.data.toList.drop 70 = dktX2_writeBags_3 := dk_seg dksX2_writeBags_2 24 rfl rfl
theorem dX2_writeBags_0 : decode cX2_writeBags 0 = .ok (.aload_n 0, 1) := dk_42 (dk_at dksX2_writeBags_0 0 rfl rfl)
theorem dX2_writeBags_1 : decode cX2_writeBags 1 = .ok (.invokevirtual 260, 3) := dk_182 1 4 (dk_at dksX2_writeBags_0 1 rfl rfl)
theorem dX2_writeBags_4 : decode cX2_writeBags 4 = .ok (.ifCond .eq 5, 3) := dk_153 0 5 (dk_at dksX2_writeBags_0 4 rfl rfl)
theorem dX2_writeBags_7 : decode cX2_writeBags 7 = .ok (.iconst 0, 1) := dk_3 (dk_at dksX2_writeBags_0 7 rfl rfl)
theorem dX2_writeBags_8 : decode cX2_writeBags 8 = .ok (.ireturn, 1) := dk_172 (dk_at dksX2_writeBags_0 8 rfl rfl)
theorem dX2_writeBags_9 : decode cX2_writeBags 9 = .ok (.aload_n 0, 1) := dk_42 (dk_at dksX2_writeBags_0 9 rfl rfl)
theorem dX2_writeBags_10 : decode cX2_writeBags 10 = .ok (.iconst 0, 1) := dk_3 (dk_at dksX2_writeBags_0 10 rfl rfl)
theorem dX2_writeBags_11 : decode cX2_writeBags 11 = .ok (.putfield 360, 3) := dk_181 1 104 (dk_at dksX2_writeBags_0 11 rfl rfl)
theorem dX2_writeBags_14 : decode cX2_writeBags 14 = .ok (.iconst 0, 1) := dk_3 (dk_at dksX2_writeBags_0 14 rfl rfl)
theorem dX2_writeBags_15 : decode cX2_writeBags 15 = .ok (.istore_n 1, 1) := dk_60 (dk_at dksX2_writeBags_0 15 rfl rfl)
theorem dX2_writeBags_16 : decode cX2_writeBags 16 = .ok (.iload_n 1, 1) := dk_27 (dk_at dksX2_writeBags_0 16 rfl rfl)
theorem dX2_writeBags_17 : decode cX2_writeBags 17 = .ok (.bipush 6, 2) := dk_16 6 (dk_at dksX2_writeBags_0 17 rfl rfl)
theorem dX2_writeBags_19 : decode cX2_writeBags 19 = .ok (.if_icmp .ge 69, 3) := dk_162 0 69 (dk_at dksX2_writeBags_0 19 rfl rfl)
theorem dX2_writeBags_22 : decode cX2_writeBags 22 = .ok (.iload_n 1, 1) := dk_27 (dk_at dksX2_writeBags_0 22 rfl rfl)
theorem dX2_writeBags_23 : decode cX2_writeBags 23 = .ok (.ifCond .le 9, 3) := dk_158 0 9 (dk_at dksX2_writeBags_1 0 rfl rfl)
theorem dX2_writeBags_26 : decode cX2_writeBags 26 = .ok (.aload_n 0, 1) := dk_42 (dk_at dksX2_writeBags_1 3 rfl rfl)
theorem dX2_writeBags_27 : decode cX2_writeBags 27 = .ok (.bipush 32, 2) := dk_16 32 (dk_at dksX2_writeBags_1 4 rfl rfl)
theorem dX2_writeBags_29 : decode cX2_writeBags 29 = .ok (.invokevirtual 363, 3) := dk_182 1 107 (dk_at dksX2_writeBags_1 6 rfl rfl)
theorem dX2_writeBags_32 : decode cX2_writeBags 32 = .ok (.aload_n 0, 1) := dk_42 (dk_at dksX2_writeBags_1 9 rfl rfl)
theorem dX2_writeBags_33 : decode cX2_writeBags 33 = .ok (.aload_n 0, 1) := dk_42 (dk_at dksX2_writeBags_1 10 rfl rfl)
theorem dX2_writeBags_34 : decode cX2_writeBags 34 = .ok (.getfield 13, 3) := dk_180 0 13 (dk_at dksX2_writeBags_1 11 rfl rfl)
theorem dX2_writeBags_37 : decode cX2_writeBags 37 = .ok (.bipush 21, 2) := dk_16 21 (dk_at dksX2_writeBags_1 14 rfl rfl)
theorem dX2_writeBags_39 : decode cX2_writeBags 39 = .ok (.iload_n 1, 1) := dk_27 (dk_at dksX2_writeBags_1 16 rfl rfl)
theorem dX2_writeBags_40 : decode cX2_writeBags 40 = .ok (.iadd, 1) := dk_96 (dk_at dksX2_writeBags_1 17 rfl rfl)
theorem dX2_writeBags_41 : decode cX2_writeBags 41 = .ok (.iaload, 1) := dk_46 (dk_at dksX2_writeBags_1 18 rfl rfl)
theorem dX2_writeBags_42 : decode cX2_writeBags 42 = .ok (.invokevirtual 369, 3) := dk_182 1 113 (dk_at dksX2_writeBags_1 19 rfl rfl)
theorem dX2_writeBags_45 : decode cX2_writeBags 45 = .ok (.aload_n 0, 1) := dk_42 (dk_at dksX2_writeBags_1 22 rfl rfl)
theorem dX2_writeBags_46 : decode cX2_writeBags 46 = .ok (.bipush 43, 2) := dk_16 43 (dk_at dksX2_writeBags_2 0 rfl rfl)
theorem dX2_writeBags_48 : decode cX2_writeBags 48 = .ok (.invokevirtual 363, 3) := dk_182 1 107 (dk_at dksX2_writeBags_2 2 rfl rfl)
theorem dX2_writeBags_51 : decode cX2_writeBags 51 = .ok (.aload_n 0, 1) := dk_42 (dk_at dksX2_writeBags_2 5 rfl rfl)
theorem dX2_writeBags_52 : decode cX2_writeBags 52 = .ok (.aload_n 0, 1) := dk_42 (dk_at dksX2_writeBags_2 6 rfl rfl)
theorem dX2_writeBags_53 : decode cX2_writeBags 53 = .ok (.getfield 13, 3) := dk_180 0 13 (dk_at dksX2_writeBags_2 7 rfl rfl)
theorem dX2_writeBags_56 : decode cX2_writeBags 56 = .ok (.bipush 15, 2) := dk_16 15 (dk_at dksX2_writeBags_2 10 rfl rfl)
theorem dX2_writeBags_58 : decode cX2_writeBags 58 = .ok (.iload_n 1, 1) := dk_27 (dk_at dksX2_writeBags_2 12 rfl rfl)
theorem dX2_writeBags_59 : decode cX2_writeBags 59 = .ok (.iadd, 1) := dk_96 (dk_at dksX2_writeBags_2 13 rfl rfl)
theorem dX2_writeBags_60 : decode cX2_writeBags 60 = .ok (.iaload, 1) := dk_46 (dk_at dksX2_writeBags_2 14 rfl rfl)
theorem dX2_writeBags_61 : decode cX2_writeBags 61 = .ok (.invokevirtual 369, 3) := dk_182 1 113 (dk_at dksX2_writeBags_2 15 rfl rfl)
theorem dX2_writeBags_64 : decode cX2_writeBags 64 = .ok (.aload_n 0, 1) := dk_42 (dk_at dksX2_writeBags_2 18 rfl rfl)
theorem dX2_writeBags_65 : decode cX2_writeBags 65 = .ok (.getfield 13, 3) := dk_180 0 13 (dk_at dksX2_writeBags_2 19 rfl rfl)
theorem dX2_writeBags_68 : decode cX2_writeBags 68 = .ok (.bipush 9, 2) := dk_16 9 (dk_at dksX2_writeBags_2 22 rfl rfl)
theorem dX2_writeBags_70 : decode cX2_writeBags 70 = .ok (.iload_n 1, 1) := dk_27 (dk_at dksX2_writeBags_3 0 rfl rfl)
theorem dX2_writeBags_71 : decode cX2_writeBags 71 = .ok (.iadd, 1) := dk_96 (dk_at dksX2_writeBags_3 1 rfl rfl)
theorem dX2_writeBags_72 : decode cX2_writeBags 72 = .ok (.iaload, 1) := dk_46 (dk_at dksX2_writeBags_3 2 rfl rfl)
theorem dX2_writeBags_73 : decode cX2_writeBags 73 = .ok (.ifCond .ne 9, 3) := dk_154 0 9 (dk_at dksX2_writeBags_3 3 rfl rfl)
theorem dX2_writeBags_76 : decode cX2_writeBags 76 = .ok (.aload_n 0, 1) := dk_42 (dk_at dksX2_writeBags_3 6 rfl rfl)
theorem dX2_writeBags_77 : decode cX2_writeBags 77 = .ok (.bipush 120, 2) := dk_16 120 (dk_at dksX2_writeBags_3 7 rfl rfl)
theorem dX2_writeBags_79 : decode cX2_writeBags 79 = .ok (.invokevirtual 363, 3) := dk_182 1 107 (dk_at dksX2_writeBags_3 9 rfl rfl)
theorem dX2_writeBags_82 : decode cX2_writeBags 82 = .ok (.iinc 1 1, 3) := dk_132 1 1 (dk_at dksX2_writeBags_3 12 rfl rfl)
theorem dX2_writeBags_85 : decode cX2_writeBags 85 = .ok (.goto (-69), 3) := dk_167 255 187 (dk_at dksX2_writeBags_3 15 rfl rfl)
theorem dX2_writeBags_88 : decode cX2_writeBags 88 = .ok (.aload_n 0, 1) := dk_42 (dk_at dksX2_writeBags_3 18 rfl rfl)
theorem dX2_writeBags_89 : decode cX2_writeBags 89 = .ok (.getfield 360, 3) := dk_180 1 104 (dk_at dksX2_writeBags_3 19 rfl rfl)
theorem dX2_writeBags_92 : decode cX2_writeBags 92 = .ok (.ireturn, 1) := dk_172 (dk_at dksX2_writeBags_3 22 rfl rfl)
abbrev cX2_textByte : ByteArray := prog_14_method_119_code
def yX2_textByte : MethodName := ⟨RX2, "textByte", "(I)I"⟩
def dkwX2_textByte_1 : List UInt8 := [167, 0, 4, 3, 4, 182, 0, 43, 153, 0, 7, 3, 167, 0, 9, 42, 180, 0, 33, 27, 46, 172]
abbrev dktX2_textByte_1 : List UInt8 := dkwX2_textByte_1 ++ []
def dkwX2_textByte_0 : List UInt8 := [42, 3, 181, 0, 36, 42, 27, 133, 9, 42, 180, 1, 104, 4, 100, 133, 184, 0, 195, 154, 0, 7, 4]
abbrev dktX2_textByte_0 : List UInt8 := dkwX2_textByte_0 ++ dktX2_textByte_1
theorem dksX2_textByte_0 : cX2_textByte.data.toList.drop 0 = dktX2_textByte_0 := by decide +kernel
theorem dksX2_textByte_1 : cX2_textByte.data.toList.drop 23 = dktX2_textByte_1 := dk_seg dksX2_textByte_0 23 rfl rfl
theorem dX2_textByte_0 : decode cX2_textByte 0 = .ok (.aload_n 0, 1) := dk_42 (dk_at dksX2_textByte_0 0 rfl rfl)
theorem dX2_textByte_1 : decode cX2_textByte 1 = .ok (.iconst 0, 1) := dk_3 (dk_at dksX2_textByte_0 1 rfl rfl)
theorem dX2_textByte_2 : decode cX2_textByte 2 = .ok (.putfield 36, 3) := dk_181 0 36 (dk_at dksX2_textByte_0 2 rfl rfl)
theorem dX2_textByte_5 : decode cX2_textByte 5 = .ok (.aload_n 0, 1) := dk_42 (dk_at dksX2_textByte_0 5 rfl rfl)
theorem dX2_textByte_6 : decode cX2_textByte 6 = .ok (.iload_n 1, 1) := dk_27 (dk_at dksX2_textByte_0 6 rfl rfl)
theorem dX2_textByte_7 : decode cX2_textByte 7 = .ok (.i2l, 1) := dk_133 (dk_at dksX2_textByte_0 7 rfl rfl)
theorem dX2_textByte_8 : decode cX2_textByte 8 = .ok (.lconst 0, 1) := dk_9 (dk_at dksX2_textByte_0 8 rfl rfl)
theorem dX2_textByte_9 : decode cX2_textByte 9 = .ok (.aload_n 0, 1) := dk_42 (dk_at dksX2_textByte_0 9 rfl rfl)
theorem dX2_textByte_10 : decode cX2_textByte 10 = .ok (.getfield 360, 3) := dk_180 1 104 (dk_at dksX2_textByte_0 10 rfl rfl)
theorem dX2_textByte_13 : decode cX2_textByte 13 = .ok (.iconst 1, 1) := dk_4 (dk_at dksX2_textByte_0 13 rfl rfl)
theorem dX2_textByte_14 : decode cX2_textByte 14 = .ok (.isub, 1) := dk_100 (dk_at dksX2_textByte_0 14 rfl rfl)
theorem dX2_textByte_15 : decode cX2_textByte 15 = .ok (.i2l, 1) := dk_133 (dk_at dksX2_textByte_0 15 rfl rfl)
theorem dX2_textByte_16 : decode cX2_textByte 16 = .ok (.invokestatic 195, 3) := dk_184 0 195 (dk_at dksX2_textByte_0 16 rfl rfl)
theorem dX2_textByte_19 : decode cX2_textByte 19 = .ok (.ifCond .ne 7, 3) := dk_154 0 7 (dk_at dksX2_textByte_0 19 rfl rfl)
theorem dX2_textByte_22 : decode cX2_textByte 22 = .ok (.iconst 1, 1) := dk_4 (dk_at dksX2_textByte_0 22 rfl rfl)
theorem dX2_textByte_23 : decode cX2_textByte 23 = .ok (.goto 4, 3) := dk_167 0 4 (dk_at dksX2_textByte_1 0 rfl rfl)
theorem dX2_textByte_26 : decode cX2_textByte 26 = .ok (.iconst 0, 1) := dk_3 (dk_at dksX2_textByte_1 3 rfl rfl)
theorem dX2_textByte_27 : decode cX2_textByte 27 = .ok (.iconst 1, 1) := dk_4 (dk_at dksX2_textByte_1 4 rfl rfl)
theorem dX2_textByte_28 : decode cX2_textByte 28 = .ok (.invokevirtual 43, 3) := dk_182 0 43 (dk_at dksX2_textByte_1 5 rfl rfl)
theorem dX2_textByte_31 : decode cX2_textByte 31 = .ok (.ifCond .eq 7, 3) := dk_153 0 7 (dk_at dksX2_textByte_1 8 rfl rfl)
theorem dX2_textByte_34 : decode cX2_textByte 34 = .ok (.iconst 0, 1) := dk_3 (dk_at dksX2_textByte_1 11 rfl rfl)
theorem dX2_textByte_35 : decode cX2_textByte 35 = .ok (.goto 9, 3) := dk_167 0 9 (dk_at dksX2_textByte_1 12 rfl rfl)
theorem dX2_textByte_38 : decode cX2_textByte 38 = .ok (.aload_n 0, 1) := dk_42 (dk_at dksX2_textByte_1 15 rfl rfl)
theorem dX2_textByte_39 : decode cX2_textByte 39 = .ok (.getfield 33, 3) := dk_180 0 33 (dk_at dksX2_textByte_1 16 rfl rfl)
theorem dX2_textByte_42 : decode cX2_textByte 42 = .ok (.iload_n 1, 1) := dk_27 (dk_at dksX2_textByte_1 19 rfl rfl)
theorem dX2_textByte_43 : decode cX2_textByte 43 = .ok (.iaload, 1) := dk_46 (dk_at dksX2_textByte_1 20 rfl rfl)
theorem dX2_textByte_44 : decode cX2_textByte 44 = .ok (.ireturn, 1) := dk_172 (dk_at dksX2_textByte_1 21 rfl rfl)
abbrev cX2_sort : ByteArray := prog_14_method_122_code
def yX2_sort : MethodName := ⟨RX2, "sort", "(I)I"⟩
def dkwX2_sort_0 : List UInt8 := [42, 27, 182, 1, 116, 153, 0, 5, 3, 172, 42, 182, 1, 119, 42, 27, 182, 0, 137, 172]
abbrev dktX2_sort_0 : List UInt8 := dkwX2_sort_0 ++ []
theorem dksX2_sort_0 : cX2_sort.data.toList.drop 0 = dktX2_sort_0 := by decide +kernel
theorem dX2_sort_0 : decode cX2_sort 0 = .ok (.aload_n 0, 1) := dk_42 (dk_at dksX2_sort_0 0 rfl rfl)
theorem dX2_sort_1 : decode cX2_sort 1 = .ok (.iload_n 1, 1) := dk_27 (dk_at dksX2_sort_0 1 rfl rfl)
theorem dX2_sort_2 : decode cX2_sort 2 = .ok (.invokevirtual 372, 3) := dk_182 1 116 (dk_at dksX2_sort_0 2 rfl rfl)
theorem dX2_sort_5 : decode cX2_sort 5 = .ok (.ifCond .eq 5, 3) := dk_153 0 5 (dk_at dksX2_sort_0 5 rfl rfl)
theorem dX2_sort_8 : decode cX2_sort 8 = .ok (.iconst 0, 1) := dk_3 (dk_at dksX2_sort_0 8 rfl rfl)
theorem dX2_sort_9 : decode cX2_sort 9 = .ok (.ireturn, 1) := dk_172 (dk_at dksX2_sort_0 9 rfl rfl)
theorem dX2_sort_10 : decode cX2_sort 10 = .ok (.aload_n 0, 1) := dk_42 (dk_at dksX2_sort_0 10 rfl rfl)
theorem dX2_sort_11 : decode cX2_sort 11 = .ok (.invokevirtual 375, 3) := dk_182 1 119 (dk_at dksX2_sort_0 11 rfl rfl)
theorem dX2_sort_14 : decode cX2_sort 14 = .ok (.aload_n 0, 1) := dk_42 (dk_at dksX2_sort_0 14 rfl rfl)
theorem dX2_sort_15 : decode cX2_sort 15 = .ok (.iload_n 1, 1) := dk_27 (dk_at dksX2_sort_0 15 rfl rfl)
theorem dX2_sort_16 : decode cX2_sort 16 = .ok (.invokevirtual 137, 3) := dk_182 0 137 (dk_at dksX2_sort_0 16 rfl rfl)
theorem dX2_sort_19 : decode cX2_sort 19 = .ok (.ireturn, 1) := dk_172 (dk_at dksX2_sort_0 19 rfl rfl)
abbrev cX2_noWaiting : ByteArray := prog_14_method_121_code
def yX2_noWaiting : MethodName := ⟨RX2, "noWaiting", "(I)Z"⟩
def dkwX2_noWaiting_1 : List UInt8 := [6, 182, 0, 43, 153, 0, 7, 4, 167, 0, 4, 3, 172]
abbrev dktX2_noWaiting_1 : List UInt8 := dkwX2_noWaiting_1 ++ []
def dkwX2_noWaiting_0 : List UInt8 := [42, 27, 182, 1, 43, 154, 0, 26, 42, 42, 27, 16, 6, 182, 0, 74, 153, 0, 7, 4, 167, 0, 4, 3]
abbrev dktX2_noWaiting_0 : List UInt8 := dkwX2_noWaiting_0 ++ dktX2_noWaiting_1
theorem dksX2_noWaiting_0 : cX2_noWaiting.data.toList.drop 0 = dktX2_noWaiting_0 := by decide +kernel
theorem dksX2_noWaiting_1 : cX2_noWaiting.data.toList.drop 24 = dktX2_noWaiting_1 := dk_seg dksX2_noWaiting_0 24 rfl rfl
theorem dX2_noWaiting_0 : decode cX2_noWaiting 0 = .ok (.aload_n 0, 1) := dk_42 (dk_at dksX2_noWaiting_0 0 rfl rfl)
theorem dX2_noWaiting_1 : decode cX2_noWaiting 1 = .ok (.iload_n 1, 1) := dk_27 (dk_at dksX2_noWaiting_0 1 rfl rfl)
theorem dX2_noWaiting_2 : decode cX2_noWaiting 2 = .ok (.invokevirtual 299, 3) := dk_182 1 43 (dk_at dksX2_noWaiting_0 2 rfl rfl)
theorem dX2_noWaiting_5 : decode cX2_noWaiting 5 = .ok (.ifCond .ne 26, 3) := dk_154 0 26 (dk_at dksX2_noWaiting_0 5 rfl rfl)
theorem dX2_noWaiting_8 : decode cX2_noWaiting 8 = .ok (.aload_n 0, 1) := dk_42 (dk_at dksX2_noWaiting_0 8 rfl rfl)
theorem dX2_noWaiting_9 : decode cX2_noWaiting 9 = .ok (.aload_n 0, 1) := dk_42 (dk_at dksX2_noWaiting_0 9 rfl rfl)
theorem dX2_noWaiting_10 : decode cX2_noWaiting 10 = .ok (.iload_n 1, 1) := dk_27 (dk_at dksX2_noWaiting_0 10 rfl rfl)
theorem dX2_noWaiting_11 : decode cX2_noWaiting 11 = .ok (.bipush 6, 2) := dk_16 6 (dk_at dksX2_noWaiting_0 11 rfl rfl)
theorem dX2_noWaiting_13 : decode cX2_noWaiting 13 = .ok (.invokevirtual 74, 3) := dk_182 0 74 (dk_at dksX2_noWaiting_0 13 rfl rfl)
theorem dX2_noWaiting_16 : decode cX2_noWaiting 16 = .ok (.ifCond .eq 7, 3) := dk_153 0 7 (dk_at dksX2_noWaiting_0 16 rfl rfl)
theorem dX2_noWaiting_19 : decode cX2_noWaiting 19 = .ok (.iconst 1, 1) := dk_4 (dk_at dksX2_noWaiting_0 19 rfl rfl)
theorem dX2_noWaiting_20 : decode cX2_noWaiting 20 = .ok (.goto 4, 3) := dk_167 0 4 (dk_at dksX2_noWaiting_0 20 rfl rfl)
theorem dX2_noWaiting_23 : decode cX2_noWaiting 23 = .ok (.iconst 0, 1) := dk_3 (dk_at dksX2_noWaiting_0 23 rfl rfl)
theorem dX2_noWaiting_24 : decode cX2_noWaiting 24 = .ok (.iconst 3, 1) := dk_6 (dk_at dksX2_noWaiting_1 0 rfl rfl)
theorem dX2_noWaiting_25 : decode cX2_noWaiting 25 = .ok (.invokevirtual 43, 3) := dk_182 0 43 (dk_at dksX2_noWaiting_1 1 rfl rfl)
theorem dX2_noWaiting_28 : decode cX2_noWaiting 28 = .ok (.ifCond .eq 7, 3) := dk_153 0 7 (dk_at dksX2_noWaiting_1 4 rfl rfl)
theorem dX2_noWaiting_31 : decode cX2_noWaiting 31 = .ok (.iconst 1, 1) := dk_4 (dk_at dksX2_noWaiting_1 7 rfl rfl)
theorem dX2_noWaiting_32 : decode cX2_noWaiting 32 = .ok (.goto 4, 3) := dk_167 0 4 (dk_at dksX2_noWaiting_1 8 rfl rfl)
theorem dX2_noWaiting_35 : decode cX2_noWaiting 35 = .ok (.iconst 0, 1) := dk_3 (dk_at dksX2_noWaiting_1 11 rfl rfl)
theorem dX2_noWaiting_36 : decode cX2_noWaiting 36 = .ok (.ireturn, 1) := dk_172 (dk_at dksX2_noWaiting_1 12 rfl rfl)
abbrev cX2_keepsAll : ByteArray := prog_14_method_120_code
def yX2_keepsAll : MethodName := ⟨RX2, "keepsAll", "()V"⟩
def dkwX2_keepsAll_3 : List UInt8 := [184, 0, 47, 42, 89, 180, 1, 1, 4, 96, 181, 1, 1, 177]
abbrev dktX2_keepsAll_3 : List UInt8 := dkwX2_keepsAll_3 ++ []
def dkwX2_keepsAll_2 : List UInt8 := [181, 1, 1, 42, 180, 0, 13, 3, 42, 180, 0, 16, 17, 1, 17, 3, 42, 180, 1, 1, 96, 104]
abbrev dktX2_keepsAll_2 : List UInt8 := dkwX2_keepsAll_2 ++ dktX2_keepsAll_3
def dkwX2_keepsAll_1 : List UInt8 := [180, 0, 16, 27, 17, 1, 17, 96, 46, 79, 132, 1, 1, 167, 255, 230, 42, 89, 180, 1, 1, 4, 100]
abbrev dktX2_keepsAll_1 : List UInt8 := dkwX2_keepsAll_1 ++ dktX2_keepsAll_2
def dkwX2_keepsAll_0 : List UInt8 := [42, 180, 1, 1, 16, 8, 160, 0, 44, 3, 60, 27, 17, 7, 119, 162, 0, 25, 42, 180, 0, 16, 27, 42]
abbrev dktX2_keepsAll_0 : List UInt8 := dkwX2_keepsAll_0 ++ dktX2_keepsAll_1
theorem dksX2_keepsAll_0 : cX2_keepsAll.data.toList.drop 0 = dktX2_keepsAll_0 := by decide +kernel
theorem dksX2_keepsAll_1 : cX2_keepsAll.data.toList.drop 24 = dktX2_keepsAll_1 := dk_seg dksX2_keepsAll_0 24 rfl rfl
theorem dksX2_keepsAll_2 : cX2_keepsAll.data.toList.drop 47 = dktX2_keepsAll_2 := dk_seg dksX2_keepsAll_1 23 rfl rfl
theorem dksX2_keepsAll_3 : cX2_keepsAll.data.toList.drop 69 = dktX2_keepsAll_3 := dk_seg dksX2_keepsAll_2 22 rfl rfl
theorem dX2_keepsAll_0 : decode cX2_keepsAll 0 = .ok (.aload_n 0, 1) := dk_42 (dk_at dksX2_keepsAll_0 0 rfl rfl)
theorem dX2_keepsAll_1 : decode cX2_keepsAll 1 = .ok (.getfield 257, 3) := dk_180 1 1 (dk_at dksX2_keepsAll_0 1 rfl rfl)
theorem dX2_keepsAll_4 : decode cX2_keepsAll 4 = .ok (.bipush 8, 2) := dk_16 8 (dk_at dksX2_keepsAll_0 4 rfl rfl)
theorem dX2_keepsAll_6 : decode cX2_keepsAll 6 = .ok (.if_icmp .ne 44, 3) := dk_160 0 44 (dk_at dksX2_keepsAll_0 6 rfl rfl)
theorem dX2_keepsAll_9 : decode cX2_keepsAll 9 = .ok (.iconst 0, 1) := dk_3 (dk_at dksX2_keepsAll_0 9 rfl rfl)
theorem dX2_keepsAll_10 : decode cX2_keepsAll 10 = .ok (.istore_n 1, 1) := dk_60 (dk_at dksX2_keepsAll_0 10 rfl rfl)
theorem dX2_keepsAll_11 : decode cX2_keepsAll 11 = .ok (.iload_n 1, 1) := dk_27 (dk_at dksX2_keepsAll_0 11 rfl rfl)
theorem dX2_keepsAll_12 : decode cX2_keepsAll 12 = .ok (.sipush 1911, 3) := dk_17 7 119 (dk_at dksX2_keepsAll_0 12 rfl rfl)
theorem dX2_keepsAll_15 : decode cX2_keepsAll 15 = .ok (.if_icmp .ge 25, 3) := dk_162 0 25 (dk_at dksX2_keepsAll_0 15 rfl rfl)
theorem dX2_keepsAll_18 : decode cX2_keepsAll 18 = .ok (.aload_n 0, 1) := dk_42 (dk_at dksX2_keepsAll_0 18 rfl rfl)
theorem dX2_keepsAll_19 : decode cX2_keepsAll 19 = .ok (.getfield 16, 3) := dk_180 0 16 (dk_at dksX2_keepsAll_0 19 rfl rfl)
theorem dX2_keepsAll_22 : decode cX2_keepsAll 22 = .ok (.iload_n 1, 1) := dk_27 (dk_at dksX2_keepsAll_0 22 rfl rfl)
theorem dX2_keepsAll_23 : decode cX2_keepsAll 23 = .ok (.aload_n 0, 1) := dk_42 (dk_at dksX2_keepsAll_0 23 rfl rfl)
theorem dX2_keepsAll_24 : decode cX2_keepsAll 24 = .ok (.getfield 16, 3) := dk_180 0 16 (dk_at dksX2_keepsAll_1 0 rfl rfl)
theorem dX2_keepsAll_27 : decode cX2_keepsAll 27 = .ok (.iload_n 1, 1) := dk_27 (dk_at dksX2_keepsAll_1 3 rfl rfl)
theorem dX2_keepsAll_28 : decode cX2_keepsAll 28 = .ok (.sipush 273, 3) := dk_17 1 17 (dk_at dksX2_keepsAll_1 4 rfl rfl)
theorem dX2_keepsAll_31 : decode cX2_keepsAll 31 = .ok (.iadd, 1) := dk_96 (dk_at dksX2_keepsAll_1 7 rfl rfl)
theorem dX2_keepsAll_32 : decode cX2_keepsAll 32 = .ok (.iaload, 1) := dk_46 (dk_at dksX2_keepsAll_1 8 rfl rfl)
theorem dX2_keepsAll_33 : decode cX2_keepsAll 33 = .ok (.iastore, 1) := dk_79 (dk_at dksX2_keepsAll_1 9 rfl rfl)
theorem dX2_keepsAll_34 : decode cX2_keepsAll 34 = .ok (.iinc 1 1, 3) := dk_132 1 1 (dk_at dksX2_keepsAll_1 10 rfl rfl)
theorem dX2_keepsAll_37 : decode cX2_keepsAll 37 = .ok (.goto (-26), 3) := dk_167 255 230 (dk_at dksX2_keepsAll_1 13 rfl rfl)
theorem dX2_keepsAll_40 : decode cX2_keepsAll 40 = .ok (.aload_n 0, 1) := dk_42 (dk_at dksX2_keepsAll_1 16 rfl rfl)
theorem dX2_keepsAll_41 : decode cX2_keepsAll 41 = .ok (.dup, 1) := dk_89 (dk_at dksX2_keepsAll_1 17 rfl rfl)
theorem dX2_keepsAll_42 : decode cX2_keepsAll 42 = .ok (.getfield 257, 3) := dk_180 1 1 (dk_at dksX2_keepsAll_1 18 rfl rfl)
theorem dX2_keepsAll_45 : decode cX2_keepsAll 45 = .ok (.iconst 1, 1) := dk_4 (dk_at dksX2_keepsAll_1 21 rfl rfl)
theorem dX2_keepsAll_46 : decode cX2_keepsAll 46 = .ok (.isub, 1) := dk_100 (dk_at dksX2_keepsAll_1 22 rfl rfl)
theorem dX2_keepsAll_47 : decode cX2_keepsAll 47 = .ok (.putfield 257, 3) := dk_181 1 1 (dk_at dksX2_keepsAll_2 0 rfl rfl)
theorem dX2_keepsAll_50 : decode cX2_keepsAll 50 = .ok (.aload_n 0, 1) := dk_42 (dk_at dksX2_keepsAll_2 3 rfl rfl)
theorem dX2_keepsAll_51 : decode cX2_keepsAll 51 = .ok (.getfield 13, 3) := dk_180 0 13 (dk_at dksX2_keepsAll_2 4 rfl rfl)
theorem dX2_keepsAll_54 : decode cX2_keepsAll 54 = .ok (.iconst 0, 1) := dk_3 (dk_at dksX2_keepsAll_2 7 rfl rfl)
theorem dX2_keepsAll_55 : decode cX2_keepsAll 55 = .ok (.aload_n 0, 1) := dk_42 (dk_at dksX2_keepsAll_2 8 rfl rfl)
theorem dX2_keepsAll_56 : decode cX2_keepsAll 56 = .ok (.getfield 16, 3) := dk_180 0 16 (dk_at dksX2_keepsAll_2 9 rfl rfl)
theorem dX2_keepsAll_59 : decode cX2_keepsAll 59 = .ok (.sipush 273, 3) := dk_17 1 17 (dk_at dksX2_keepsAll_2 12 rfl rfl)
theorem dX2_keepsAll_62 : decode cX2_keepsAll 62 = .ok (.iconst 0, 1) := dk_3 (dk_at dksX2_keepsAll_2 15 rfl rfl)
theorem dX2_keepsAll_63 : decode cX2_keepsAll 63 = .ok (.aload_n 0, 1) := dk_42 (dk_at dksX2_keepsAll_2 16 rfl rfl)
theorem dX2_keepsAll_64 : decode cX2_keepsAll 64 = .ok (.getfield 257, 3) := dk_180 1 1 (dk_at dksX2_keepsAll_2 17 rfl rfl)
theorem dX2_keepsAll_67 : decode cX2_keepsAll 67 = .ok (.iadd, 1) := dk_96 (dk_at dksX2_keepsAll_2 20 rfl rfl)
theorem dX2_keepsAll_68 : decode cX2_keepsAll 68 = .ok (.imul, 1) := dk_104 (dk_at dksX2_keepsAll_2 21 rfl rfl)
theorem dX2_keepsAll_69 : decode cX2_keepsAll 69 = .ok (.invokestatic 47, 3) := dk_184 0 47 (dk_at dksX2_keepsAll_3 0 rfl rfl)
theorem dX2_keepsAll_72 : decode cX2_keepsAll 72 = .ok (.aload_n 0, 1) := dk_42 (dk_at dksX2_keepsAll_3 3 rfl rfl)
theorem dX2_keepsAll_73 : decode cX2_keepsAll 73 = .ok (.dup, 1) := dk_89 (dk_at dksX2_keepsAll_3 4 rfl rfl)
theorem dX2_keepsAll_74 : decode cX2_keepsAll 74 = .ok (.getfield 257, 3) := dk_180 1 1 (dk_at dksX2_keepsAll_3 5 rfl rfl)
theorem dX2_keepsAll_77 : decode cX2_keepsAll 77 = .ok (.iconst 1, 1) := dk_4 (dk_at dksX2_keepsAll_3 8 rfl rfl)
theorem dX2_keepsAll_78 : decode cX2_keepsAll 78 = .ok (.iadd, 1) := dk_96 (dk_at dksX2_keepsAll_3 9 rfl rfl)
theorem dX2_keepsAll_79 : decode cX2_keepsAll 79 = .ok (.putfield 257, 3) := dk_181 1 1 (dk_at dksX2_keepsAll_3 10 rfl rfl)
theorem dX2_keepsAll_82 : decode cX2_keepsAll 82 = .ok (.return_, 1) := dk_177 (dk_at dksX2_keepsAll_3 13 rfl rfl)
abbrev cX2_sortAll : ByteArray := prog_14_method_123_code
def yX2_sortAll : MethodName := ⟨RX2, "sortAll", "()I"⟩
def dkwX2_sortAll_0 : List UInt8 := [42, 182, 1, 4, 153, 0, 5, 3, 172, 42, 182, 1, 119, 42, 182, 0, 240, 172]
abbrev dktX2_sortAll_0 : List UInt8 := dkwX2_sortAll_0 ++ []
theorem dksX2_sortAll_0 : cX2_sortAll.data.toList.drop 0 = dktX2_sortAll_0 := by decide +kernel
theorem dX2_sortAll_0 : decode cX2_sortAll 0 = .ok (.aload_n 0, 1) := dk_42 (dk_at dksX2_sortAll_0 0 rfl rfl)
theorem dX2_sortAll_1 : decode cX2_sortAll 1 = .ok (.invokevirtual 260, 3) := dk_182 1 4 (dk_at dksX2_sortAll_0 1 rfl rfl)
theorem dX2_sortAll_4 : decode cX2_sortAll 4 = .ok (.ifCond .eq 5, 3) := dk_153 0 5 (dk_at dksX2_sortAll_0 4 rfl rfl)
theorem dX2_sortAll_7 : decode cX2_sortAll 7 = .ok (.iconst 0, 1) := dk_3 (dk_at dksX2_sortAll_0 7 rfl rfl)
theorem dX2_sortAll_8 : decode cX2_sortAll 8 = .ok (.ireturn, 1) := dk_172 (dk_at dksX2_sortAll_0 8 rfl rfl)
theorem dX2_sortAll_9 : decode cX2_sortAll 9 = .ok (.aload_n 0, 1) := dk_42 (dk_at dksX2_sortAll_0 9 rfl rfl)
theorem dX2_sortAll_10 : decode cX2_sortAll 10 = .ok (.invokevirtual 375, 3) := dk_182 1 119 (dk_at dksX2_sortAll_0 10 rfl rfl)
theorem dX2_sortAll_13 : decode cX2_sortAll 13 = .ok (.aload_n 0, 1) := dk_42 (dk_at dksX2_sortAll_0 13 rfl rfl)
theorem dX2_sortAll_14 : decode cX2_sortAll 14 = .ok (.invokevirtual 240, 3) := dk_182 0 240 (dk_at dksX2_sortAll_0 14 rfl rfl)
theorem dX2_sortAll_17 : decode cX2_sortAll 17 = .ok (.ireturn, 1) := dk_172 (dk_at dksX2_sortAll_0 17 rfl rfl)
abbrev cX2_again : ByteArray := prog_14_method_124_code
def yX2_again : MethodName := ⟨RX2, "again", "(III)I"⟩
def dkwX2_again_4 : List UInt8 := [92, 46, 4, 96, 79, 42, 27, 16, 7, 182, 0, 74, 172]
abbrev dktX2_again_4 : List UInt8 := dkwX2_again_4 ++ []
def dkwX2_again_3 : List UInt8 := [182, 0, 133, 42, 27, 16, 6, 3, 182, 0, 133, 42, 27, 16, 8, 3, 182, 0, 133, 42, 180, 0, 13, 4]
abbrev dktX2_again_3 : List UInt8 := dkwX2_again_3 ++ dktX2_again_4
def dkwX2_again_2 : List UInt8 := [182, 1, 119, 42, 27, 28, 29, 182, 0, 133, 42, 27, 16, 7, 42, 27, 16, 7, 182, 0, 74, 4, 96]
abbrev dktX2_again_2 : List UInt8 := dkwX2_again_2 ++ dktX2_again_3
def dkwX2_again_1 : List UInt8 := [42, 27, 182, 1, 54, 153, 0, 7, 4, 167, 0, 4, 3, 6, 182, 0, 43, 153, 0, 5, 3, 172, 42]
abbrev dktX2_again_1 : List UInt8 := dkwX2_again_1 ++ dktX2_again_2
def dkwX2_again_0 : List UInt8 := [42, 27, 28, 182, 1, 48, 154, 0, 38, 42, 29, 133, 20, 1, 85, 20, 1, 87, 184, 0, 195, 153, 0, 11]
abbrev dktX2_again_0 : List UInt8 := dkwX2_again_0 ++ dktX2_again_1
theorem dksX2_again_0 : cX2_again.data.toList.drop 0 = dktX2_again_0 := by decide +kernel
theorem dksX2_again_1 : cX2_again.data.toList.drop 24 = dktX2_again_1 := dk_seg dksX2_again_0 24 rfl rfl
theorem dksX2_again_2 : cX2_again.data.toList.drop 47 = dktX2_again_2 := dk_seg dksX2_again_1 23 rfl rfl
theorem dksX2_again_3 : cX2_again.data.toList.drop 70 = dktX2_again_3 := dk_seg dksX2_again_2 23 rfl rfl
theorem dksX2_again_4 : cX2_again.data.toList.drop 94 = dktX2_again_4 := dk_seg dksX2_again_3 24 rfl rfl
theorem dX2_again_0 : decode cX2_again 0 = .ok (.aload_n 0, 1) := dk_42 (dk_at dksX2_again_0 0 rfl rfl)
theorem dX2_again_1 : decode cX2_again 1 = .ok (.iload_n 1, 1) := dk_27 (dk_at dksX2_again_0 1 rfl rfl)
theorem dX2_again_2 : decode cX2_again 2 = .ok (.iload_n 2, 1) := dk_28 (dk_at dksX2_again_0 2 rfl rfl)
theorem dX2_again_3 : decode cX2_again 3 = .ok (.invokevirtual 304, 3) := dk_182 1 48 (dk_at dksX2_again_0 3 rfl rfl)
theorem dX2_again_6 : decode cX2_again 6 = .ok (.ifCond .ne 38, 3) := dk_154 0 38 (dk_at dksX2_again_0 6 rfl rfl)
theorem dX2_again_9 : decode cX2_again 9 = .ok (.aload_n 0, 1) := dk_42 (dk_at dksX2_again_0 9 rfl rfl)
theorem dX2_again_10 : decode cX2_again 10 = .ok (.iload_n 3, 1) := dk_29 (dk_at dksX2_again_0 10 rfl rfl)
theorem dX2_again_11 : decode cX2_again 11 = .ok (.i2l, 1) := dk_133 (dk_at dksX2_again_0 11 rfl rfl)
theorem dX2_again_12 : decode cX2_again 12 = .ok (.ldc2_w 341, 3) := dk_20 1 85 (dk_at dksX2_again_0 12 rfl rfl)
theorem dX2_again_15 : decode cX2_again 15 = .ok (.ldc2_w 343, 3) := dk_20 1 87 (dk_at dksX2_again_0 15 rfl rfl)
theorem dX2_again_18 : decode cX2_again 18 = .ok (.invokestatic 195, 3) := dk_184 0 195 (dk_at dksX2_again_0 18 rfl rfl)
theorem dX2_again_21 : decode cX2_again 21 = .ok (.ifCond .eq 11, 3) := dk_153 0 11 (dk_at dksX2_again_0 21 rfl rfl)
theorem dX2_again_24 : decode cX2_again 24 = .ok (.aload_n 0, 1) := dk_42 (dk_at dksX2_again_1 0 rfl rfl)
theorem dX2_again_25 : decode cX2_again 25 = .ok (.iload_n 1, 1) := dk_27 (dk_at dksX2_again_1 1 rfl rfl)
theorem dX2_again_26 : decode cX2_again 26 = .ok (.invokevirtual 310, 3) := dk_182 1 54 (dk_at dksX2_again_1 2 rfl rfl)
theorem dX2_again_29 : decode cX2_again 29 = .ok (.ifCond .eq 7, 3) := dk_153 0 7 (dk_at dksX2_again_1 5 rfl rfl)
theorem dX2_again_32 : decode cX2_again 32 = .ok (.iconst 1, 1) := dk_4 (dk_at dksX2_again_1 8 rfl rfl)
theorem dX2_again_33 : decode cX2_again 33 = .ok (.goto 4, 3) := dk_167 0 4 (dk_at dksX2_again_1 9 rfl rfl)
theorem dX2_again_36 : decode cX2_again 36 = .ok (.iconst 0, 1) := dk_3 (dk_at dksX2_again_1 12 rfl rfl)
theorem dX2_again_37 : decode cX2_again 37 = .ok (.iconst 3, 1) := dk_6 (dk_at dksX2_again_1 13 rfl rfl)
theorem dX2_again_38 : decode cX2_again 38 = .ok (.invokevirtual 43, 3) := dk_182 0 43 (dk_at dksX2_again_1 14 rfl rfl)
theorem dX2_again_41 : decode cX2_again 41 = .ok (.ifCond .eq 5, 3) := dk_153 0 5 (dk_at dksX2_again_1 17 rfl rfl)
theorem dX2_again_44 : decode cX2_again 44 = .ok (.iconst 0, 1) := dk_3 (dk_at dksX2_again_1 20 rfl rfl)
theorem dX2_again_45 : decode cX2_again 45 = .ok (.ireturn, 1) := dk_172 (dk_at dksX2_again_1 21 rfl rfl)
theorem dX2_again_46 : decode cX2_again 46 = .ok (.aload_n 0, 1) := dk_42 (dk_at dksX2_again_1 22 rfl rfl)
theorem dX2_again_47 : decode cX2_again 47 = .ok (.invokevirtual 375, 3) := dk_182 1 119 (dk_at dksX2_again_2 0 rfl rfl)
theorem dX2_again_50 : decode cX2_again 50 = .ok (.aload_n 0, 1) := dk_42 (dk_at dksX2_again_2 3 rfl rfl)
theorem dX2_again_51 : decode cX2_again 51 = .ok (.iload_n 1, 1) := dk_27 (dk_at dksX2_again_2 4 rfl rfl)
theorem dX2_again_52 : decode cX2_again 52 = .ok (.iload_n 2, 1) := dk_28 (dk_at dksX2_again_2 5 rfl rfl)
theorem dX2_again_53 : decode cX2_again 53 = .ok (.iload_n 3, 1) := dk_29 (dk_at dksX2_again_2 6 rfl rfl)
theorem dX2_again_54 : decode cX2_again 54 = .ok (.invokevirtual 133, 3) := dk_182 0 133 (dk_at dksX2_again_2 7 rfl rfl)
theorem dX2_again_57 : decode cX2_again 57 = .ok (.aload_n 0, 1) := dk_42 (dk_at dksX2_again_2 10 rfl rfl)
theorem dX2_again_58 : decode cX2_again 58 = .ok (.iload_n 1, 1) := dk_27 (dk_at dksX2_again_2 11 rfl rfl)
theorem dX2_again_59 : decode cX2_again 59 = .ok (.bipush 7, 2) := dk_16 7 (dk_at dksX2_again_2 12 rfl rfl)
theorem dX2_again_61 : decode cX2_again 61 = .ok (.aload_n 0, 1) := dk_42 (dk_at dksX2_again_2 14 rfl rfl)
theorem dX2_again_62 : decode cX2_again 62 = .ok (.iload_n 1, 1) := dk_27 (dk_at dksX2_again_2 15 rfl rfl)
theorem dX2_again_63 : decode cX2_again 63 = .ok (.bipush 7, 2) := dk_16 7 (dk_at dksX2_again_2 16 rfl rfl)
theorem dX2_again_65 : decode cX2_again 65 = .ok (.invokevirtual 74, 3) := dk_182 0 74 (dk_at dksX2_again_2 18 rfl rfl)
theorem dX2_again_68 : decode cX2_again 68 = .ok (.iconst 1, 1) := dk_4 (dk_at dksX2_again_2 21 rfl rfl)
theorem dX2_again_69 : decode cX2_again 69 = .ok (.iadd, 1) := dk_96 (dk_at dksX2_again_2 22 rfl rfl)
theorem dX2_again_70 : decode cX2_again 70 = .ok (.invokevirtual 133, 3) := dk_182 0 133 (dk_at dksX2_again_3 0 rfl rfl)
theorem dX2_again_73 : decode cX2_again 73 = .ok (.aload_n 0, 1) := dk_42 (dk_at dksX2_again_3 3 rfl rfl)
theorem dX2_again_74 : decode cX2_again 74 = .ok (.iload_n 1, 1) := dk_27 (dk_at dksX2_again_3 4 rfl rfl)
theorem dX2_again_75 : decode cX2_again 75 = .ok (.bipush 6, 2) := dk_16 6 (dk_at dksX2_again_3 5 rfl rfl)
theorem dX2_again_77 : decode cX2_again 77 = .ok (.iconst 0, 1) := dk_3 (dk_at dksX2_again_3 7 rfl rfl)
theorem dX2_again_78 : decode cX2_again 78 = .ok (.invokevirtual 133, 3) := dk_182 0 133 (dk_at dksX2_again_3 8 rfl rfl)
theorem dX2_again_81 : decode cX2_again 81 = .ok (.aload_n 0, 1) := dk_42 (dk_at dksX2_again_3 11 rfl rfl)
theorem dX2_again_82 : decode cX2_again 82 = .ok (.iload_n 1, 1) := dk_27 (dk_at dksX2_again_3 12 rfl rfl)
theorem dX2_again_83 : decode cX2_again 83 = .ok (.bipush 8, 2) := dk_16 8 (dk_at dksX2_again_3 13 rfl rfl)
theorem dX2_again_85 : decode cX2_again 85 = .ok (.iconst 0, 1) := dk_3 (dk_at dksX2_again_3 15 rfl rfl)
theorem dX2_again_86 : decode cX2_again 86 = .ok (.invokevirtual 133, 3) := dk_182 0 133 (dk_at dksX2_again_3 16 rfl rfl)
theorem dX2_again_89 : decode cX2_again 89 = .ok (.aload_n 0, 1) := dk_42 (dk_at dksX2_again_3 19 rfl rfl)
theorem dX2_again_90 : decode cX2_again 90 = .ok (.getfield 13, 3) := dk_180 0 13 (dk_at dksX2_again_3 20 rfl rfl)
theorem dX2_again_93 : decode cX2_again 93 = .ok (.iconst 1, 1) := dk_4 (dk_at dksX2_again_3 23 rfl rfl)
theorem dX2_again_94 : decode cX2_again 94 = .ok (.dup2, 1) := dk_92 (dk_at dksX2_again_4 0 rfl rfl)
theorem dX2_again_95 : decode cX2_again 95 = .ok (.iaload, 1) := dk_46 (dk_at dksX2_again_4 1 rfl rfl)
theorem dX2_again_96 : decode cX2_again 96 = .ok (.iconst 1, 1) := dk_4 (dk_at dksX2_again_4 2 rfl rfl)
theorem dX2_again_97 : decode cX2_again 97 = .ok (.iadd, 1) := dk_96 (dk_at dksX2_again_4 3 rfl rfl)
theorem dX2_again_98 : decode cX2_again 98 = .ok (.iastore, 1) := dk_79 (dk_at dksX2_again_4 4 rfl rfl)
theorem dX2_again_99 : decode cX2_again 99 = .ok (.aload_n 0, 1) := dk_42 (dk_at dksX2_again_4 5 rfl rfl)
theorem dX2_again_100 : decode cX2_again 100 = .ok (.iload_n 1, 1) := dk_27 (dk_at dksX2_again_4 6 rfl rfl)
theorem dX2_again_101 : decode cX2_again 101 = .ok (.bipush 7, 2) := dk_16 7 (dk_at dksX2_again_4 7 rfl rfl)
theorem dX2_again_103 : decode cX2_again 103 = .ok (.invokevirtual 74, 3) := dk_182 0 74 (dk_at dksX2_again_4 9 rfl rfl)
theorem dX2_again_106 : decode cX2_again 106 = .ok (.ireturn, 1) := dk_172 (dk_at dksX2_again_4 12 rfl rfl)
abbrev cX2_addLetter : ByteArray := prog_14_method_125_code
def yX2_addLetter : MethodName := ⟨RX2, "addLetter", "(III)I"⟩
def dkwX2_addLetter_4 : List UInt8 := [21, 5, 184, 0, 58, 182, 0, 133, 132, 5, 1, 167, 255, 219, 42, 29, 182, 0, 215, 21, 4, 172]
abbrev dktX2_addLetter_4 : List UInt8 := dkwX2_addLetter_4 ++ []
def dkwX2_addLetter_3 : List UInt8 := [162, 0, 37, 42, 21, 4, 21, 5, 28, 21, 5, 122, 4, 126, 4, 160, 0, 7, 2, 167, 0, 9, 27]
abbrev dktX2_addLetter_3 : List UInt8 := dkwX2_addLetter_3 ++ dktX2_addLetter_4
def dkwX2_addLetter_2 : List UInt8 := [182, 0, 43, 153, 0, 5, 3, 172, 42, 182, 1, 119, 42, 182, 0, 109, 54, 4, 3, 54, 5, 21, 5, 8]
abbrev dktX2_addLetter_2 : List UInt8 := dkwX2_addLetter_2 ++ dktX2_addLetter_3
def dkwX2_addLetter_1 : List UInt8 := [20, 1, 124, 184, 0, 195, 153, 0, 12, 42, 182, 0, 109, 16, 24, 160, 0, 7, 4, 167, 0, 4, 3, 6]
abbrev dktX2_addLetter_1 : List UInt8 := dkwX2_addLetter_1 ++ dktX2_addLetter_2
def dkwX2_addLetter_0 : List UInt8 := [42, 29, 182, 1, 64, 154, 0, 49, 42, 27, 133, 9, 20, 1, 122, 184, 0, 195, 153, 0, 24, 28, 133, 9]
abbrev dktX2_addLetter_0 : List UInt8 := dkwX2_addLetter_0 ++ dktX2_addLetter_1
theorem dksX2_addLetter_0 : cX2_addLetter.data.toList.drop 0 = dktX2_addLetter_0 := by decide +kernel
theorem dksX2_addLetter_1 : cX2_addLetter.data.toList.drop 24 = dktX2_addLetter_1 := dk_seg dksX2_addLetter_0 24 rfl rfl
theorem dksX2_addLetter_2 : cX2_addLetter.data.toList.drop 48 = dktX2_addLetter_2 := dk_seg dksX2_addLetter_1 24 rfl rfl
theorem dksX2_addLetter_3 : cX2_addLetter.data.toList.drop 72 = dktX2_addLetter_3 := dk_seg dksX2_addLetter_2 24 rfl rfl
theorem dksX2_addLetter_4 : cX2_addLetter.data.toList.drop 95 = dktX2_addLetter_4 := dk_seg dksX2_addLetter_3 23 rfl rfl
theorem dX2_addLetter_0 : decode cX2_addLetter 0 = .ok (.aload_n 0, 1) := dk_42 (dk_at dksX2_addLetter_0 0 rfl rfl)
theorem dX2_addLetter_1 : decode cX2_addLetter 1 = .ok (.iload_n 3, 1) := dk_29 (dk_at dksX2_addLetter_0 1 rfl rfl)
theorem dX2_addLetter_2 : decode cX2_addLetter 2 = .ok (.invokevirtual 320, 3) := dk_182 1 64 (dk_at dksX2_addLetter_0 2 rfl rfl)
theorem dX2_addLetter_5 : decode cX2_addLetter 5 = .ok (.ifCond .ne 49, 3) := dk_154 0 49 (dk_at dksX2_addLetter_0 5 rfl rfl)
theorem dX2_addLetter_8 : decode cX2_addLetter 8 = .ok (.aload_n 0, 1) := dk_42 (dk_at dksX2_addLetter_0 8 rfl rfl)
theorem dX2_addLetter_9 : decode cX2_addLetter 9 = .ok (.iload_n 1, 1) := dk_27 (dk_at dksX2_addLetter_0 9 rfl rfl)
theorem dX2_addLetter_10 : decode cX2_addLetter 10 = .ok (.i2l, 1) := dk_133 (dk_at dksX2_addLetter_0 10 rfl rfl)
theorem dX2_addLetter_11 : decode cX2_addLetter 11 = .ok (.lconst 0, 1) := dk_9 (dk_at dksX2_addLetter_0 11 rfl rfl)
theorem dX2_addLetter_12 : decode cX2_addLetter 12 = .ok (.ldc2_w 378, 3) := dk_20 1 122 (dk_at dksX2_addLetter_0 12 rfl rfl)
theorem dX2_addLetter_15 : decode cX2_addLetter 15 = .ok (.invokestatic 195, 3) := dk_184 0 195 (dk_at dksX2_addLetter_0 15 rfl rfl)
theorem dX2_addLetter_18 : decode cX2_addLetter 18 = .ok (.ifCond .eq 24, 3) := dk_153 0 24 (dk_at dksX2_addLetter_0 18 rfl rfl)
theorem dX2_addLetter_21 : decode cX2_addLetter 21 = .ok (.iload_n 2, 1) := dk_28 (dk_at dksX2_addLetter_0 21 rfl rfl)
theorem dX2_addLetter_22 : decode cX2_addLetter 22 = .ok (.i2l, 1) := dk_133 (dk_at dksX2_addLetter_0 22 rfl rfl)
theorem dX2_addLetter_23 : decode cX2_addLetter 23 = .ok (.lconst 0, 1) := dk_9 (dk_at dksX2_addLetter_0 23 rfl rfl)
theorem dX2_addLetter_24 : decode cX2_addLetter 24 = .ok (.ldc2_w 380, 3) := dk_20 1 124 (dk_at dksX2_addLetter_1 0 rfl rfl)
theorem dX2_addLetter_27 : decode cX2_addLetter 27 = .ok (.invokestatic 195, 3) := dk_184 0 195 (dk_at dksX2_addLetter_1 3 rfl rfl)
theorem dX2_addLetter_30 : decode cX2_addLetter 30 = .ok (.ifCond .eq 12, 3) := dk_153 0 12 (dk_at dksX2_addLetter_1 6 rfl rfl)
theorem dX2_addLetter_33 : decode cX2_addLetter 33 = .ok (.aload_n 0, 1) := dk_42 (dk_at dksX2_addLetter_1 9 rfl rfl)
theorem dX2_addLetter_34 : decode cX2_addLetter 34 = .ok (.invokevirtual 109, 3) := dk_182 0 109 (dk_at dksX2_addLetter_1 10 rfl rfl)
theorem dX2_addLetter_37 : decode cX2_addLetter 37 = .ok (.bipush 24, 2) := dk_16 24 (dk_at dksX2_addLetter_1 13 rfl rfl)
theorem dX2_addLetter_39 : decode cX2_addLetter 39 = .ok (.if_icmp .ne 7, 3) := dk_160 0 7 (dk_at dksX2_addLetter_1 15 rfl rfl)
theorem dX2_addLetter_42 : decode cX2_addLetter 42 = .ok (.iconst 1, 1) := dk_4 (dk_at dksX2_addLetter_1 18 rfl rfl)
theorem dX2_addLetter_43 : decode cX2_addLetter 43 = .ok (.goto 4, 3) := dk_167 0 4 (dk_at dksX2_addLetter_1 19 rfl rfl)
theorem dX2_addLetter_46 : decode cX2_addLetter 46 = .ok (.iconst 0, 1) := dk_3 (dk_at dksX2_addLetter_1 22 rfl rfl)
theorem dX2_addLetter_47 : decode cX2_addLetter 47 = .ok (.iconst 3, 1) := dk_6 (dk_at dksX2_addLetter_1 23 rfl rfl)
theorem dX2_addLetter_48 : decode cX2_addLetter 48 = .ok (.invokevirtual 43, 3) := dk_182 0 43 (dk_at dksX2_addLetter_2 0 rfl rfl)
theorem dX2_addLetter_51 : decode cX2_addLetter 51 = .ok (.ifCond .eq 5, 3) := dk_153 0 5 (dk_at dksX2_addLetter_2 3 rfl rfl)
theorem dX2_addLetter_54 : decode cX2_addLetter 54 = .ok (.iconst 0, 1) := dk_3 (dk_at dksX2_addLetter_2 6 rfl rfl)
theorem dX2_addLetter_55 : decode cX2_addLetter 55 = .ok (.ireturn, 1) := dk_172 (dk_at dksX2_addLetter_2 7 rfl rfl)
theorem dX2_addLetter_56 : decode cX2_addLetter 56 = .ok (.aload_n 0, 1) := dk_42 (dk_at dksX2_addLetter_2 8 rfl rfl)
theorem dX2_addLetter_57 : decode cX2_addLetter 57 = .ok (.invokevirtual 375, 3) := dk_182 1 119 (dk_at dksX2_addLetter_2 9 rfl rfl)
theorem dX2_addLetter_60 : decode cX2_addLetter 60 = .ok (.aload_n 0, 1) := dk_42 (dk_at dksX2_addLetter_2 12 rfl rfl)
theorem dX2_addLetter_61 : decode cX2_addLetter 61 = .ok (.invokevirtual 109, 3) := dk_182 0 109 (dk_at dksX2_addLetter_2 13 rfl rfl)
theorem dX2_addLetter_64 : decode cX2_addLetter 64 = .ok (.istore 4, 2) := dk_54 4 (dk_at dksX2_addLetter_2 16 rfl rfl)
theorem dX2_addLetter_66 : decode cX2_addLetter 66 = .ok (.iconst 0, 1) := dk_3 (dk_at dksX2_addLetter_2 18 rfl rfl)
theorem dX2_addLetter_67 : decode cX2_addLetter 67 = .ok (.istore 5, 2) := dk_54 5 (dk_at dksX2_addLetter_2 19 rfl rfl)
theorem dX2_addLetter_69 : decode cX2_addLetter 69 = .ok (.iload 5, 2) := dk_21 5 (dk_at dksX2_addLetter_2 21 rfl rfl)
theorem dX2_addLetter_71 : decode cX2_addLetter 71 = .ok (.iconst 5, 1) := dk_8 (dk_at dksX2_addLetter_2 23 rfl rfl)
theorem dX2_addLetter_72 : decode cX2_addLetter 72 = .ok (.if_icmp .ge 37, 3) := dk_162 0 37 (dk_at dksX2_addLetter_3 0 rfl rfl)
theorem dX2_addLetter_75 : decode cX2_addLetter 75 = .ok (.aload_n 0, 1) := dk_42 (dk_at dksX2_addLetter_3 3 rfl rfl)
theorem dX2_addLetter_76 : decode cX2_addLetter 76 = .ok (.iload 4, 2) := dk_21 4 (dk_at dksX2_addLetter_3 4 rfl rfl)
theorem dX2_addLetter_78 : decode cX2_addLetter 78 = .ok (.iload 5, 2) := dk_21 5 (dk_at dksX2_addLetter_3 6 rfl rfl)
theorem dX2_addLetter_80 : decode cX2_addLetter 80 = .ok (.iload_n 2, 1) := dk_28 (dk_at dksX2_addLetter_3 8 rfl rfl)
theorem dX2_addLetter_81 : decode cX2_addLetter 81 = .ok (.iload 5, 2) := dk_21 5 (dk_at dksX2_addLetter_3 9 rfl rfl)
theorem dX2_addLetter_83 : decode cX2_addLetter 83 = .ok (.ishr, 1) := dk_122 (dk_at dksX2_addLetter_3 11 rfl rfl)
theorem dX2_addLetter_84 : decode cX2_addLetter 84 = .ok (.iconst 1, 1) := dk_4 (dk_at dksX2_addLetter_3 12 rfl rfl)
theorem dX2_addLetter_85 : decode cX2_addLetter 85 = .ok (.iand, 1) := dk_126 (dk_at dksX2_addLetter_3 13 rfl rfl)
theorem dX2_addLetter_86 : decode cX2_addLetter 86 = .ok (.iconst 1, 1) := dk_4 (dk_at dksX2_addLetter_3 14 rfl rfl)
theorem dX2_addLetter_87 : decode cX2_addLetter 87 = .ok (.if_icmp .ne 7, 3) := dk_160 0 7 (dk_at dksX2_addLetter_3 15 rfl rfl)
theorem dX2_addLetter_90 : decode cX2_addLetter 90 = .ok (.iconst (-1), 1) := dk_2 (dk_at dksX2_addLetter_3 18 rfl rfl)
theorem dX2_addLetter_91 : decode cX2_addLetter 91 = .ok (.goto 9, 3) := dk_167 0 9 (dk_at dksX2_addLetter_3 19 rfl rfl)
theorem dX2_addLetter_94 : decode cX2_addLetter 94 = .ok (.iload_n 1, 1) := dk_27 (dk_at dksX2_addLetter_3 22 rfl rfl)
theorem dX2_addLetter_95 : decode cX2_addLetter 95 = .ok (.iload 5, 2) := dk_21 5 (dk_at dksX2_addLetter_4 0 rfl rfl)
theorem dX2_addLetter_97 : decode cX2_addLetter 97 = .ok (.invokestatic 58, 3) := dk_184 0 58 (dk_at dksX2_addLetter_4 2 rfl rfl)
theorem dX2_addLetter_100 : decode cX2_addLetter 100 = .ok (.invokevirtual 133, 3) := dk_182 0 133 (dk_at dksX2_addLetter_4 5 rfl rfl)
theorem dX2_addLetter_103 : decode cX2_addLetter 103 = .ok (.iinc 5 1, 3) := dk_132 5 1 (dk_at dksX2_addLetter_4 8 rfl rfl)
theorem dX2_addLetter_106 : decode cX2_addLetter 106 = .ok (.goto (-37), 3) := dk_167 255 219 (dk_at dksX2_addLetter_4 11 rfl rfl)
theorem dX2_addLetter_109 : decode cX2_addLetter 109 = .ok (.aload_n 0, 1) := dk_42 (dk_at dksX2_addLetter_4 14 rfl rfl)
theorem dX2_addLetter_110 : decode cX2_addLetter 110 = .ok (.iload_n 3, 1) := dk_29 (dk_at dksX2_addLetter_4 15 rfl rfl)
theorem dX2_addLetter_111 : decode cX2_addLetter 111 = .ok (.invokevirtual 215, 3) := dk_182 0 215 (dk_at dksX2_addLetter_4 16 rfl rfl)
theorem dX2_addLetter_114 : decode cX2_addLetter 114 = .ok (.iload 4, 2) := dk_21 4 (dk_at dksX2_addLetter_4 19 rfl rfl)
theorem dX2_addLetter_116 : decode cX2_addLetter 116 = .ok (.ireturn, 1) := dk_172 (dk_at dksX2_addLetter_4 21 rfl rfl)
abbrev cX2_setSum : ByteArray := prog_14_method_126_code
def yX2_setSum : MethodName := ⟨RX2, "setSum", "(II)I"⟩
def dkwX2_setSum_2 : List UInt8 := [46, 62, 42, 180, 0, 13, 6, 27, 96, 28, 79, 29, 172]
abbrev dktX2_setSum_2 : List UInt8 := dkwX2_setSum_2 ++ []
def dkwX2_setSum_1 : List UInt8 := [167, 0, 4, 3, 6, 182, 0, 43, 153, 0, 5, 3, 172, 42, 182, 1, 119, 42, 180, 0, 13, 6, 27, 96]
abbrev dktX2_setSum_1 : List UInt8 := dkwX2_setSum_1 ++ dktX2_setSum_2
def dkwX2_setSum_0 : List UInt8 := [42, 27, 182, 1, 64, 154, 0, 30, 42, 28, 133, 20, 1, 85, 20, 1, 87, 184, 0, 195, 154, 0, 7, 4]
abbrev dktX2_setSum_0 : List UInt8 := dkwX2_setSum_0 ++ dktX2_setSum_1
theorem dksX2_setSum_0 : cX2_setSum.data.toList.drop 0 = dktX2_setSum_0 := by decide +kernel
theorem dksX2_setSum_1 : cX2_setSum.data.toList.drop 24 = dktX2_setSum_1 := dk_seg dksX2_setSum_0 24 rfl rfl
theorem dksX2_setSum_2 : cX2_setSum.data.toList.drop 48 = dktX2_setSum_2 := dk_seg dksX2_setSum_1 24 rfl rfl
theorem dX2_setSum_0 : decode cX2_setSum 0 = .ok (.aload_n 0, 1) := dk_42 (dk_at dksX2_setSum_0 0 rfl rfl)
theorem dX2_setSum_1 : decode cX2_setSum 1 = .ok (.iload_n 1, 1) := dk_27 (dk_at dksX2_setSum_0 1 rfl rfl)
theorem dX2_setSum_2 : decode cX2_setSum 2 = .ok (.invokevirtual 320, 3) := dk_182 1 64 (dk_at dksX2_setSum_0 2 rfl rfl)
theorem dX2_setSum_5 : decode cX2_setSum 5 = .ok (.ifCond .ne 30, 3) := dk_154 0 30 (dk_at dksX2_setSum_0 5 rfl rfl)
theorem dX2_setSum_8 : decode cX2_setSum 8 = .ok (.aload_n 0, 1) := dk_42 (dk_at dksX2_setSum_0 8 rfl rfl)
theorem dX2_setSum_9 : decode cX2_setSum 9 = .ok (.iload_n 2, 1) := dk_28 (dk_at dksX2_setSum_0 9 rfl rfl)
theorem dX2_setSum_10 : decode cX2_setSum 10 = .ok (.i2l, 1) := dk_133 (dk_at dksX2_setSum_0 10 rfl rfl)
theorem dX2_setSum_11 : decode cX2_setSum 11 = .ok (.ldc2_w 341, 3) := dk_20 1 85 (dk_at dksX2_setSum_0 11 rfl rfl)
theorem dX2_setSum_14 : decode cX2_setSum 14 = .ok (.ldc2_w 343, 3) := dk_20 1 87 (dk_at dksX2_setSum_0 14 rfl rfl)
theorem dX2_setSum_17 : decode cX2_setSum 17 = .ok (.invokestatic 195, 3) := dk_184 0 195 (dk_at dksX2_setSum_0 17 rfl rfl)
theorem dX2_setSum_20 : decode cX2_setSum 20 = .ok (.ifCond .ne 7, 3) := dk_154 0 7 (dk_at dksX2_setSum_0 20 rfl rfl)
theorem dX2_setSum_23 : decode cX2_setSum 23 = .ok (.iconst 1, 1) := dk_4 (dk_at dksX2_setSum_0 23 rfl rfl)
theorem dX2_setSum_24 : decode cX2_setSum 24 = .ok (.goto 4, 3) := dk_167 0 4 (dk_at dksX2_setSum_1 0 rfl rfl)
theorem dX2_setSum_27 : decode cX2_setSum 27 = .ok (.iconst 0, 1) := dk_3 (dk_at dksX2_setSum_1 3 rfl rfl)
theorem dX2_setSum_28 : decode cX2_setSum 28 = .ok (.iconst 3, 1) := dk_6 (dk_at dksX2_setSum_1 4 rfl rfl)
theorem dX2_setSum_29 : decode cX2_setSum 29 = .ok (.invokevirtual 43, 3) := dk_182 0 43 (dk_at dksX2_setSum_1 5 rfl rfl)
theorem dX2_setSum_32 : decode cX2_setSum 32 = .ok (.ifCond .eq 5, 3) := dk_153 0 5 (dk_at dksX2_setSum_1 8 rfl rfl)
theorem dX2_setSum_35 : decode cX2_setSum 35 = .ok (.iconst 0, 1) := dk_3 (dk_at dksX2_setSum_1 11 rfl rfl)
theorem dX2_setSum_36 : decode cX2_setSum 36 = .ok (.ireturn, 1) := dk_172 (dk_at dksX2_setSum_1 12 rfl rfl)
theorem dX2_setSum_37 : decode cX2_setSum 37 = .ok (.aload_n 0, 1) := dk_42 (dk_at dksX2_setSum_1 13 rfl rfl)
theorem dX2_setSum_38 : decode cX2_setSum 38 = .ok (.invokevirtual 375, 3) := dk_182 1 119 (dk_at dksX2_setSum_1 14 rfl rfl)
theorem dX2_setSum_41 : decode cX2_setSum 41 = .ok (.aload_n 0, 1) := dk_42 (dk_at dksX2_setSum_1 17 rfl rfl)
theorem dX2_setSum_42 : decode cX2_setSum 42 = .ok (.getfield 13, 3) := dk_180 0 13 (dk_at dksX2_setSum_1 18 rfl rfl)
theorem dX2_setSum_45 : decode cX2_setSum 45 = .ok (.iconst 3, 1) := dk_6 (dk_at dksX2_setSum_1 21 rfl rfl)
theorem dX2_setSum_46 : decode cX2_setSum 46 = .ok (.iload_n 1, 1) := dk_27 (dk_at dksX2_setSum_1 22 rfl rfl)
theorem dX2_setSum_47 : decode cX2_setSum 47 = .ok (.iadd, 1) := dk_96 (dk_at dksX2_setSum_1 23 rfl rfl)
theorem dX2_setSum_48 : decode cX2_setSum 48 = .ok (.iaload, 1) := dk_46 (dk_at dksX2_setSum_2 0 rfl rfl)
theorem dX2_setSum_49 : decode cX2_setSum 49 = .ok (.istore_n 3, 1) := dk_62 (dk_at dksX2_setSum_2 1 rfl rfl)
theorem dX2_setSum_50 : decode cX2_setSum 50 = .ok (.aload_n 0, 1) := dk_42 (dk_at dksX2_setSum_2 2 rfl rfl)
theorem dX2_setSum_51 : decode cX2_setSum 51 = .ok (.getfield 13, 3) := dk_180 0 13 (dk_at dksX2_setSum_2 3 rfl rfl)
theorem dX2_setSum_54 : decode cX2_setSum 54 = .ok (.iconst 3, 1) := dk_6 (dk_at dksX2_setSum_2 6 rfl rfl)
theorem dX2_setSum_55 : decode cX2_setSum 55 = .ok (.iload_n 1, 1) := dk_27 (dk_at dksX2_setSum_2 7 rfl rfl)
theorem dX2_setSum_56 : decode cX2_setSum 56 = .ok (.iadd, 1) := dk_96 (dk_at dksX2_setSum_2 8 rfl rfl)
theorem dX2_setSum_57 : decode cX2_setSum 57 = .ok (.iload_n 2, 1) := dk_28 (dk_at dksX2_setSum_2 9 rfl rfl)
theorem dX2_setSum_58 : decode cX2_setSum 58 = .ok (.iastore, 1) := dk_79 (dk_at dksX2_setSum_2 10 rfl rfl)
theorem dX2_setSum_59 : decode cX2_setSum 59 = .ok (.iload_n 3, 1) := dk_29 (dk_at dksX2_setSum_2 11 rfl rfl)
theorem dX2_setSum_60 : decode cX2_setSum 60 = .ok (.ireturn, 1) := dk_172 (dk_at dksX2_setSum_2 12 rfl rfl)
abbrev cX2_move : ByteArray := prog_14_method_127_code
def yX2_move : MethodName := ⟨RX2, "move", "(II)I"⟩
def dkwX2_move_3 : List UInt8 := [42, 27, 8, 28, 182, 0, 133, 29, 172]
abbrev dktX2_move_3 : List UInt8 := dkwX2_move_3 ++ []
def dkwX2_move_2 : List UInt8 := [167, 0, 4, 3, 6, 182, 0, 43, 153, 0, 5, 3, 172, 42, 182, 1, 119, 42, 27, 8, 182, 0, 74, 62]
abbrev dktX2_move_2 : List UInt8 := dkwX2_move_2 ++ dktX2_move_3
def dkwX2_move_1 : List UInt8 := [167, 0, 4, 3, 5, 182, 0, 43, 154, 0, 26, 42, 42, 27, 16, 6, 182, 0, 74, 153, 0, 7, 4]
abbrev dktX2_move_1 : List UInt8 := dkwX2_move_1 ++ dktX2_move_2
def dkwX2_move_0 : List UInt8 := [42, 27, 182, 1, 43, 154, 0, 51, 42, 28, 133, 9, 20, 1, 62, 184, 0, 195, 154, 0, 7, 4]
abbrev dktX2_move_0 : List UInt8 := dkwX2_move_0 ++ dktX2_move_1
theorem dksX2_move_0 : cX2_move.data.toList.drop 0 = dktX2_move_0 := by decide +kernel
theorem dksX2_move_1 : cX2_move.data.toList.drop 22 = dktX2_move_1 := dk_seg dksX2_move_0 22 rfl rfl
theorem dksX2_move_2 : cX2_move.data.toList.drop 45 = dktX2_move_2 := dk_seg dksX2_move_1 23 rfl rfl
theorem dksX2_move_3 : cX2_move.data.toList.drop 69 = dktX2_move_3 := dk_seg dksX2_move_2 24 rfl rfl
theorem dX2_move_0 : decode cX2_move 0 = .ok (.aload_n 0, 1) := dk_42 (dk_at dksX2_move_0 0 rfl rfl)
theorem dX2_move_1 : decode cX2_move 1 = .ok (.iload_n 1, 1) := dk_27 (dk_at dksX2_move_0 1 rfl rfl)
theorem dX2_move_2 : decode cX2_move 2 = .ok (.invokevirtual 299, 3) := dk_182 1 43 (dk_at dksX2_move_0 2 rfl rfl)
theorem dX2_move_5 : decode cX2_move 5 = .ok (.ifCond .ne 51, 3) := dk_154 0 51 (dk_at dksX2_move_0 5 rfl rfl)
theorem dX2_move_8 : decode cX2_move 8 = .ok (.aload_n 0, 1) := dk_42 (dk_at dksX2_move_0 8 rfl rfl)
theorem dX2_move_9 : decode cX2_move 9 = .ok (.iload_n 2, 1) := dk_28 (dk_at dksX2_move_0 9 rfl rfl)
theorem dX2_move_10 : decode cX2_move 10 = .ok (.i2l, 1) := dk_133 (dk_at dksX2_move_0 10 rfl rfl)
theorem dX2_move_11 : decode cX2_move 11 = .ok (.lconst 0, 1) := dk_9 (dk_at dksX2_move_0 11 rfl rfl)
theorem dX2_move_12 : decode cX2_move 12 = .ok (.ldc2_w 318, 3) := dk_20 1 62 (dk_at dksX2_move_0 12 rfl rfl)
theorem dX2_move_15 : decode cX2_move 15 = .ok (.invokestatic 195, 3) := dk_184 0 195 (dk_at dksX2_move_0 15 rfl rfl)
theorem dX2_move_18 : decode cX2_move 18 = .ok (.ifCond .ne 7, 3) := dk_154 0 7 (dk_at dksX2_move_0 18 rfl rfl)
theorem dX2_move_21 : decode cX2_move 21 = .ok (.iconst 1, 1) := dk_4 (dk_at dksX2_move_0 21 rfl rfl)
theorem dX2_move_22 : decode cX2_move 22 = .ok (.goto 4, 3) := dk_167 0 4 (dk_at dksX2_move_1 0 rfl rfl)
theorem dX2_move_25 : decode cX2_move 25 = .ok (.iconst 0, 1) := dk_3 (dk_at dksX2_move_1 3 rfl rfl)
theorem dX2_move_26 : decode cX2_move 26 = .ok (.iconst 2, 1) := dk_5 (dk_at dksX2_move_1 4 rfl rfl)
theorem dX2_move_27 : decode cX2_move 27 = .ok (.invokevirtual 43, 3) := dk_182 0 43 (dk_at dksX2_move_1 5 rfl rfl)
theorem dX2_move_30 : decode cX2_move 30 = .ok (.ifCond .ne 26, 3) := dk_154 0 26 (dk_at dksX2_move_1 8 rfl rfl)
theorem dX2_move_33 : decode cX2_move 33 = .ok (.aload_n 0, 1) := dk_42 (dk_at dksX2_move_1 11 rfl rfl)
theorem dX2_move_34 : decode cX2_move 34 = .ok (.aload_n 0, 1) := dk_42 (dk_at dksX2_move_1 12 rfl rfl)
theorem dX2_move_35 : decode cX2_move 35 = .ok (.iload_n 1, 1) := dk_27 (dk_at dksX2_move_1 13 rfl rfl)
theorem dX2_move_36 : decode cX2_move 36 = .ok (.bipush 6, 2) := dk_16 6 (dk_at dksX2_move_1 14 rfl rfl)
theorem dX2_move_38 : decode cX2_move 38 = .ok (.invokevirtual 74, 3) := dk_182 0 74 (dk_at dksX2_move_1 16 rfl rfl)
theorem dX2_move_41 : decode cX2_move 41 = .ok (.ifCond .eq 7, 3) := dk_153 0 7 (dk_at dksX2_move_1 19 rfl rfl)
theorem dX2_move_44 : decode cX2_move 44 = .ok (.iconst 1, 1) := dk_4 (dk_at dksX2_move_1 22 rfl rfl)
theorem dX2_move_45 : decode cX2_move 45 = .ok (.goto 4, 3) := dk_167 0 4 (dk_at dksX2_move_2 0 rfl rfl)
theorem dX2_move_48 : decode cX2_move 48 = .ok (.iconst 0, 1) := dk_3 (dk_at dksX2_move_2 3 rfl rfl)
theorem dX2_move_49 : decode cX2_move 49 = .ok (.iconst 3, 1) := dk_6 (dk_at dksX2_move_2 4 rfl rfl)
theorem dX2_move_50 : decode cX2_move 50 = .ok (.invokevirtual 43, 3) := dk_182 0 43 (dk_at dksX2_move_2 5 rfl rfl)
theorem dX2_move_53 : decode cX2_move 53 = .ok (.ifCond .eq 5, 3) := dk_153 0 5 (dk_at dksX2_move_2 8 rfl rfl)
theorem dX2_move_56 : decode cX2_move 56 = .ok (.iconst 0, 1) := dk_3 (dk_at dksX2_move_2 11 rfl rfl)
theorem dX2_move_57 : decode cX2_move 57 = .ok (.ireturn, 1) := dk_172 (dk_at dksX2_move_2 12 rfl rfl)
theorem dX2_move_58 : decode cX2_move 58 = .ok (.aload_n 0, 1) := dk_42 (dk_at dksX2_move_2 13 rfl rfl)
theorem dX2_move_59 : decode cX2_move 59 = .ok (.invokevirtual 375, 3) := dk_182 1 119 (dk_at dksX2_move_2 14 rfl rfl)
theorem dX2_move_62 : decode cX2_move 62 = .ok (.aload_n 0, 1) := dk_42 (dk_at dksX2_move_2 17 rfl rfl)
theorem dX2_move_63 : decode cX2_move 63 = .ok (.iload_n 1, 1) := dk_27 (dk_at dksX2_move_2 18 rfl rfl)
theorem dX2_move_64 : decode cX2_move 64 = .ok (.iconst 5, 1) := dk_8 (dk_at dksX2_move_2 19 rfl rfl)
theorem dX2_move_65 : decode cX2_move 65 = .ok (.invokevirtual 74, 3) := dk_182 0 74 (dk_at dksX2_move_2 20 rfl rfl)
theorem dX2_move_68 : decode cX2_move 68 = .ok (.istore_n 3, 1) := dk_62 (dk_at dksX2_move_2 23 rfl rfl)
theorem dX2_move_69 : decode cX2_move 69 = .ok (.aload_n 0, 1) := dk_42 (dk_at dksX2_move_3 0 rfl rfl)
theorem dX2_move_70 : decode cX2_move 70 = .ok (.iload_n 1, 1) := dk_27 (dk_at dksX2_move_3 1 rfl rfl)
theorem dX2_move_71 : decode cX2_move 71 = .ok (.iconst 5, 1) := dk_8 (dk_at dksX2_move_3 2 rfl rfl)
theorem dX2_move_72 : decode cX2_move 72 = .ok (.iload_n 2, 1) := dk_28 (dk_at dksX2_move_3 3 rfl rfl)
theorem dX2_move_73 : decode cX2_move 73 = .ok (.invokevirtual 133, 3) := dk_182 0 133 (dk_at dksX2_move_3 4 rfl rfl)
theorem dX2_move_76 : decode cX2_move 76 = .ok (.iload_n 3, 1) := dk_29 (dk_at dksX2_move_3 7 rfl rfl)
theorem dX2_move_77 : decode cX2_move 77 = .ok (.ireturn, 1) := dk_172 (dk_at dksX2_move_3 8 rfl rfl)
abbrev cX2_setLimit : ByteArray := prog_14_method_128_code
def yX2_setLimit : MethodName := ⟨RX2, "setLimit", "(I)I"⟩
def dkwX2_setLimit_1 : List UInt8 := [180, 0, 13, 3, 27, 79, 28, 172]
abbrev dktX2_setLimit_1 : List UInt8 := dkwX2_setLimit_1 ++ []
def dkwX2_setLimit_0 : List UInt8 := [42, 27, 182, 1, 95, 153, 0, 5, 3, 172, 42, 182, 1, 119, 42, 180, 0, 13, 3, 46, 61, 42]
abbrev dktX2_setLimit_0 : List UInt8 := dkwX2_setLimit_0 ++ dktX2_setLimit_1
theorem dksX2_setLimit_0 : cX2_setLimit.data.toList.drop 0 = dktX2_setLimit_0 := by decide +kernel
theorem dksX2_setLimit_1 : cX2_setLimit.data.toList.drop 22 = dktX2_setLimit_1 := dk_seg dksX2_setLimit_0 22 rfl rfl
theorem dX2_setLimit_0 : decode cX2_setLimit 0 = .ok (.aload_n 0, 1) := dk_42 (dk_at dksX2_setLimit_0 0 rfl rfl)
theorem dX2_setLimit_1 : decode cX2_setLimit 1 = .ok (.iload_n 1, 1) := dk_27 (dk_at dksX2_setLimit_0 1 rfl rfl)
theorem dX2_setLimit_2 : decode cX2_setLimit 2 = .ok (.invokevirtual 351, 3) := dk_182 1 95 (dk_at dksX2_setLimit_0 2 rfl rfl)
theorem dX2_setLimit_5 : decode cX2_setLimit 5 = .ok (.ifCond .eq 5, 3) := dk_153 0 5 (dk_at dksX2_setLimit_0 5 rfl rfl)
theorem dX2_setLimit_8 : decode cX2_setLimit 8 = .ok (.iconst 0, 1) := dk_3 (dk_at dksX2_setLimit_0 8 rfl rfl)
theorem dX2_setLimit_9 : decode cX2_setLimit 9 = .ok (.ireturn, 1) := dk_172 (dk_at dksX2_setLimit_0 9 rfl rfl)
theorem dX2_setLimit_10 : decode cX2_setLimit 10 = .ok (.aload_n 0, 1) := dk_42 (dk_at dksX2_setLimit_0 10 rfl rfl)
theorem dX2_setLimit_11 : decode cX2_setLimit 11 = .ok (.invokevirtual 375, 3) := dk_182 1 119 (dk_at dksX2_setLimit_0 11 rfl rfl)
theorem dX2_setLimit_14 : decode cX2_setLimit 14 = .ok (.aload_n 0, 1) := dk_42 (dk_at dksX2_setLimit_0 14 rfl rfl)
theorem dX2_setLimit_15 : decode cX2_setLimit 15 = .ok (.getfield 13, 3) := dk_180 0 13 (dk_at dksX2_setLimit_0 15 rfl rfl)
theorem dX2_setLimit_18 : decode cX2_setLimit 18 = .ok (.iconst 0, 1) := dk_3 (dk_at dksX2_setLimit_0 18 rfl rfl)
theorem dX2_setLimit_19 : decode cX2_setLimit 19 = .ok (.iaload, 1) := dk_46 (dk_at dksX2_setLimit_0 19 rfl rfl)
theorem dX2_setLimit_20 : decode cX2_setLimit 20 = .ok (.istore_n 2, 1) := dk_61 (dk_at dksX2_setLimit_0 20 rfl rfl)
theorem dX2_setLimit_21 : decode cX2_setLimit 21 = .ok (.aload_n 0, 1) := dk_42 (dk_at dksX2_setLimit_0 21 rfl rfl)
theorem dX2_setLimit_22 : decode cX2_setLimit 22 = .ok (.getfield 13, 3) := dk_180 0 13 (dk_at dksX2_setLimit_1 0 rfl rfl)
theorem dX2_setLimit_25 : decode cX2_setLimit 25 = .ok (.iconst 0, 1) := dk_3 (dk_at dksX2_setLimit_1 3 rfl rfl)
theorem dX2_setLimit_26 : decode cX2_setLimit 26 = .ok (.iload_n 1, 1) := dk_27 (dk_at dksX2_setLimit_1 4 rfl rfl)
theorem dX2_setLimit_27 : decode cX2_setLimit 27 = .ok (.iastore, 1) := dk_79 (dk_at dksX2_setLimit_1 5 rfl rfl)
theorem dX2_setLimit_28 : decode cX2_setLimit 28 = .ok (.iload_n 2, 1) := dk_28 (dk_at dksX2_setLimit_1 6 rfl rfl)
theorem dX2_setLimit_29 : decode cX2_setLimit 29 = .ok (.ireturn, 1) := dk_172 (dk_at dksX2_setLimit_1 7 rfl rfl)
abbrev cX2_turnRoute : ByteArray := prog_14_method_129_code
def yX2_turnRoute : MethodName := ⟨RX2, "turnRoute", "(I)I"⟩
def dkwX2_turnRoute_1 : List UInt8 := [180, 0, 13, 16, 9, 27, 96, 46, 100, 79, 42, 180, 0, 13, 16, 9, 27, 96, 46, 172]
abbrev dktX2_turnRoute_1 : List UInt8 := dkwX2_turnRoute_1 ++ []
def dkwX2_turnRoute_0 : List UInt8 := [42, 27, 182, 1, 76, 153, 0, 5, 3, 172, 42, 182, 1, 119, 42, 180, 0, 13, 16, 9, 27, 96, 4, 42]
abbrev dktX2_turnRoute_0 : List UInt8 := dkwX2_turnRoute_0 ++ dktX2_turnRoute_1
theorem dksX2_turnRoute_0 : cX2_turnRoute.data.toList.drop 0 = dktX2_turnRoute_0 := by decide +kernel
theorem dksX2_turnRoute_1 : cX2_turnRoute.data.toList.drop 24 = dktX2_turnRoute_1 := dk_seg dksX2_turnRoute_0 24 rfl rfl
theorem dX2_turnRoute_0 : decode cX2_turnRoute 0 = .ok (.aload_n 0, 1) := dk_42 (dk_at dksX2_turnRoute_0 0 rfl rfl)
theorem dX2_turnRoute_1 : decode cX2_turnRoute 1 = .ok (.iload_n 1, 1) := dk_27 (dk_at dksX2_turnRoute_0 1 rfl rfl)
theorem dX2_turnRoute_2 : decode cX2_turnRoute 2 = .ok (.invokevirtual 332, 3) := dk_182 1 76 (dk_at dksX2_turnRoute_0 2 rfl rfl)
theorem dX2_turnRoute_5 : decode cX2_turnRoute 5 = .ok (.ifCond .eq 5, 3) := dk_153 0 5 (dk_at dksX2_turnRoute_0 5 rfl rfl)
theorem dX2_turnRoute_8 : decode cX2_turnRoute 8 = .ok (.iconst 0, 1) := dk_3 (dk_at dksX2_turnRoute_0 8 rfl rfl)
theorem dX2_turnRoute_9 : decode cX2_turnRoute 9 = .ok (.ireturn, 1) := dk_172 (dk_at dksX2_turnRoute_0 9 rfl rfl)
theorem dX2_turnRoute_10 : decode cX2_turnRoute 10 = .ok (.aload_n 0, 1) := dk_42 (dk_at dksX2_turnRoute_0 10 rfl rfl)
theorem dX2_turnRoute_11 : decode cX2_turnRoute 11 = .ok (.invokevirtual 375, 3) := dk_182 1 119 (dk_at dksX2_turnRoute_0 11 rfl rfl)
theorem dX2_turnRoute_14 : decode cX2_turnRoute 14 = .ok (.aload_n 0, 1) := dk_42 (dk_at dksX2_turnRoute_0 14 rfl rfl)
theorem dX2_turnRoute_15 : decode cX2_turnRoute 15 = .ok (.getfield 13, 3) := dk_180 0 13 (dk_at dksX2_turnRoute_0 15 rfl rfl)
theorem dX2_turnRoute_18 : decode cX2_turnRoute 18 = .ok (.bipush 9, 2) := dk_16 9 (dk_at dksX2_turnRoute_0 18 rfl rfl)
theorem dX2_turnRoute_20 : decode cX2_turnRoute 20 = .ok (.iload_n 1, 1) := dk_27 (dk_at dksX2_turnRoute_0 20 rfl rfl)
theorem dX2_turnRoute_21 : decode cX2_turnRoute 21 = .ok (.iadd, 1) := dk_96 (dk_at dksX2_turnRoute_0 21 rfl rfl)
theorem dX2_turnRoute_22 : decode cX2_turnRoute 22 = .ok (.iconst 1, 1) := dk_4 (dk_at dksX2_turnRoute_0 22 rfl rfl)
theorem dX2_turnRoute_23 : decode cX2_turnRoute 23 = .ok (.aload_n 0, 1) := dk_42 (dk_at dksX2_turnRoute_0 23 rfl rfl)
theorem dX2_turnRoute_24 : decode cX2_turnRoute 24 = .ok (.getfield 13, 3) := dk_180 0 13 (dk_at dksX2_turnRoute_1 0 rfl rfl)
theorem dX2_turnRoute_27 : decode cX2_turnRoute 27 = .ok (.bipush 9, 2) := dk_16 9 (dk_at dksX2_turnRoute_1 3 rfl rfl)
theorem dX2_turnRoute_29 : decode cX2_turnRoute 29 = .ok (.iload_n 1, 1) := dk_27 (dk_at dksX2_turnRoute_1 5 rfl rfl)
theorem dX2_turnRoute_30 : decode cX2_turnRoute 30 = .ok (.iadd, 1) := dk_96 (dk_at dksX2_turnRoute_1 6 rfl rfl)
theorem dX2_turnRoute_31 : decode cX2_turnRoute 31 = .ok (.iaload, 1) := dk_46 (dk_at dksX2_turnRoute_1 7 rfl rfl)
theorem dX2_turnRoute_32 : decode cX2_turnRoute 32 = .ok (.isub, 1) := dk_100 (dk_at dksX2_turnRoute_1 8 rfl rfl)
theorem dX2_turnRoute_33 : decode cX2_turnRoute 33 = .ok (.iastore, 1) := dk_79 (dk_at dksX2_turnRoute_1 9 rfl rfl)
theorem dX2_turnRoute_34 : decode cX2_turnRoute 34 = .ok (.aload_n 0, 1) := dk_42 (dk_at dksX2_turnRoute_1 10 rfl rfl)
theorem dX2_turnRoute_35 : decode cX2_turnRoute 35 = .ok (.getfield 13, 3) := dk_180 0 13 (dk_at dksX2_turnRoute_1 11 rfl rfl)
theorem dX2_turnRoute_38 : decode cX2_turnRoute 38 = .ok (.bipush 9, 2) := dk_16 9 (dk_at dksX2_turnRoute_1 14 rfl rfl)
theorem dX2_turnRoute_40 : decode cX2_turnRoute 40 = .ok (.iload_n 1, 1) := dk_27 (dk_at dksX2_turnRoute_1 16 rfl rfl)
theorem dX2_turnRoute_41 : decode cX2_turnRoute 41 = .ok (.iadd, 1) := dk_96 (dk_at dksX2_turnRoute_1 17 rfl rfl)
theorem dX2_turnRoute_42 : decode cX2_turnRoute 42 = .ok (.iaload, 1) := dk_46 (dk_at dksX2_turnRoute_1 18 rfl rfl)
theorem dX2_turnRoute_43 : decode cX2_turnRoute 43 = .ok (.ireturn, 1) := dk_172 (dk_at dksX2_turnRoute_1 19 rfl rfl)
abbrev cX2_undo : ByteArray := prog_14_method_130_code
def yX2_undo : MethodName := ⟨RX2, "undo", "()I"⟩
def dkwX2_undo_2 : List UInt8 := [180, 1, 1, 96, 104, 42, 180, 0, 13, 3, 184, 0, 47, 42, 180, 1, 1, 172]
abbrev dktX2_undo_2 : List UInt8 := dkwX2_undo_2 ++ []
def dkwX2_undo_1 : List UInt8 := [153, 0, 5, 3, 172, 42, 89, 180, 1, 1, 4, 100, 181, 1, 1, 42, 180, 0, 16, 17, 1, 17, 3, 42]
abbrev dktX2_undo_1 : List UInt8 := dkwX2_undo_1 ++ dktX2_undo_2
def dkwX2_undo_0 : List UInt8 := [42, 3, 181, 0, 36, 42, 42, 180, 1, 1, 154, 0, 7, 4, 167, 0, 4, 3, 4, 182, 0, 43]
abbrev dktX2_undo_0 : List UInt8 := dkwX2_undo_0 ++ dktX2_undo_1
theorem dksX2_undo_0 : cX2_undo.data.toList.drop 0 = dktX2_undo_0 := by decide +kernel
theorem dksX2_undo_1 : cX2_undo.data.toList.drop 22 = dktX2_undo_1 := dk_seg dksX2_undo_0 22 rfl rfl
theorem dksX2_undo_2 : cX2_undo.data.toList.drop 46 = dktX2_undo_2 := dk_seg dksX2_undo_1 24 rfl rfl
theorem dX2_undo_0 : decode cX2_undo 0 = .ok (.aload_n 0, 1) := dk_42 (dk_at dksX2_undo_0 0 rfl rfl)
theorem dX2_undo_1 : decode cX2_undo 1 = .ok (.iconst 0, 1) := dk_3 (dk_at dksX2_undo_0 1 rfl rfl)
theorem dX2_undo_2 : decode cX2_undo 2 = .ok (.putfield 36, 3) := dk_181 0 36 (dk_at dksX2_undo_0 2 rfl rfl)
theorem dX2_undo_5 : decode cX2_undo 5 = .ok (.aload_n 0, 1) := dk_42 (dk_at dksX2_undo_0 5 rfl rfl)
theorem dX2_undo_6 : decode cX2_undo 6 = .ok (.aload_n 0, 1) := dk_42 (dk_at dksX2_undo_0 6 rfl rfl)
theorem dX2_undo_7 : decode cX2_undo 7 = .ok (.getfield 257, 3) := dk_180 1 1 (dk_at dksX2_undo_0 7 rfl rfl)
theorem dX2_undo_10 : decode cX2_undo 10 = .ok (.ifCond .ne 7, 3) := dk_154 0 7 (dk_at dksX2_undo_0 10 rfl rfl)
theorem dX2_undo_13 : decode cX2_undo 13 = .ok (.iconst 1, 1) := dk_4 (dk_at dksX2_undo_0 13 rfl rfl)
theorem dX2_undo_14 : decode cX2_undo 14 = .ok (.goto 4, 3) := dk_167 0 4 (dk_at dksX2_undo_0 14 rfl rfl)
theorem dX2_undo_17 : decode cX2_undo 17 = .ok (.iconst 0, 1) := dk_3 (dk_at dksX2_undo_0 17 rfl rfl)
theorem dX2_undo_18 : decode cX2_undo 18 = .ok (.iconst 1, 1) := dk_4 (dk_at dksX2_undo_0 18 rfl rfl)
theorem dX2_undo_19 : decode cX2_undo 19 = .ok (.invokevirtual 43, 3) := dk_182 0 43 (dk_at dksX2_undo_0 19 rfl rfl)
theorem dX2_undo_22 : decode cX2_undo 22 = .ok (.ifCond .eq 5, 3) := dk_153 0 5 (dk_at dksX2_undo_1 0 rfl rfl)
theorem dX2_undo_25 : decode cX2_undo 25 = .ok (.iconst 0, 1) := dk_3 (dk_at dksX2_undo_1 3 rfl rfl)
theorem dX2_undo_26 : decode cX2_undo 26 = .ok (.ireturn, 1) := dk_172 (dk_at dksX2_undo_1 4 rfl rfl)
theorem dX2_undo_27 : decode cX2_undo 27 = .ok (.aload_n 0, 1) := dk_42 (dk_at dksX2_undo_1 5 rfl rfl)
theorem dX2_undo_28 : decode cX2_undo 28 = .ok (.dup, 1) := dk_89 (dk_at dksX2_undo_1 6 rfl rfl)
theorem dX2_undo_29 : decode cX2_undo 29 = .ok (.getfield 257, 3) := dk_180 1 1 (dk_at dksX2_undo_1 7 rfl rfl)
theorem dX2_undo_32 : decode cX2_undo 32 = .ok (.iconst 1, 1) := dk_4 (dk_at dksX2_undo_1 10 rfl rfl)
theorem dX2_undo_33 : decode cX2_undo 33 = .ok (.isub, 1) := dk_100 (dk_at dksX2_undo_1 11 rfl rfl)
theorem dX2_undo_34 : decode cX2_undo 34 = .ok (.putfield 257, 3) := dk_181 1 1 (dk_at dksX2_undo_1 12 rfl rfl)
theorem dX2_undo_37 : decode cX2_undo 37 = .ok (.aload_n 0, 1) := dk_42 (dk_at dksX2_undo_1 15 rfl rfl)
theorem dX2_undo_38 : decode cX2_undo 38 = .ok (.getfield 16, 3) := dk_180 0 16 (dk_at dksX2_undo_1 16 rfl rfl)
theorem dX2_undo_41 : decode cX2_undo 41 = .ok (.sipush 273, 3) := dk_17 1 17 (dk_at dksX2_undo_1 19 rfl rfl)
theorem dX2_undo_44 : decode cX2_undo 44 = .ok (.iconst 0, 1) := dk_3 (dk_at dksX2_undo_1 22 rfl rfl)
theorem dX2_undo_45 : decode cX2_undo 45 = .ok (.aload_n 0, 1) := dk_42 (dk_at dksX2_undo_1 23 rfl rfl)
theorem dX2_undo_46 : decode cX2_undo 46 = .ok (.getfield 257, 3) := dk_180 1 1 (dk_at dksX2_undo_2 0 rfl rfl)
theorem dX2_undo_49 : decode cX2_undo 49 = .ok (.iadd, 1) := dk_96 (dk_at dksX2_undo_2 3 rfl rfl)
theorem dX2_undo_50 : decode cX2_undo 50 = .ok (.imul, 1) := dk_104 (dk_at dksX2_undo_2 4 rfl rfl)
theorem dX2_undo_51 : decode cX2_undo 51 = .ok (.aload_n 0, 1) := dk_42 (dk_at dksX2_undo_2 5 rfl rfl)
theorem dX2_undo_52 : decode cX2_undo 52 = .ok (.getfield 13, 3) := dk_180 0 13 (dk_at dksX2_undo_2 6 rfl rfl)
theorem dX2_undo_55 : decode cX2_undo 55 = .ok (.iconst 0, 1) := dk_3 (dk_at dksX2_undo_2 9 rfl rfl)
theorem dX2_undo_56 : decode cX2_undo 56 = .ok (.invokestatic 47, 3) := dk_184 0 47 (dk_at dksX2_undo_2 10 rfl rfl)
theorem dX2_undo_59 : decode cX2_undo 59 = .ok (.aload_n 0, 1) := dk_42 (dk_at dksX2_undo_2 13 rfl rfl)
theorem dX2_undo_60 : decode cX2_undo 60 = .ok (.getfield 257, 3) := dk_180 1 1 (dk_at dksX2_undo_2 14 rfl rfl)
theorem dX2_undo_63 : decode cX2_undo 63 = .ok (.ireturn, 1) := dk_172 (dk_at dksX2_undo_2 17 rfl rfl)
abbrev cX2_undoable : ByteArray := prog_14_method_131_code
def yX2_undoable : MethodName := ⟨RX2, "undoable", "()I"⟩
def dkwX2_undoable_0 : List UInt8 := [42, 3, 181, 0, 36, 42, 180, 1, 1, 172]
abbrev dktX2_undoable_0 : List UInt8 := dkwX2_undoable_0 ++ []
theorem dksX2_undoable_0 : cX2_undoable.data.toList.drop 0 = dktX2_undoable_0 := by decide +kernel
theorem dX2_undoable_0 : decode cX2_undoable 0 = .ok (.aload_n 0, 1) := dk_42 (dk_at dksX2_undoable_0 0 rfl rfl)
theorem dX2_undoable_1 : decode cX2_undoable 1 = .ok (.iconst 0, 1) := dk_3 (dk_at dksX2_undoable_0 1 rfl rfl)
theorem dX2_undoable_2 : decode cX2_undoable 2 = .ok (.putfield 36, 3) := dk_181 0 36 (dk_at dksX2_undoable_0 2 rfl rfl)
theorem dX2_undoable_5 : decode cX2_undoable 5 = .ok (.aload_n 0, 1) := dk_42 (dk_at dksX2_undoable_0 5 rfl rfl)
theorem dX2_undoable_6 : decode cX2_undoable 6 = .ok (.getfield 257, 3) := dk_180 1 1 (dk_at dksX2_undoable_0 6 rfl rfl)
theorem dX2_undoable_9 : decode cX2_undoable 9 = .ok (.ireturn, 1) := dk_172 (dk_at dksX2_undoable_0 9 rfl rfl)
abbrev cX2_save : ByteArray := prog_14_method_132_code
def yX2_save : MethodName := ⟨RX2, "save", "(I)I"⟩
def dkwX2_save_2 : List UInt8 := [104, 184, 0, 47, 42, 180, 0, 19, 27, 4, 84, 42, 3, 182, 1, 10, 172]
abbrev dktX2_save_2 : List UInt8 := dkwX2_save_2 ++ []
def dkwX2_save_1 : List UInt8 := [182, 0, 43, 153, 0, 5, 3, 172, 42, 180, 0, 13, 3, 42, 180, 0, 16, 17, 1, 17, 16, 8, 27, 96]
abbrev dktX2_save_1 : List UInt8 := dkwX2_save_1 ++ dktX2_save_2
def dkwX2_save_0 : List UInt8 := [42, 182, 1, 4, 154, 0, 26, 42, 27, 133, 9, 10, 184, 0, 195, 154, 0, 7, 4, 167, 0, 4, 3, 5]
abbrev dktX2_save_0 : List UInt8 := dkwX2_save_0 ++ dktX2_save_1
theorem dksX2_save_0 : cX2_save.data.toList.drop 0 = dktX2_save_0 := by decide +kernel
theorem dksX2_save_1 : cX2_save.data.toList.drop 24 = dktX2_save_1 := dk_seg dksX2_save_0 24 rfl rfl
theorem dksX2_save_2 : cX2_save.data.toList.drop 48 = dktX2_save_2 := dk_seg dksX2_save_1 24 rfl rfl
theorem dX2_save_0 : decode cX2_save 0 = .ok (.aload_n 0, 1) := dk_42 (dk_at dksX2_save_0 0 rfl rfl)
theorem dX2_save_1 : decode cX2_save 1 = .ok (.invokevirtual 260, 3) := dk_182 1 4 (dk_at dksX2_save_0 1 rfl rfl)
theorem dX2_save_4 : decode cX2_save 4 = .ok (.ifCond .ne 26, 3) := dk_154 0 26 (dk_at dksX2_save_0 4 rfl rfl)
theorem dX2_save_7 : decode cX2_save 7 = .ok (.aload_n 0, 1) := dk_42 (dk_at dksX2_save_0 7 rfl rfl)
theorem dX2_save_8 : decode cX2_save 8 = .ok (.iload_n 1, 1) := dk_27 (dk_at dksX2_save_0 8 rfl rfl)
theorem dX2_save_9 : decode cX2_save 9 = .ok (.i2l, 1) := dk_133 (dk_at dksX2_save_0 9 rfl rfl)
theorem dX2_save_10 : decode cX2_save 10 = .ok (.lconst 0, 1) := dk_9 (dk_at dksX2_save_0 10 rfl rfl)
theorem dX2_save_11 : decode cX2_save 11 = .ok (.lconst 1, 1) := dk_10 (dk_at dksX2_save_0 11 rfl rfl)
theorem dX2_save_12 : decode cX2_save 12 = .ok (.invokestatic 195, 3) := dk_184 0 195 (dk_at dksX2_save_0 12 rfl rfl)
theorem dX2_save_15 : decode cX2_save 15 = .ok (.ifCond .ne 7, 3) := dk_154 0 7 (dk_at dksX2_save_0 15 rfl rfl)
theorem dX2_save_18 : decode cX2_save 18 = .ok (.iconst 1, 1) := dk_4 (dk_at dksX2_save_0 18 rfl rfl)
theorem dX2_save_19 : decode cX2_save 19 = .ok (.goto 4, 3) := dk_167 0 4 (dk_at dksX2_save_0 19 rfl rfl)
theorem dX2_save_22 : decode cX2_save 22 = .ok (.iconst 0, 1) := dk_3 (dk_at dksX2_save_0 22 rfl rfl)
theorem dX2_save_23 : decode cX2_save 23 = .ok (.iconst 2, 1) := dk_5 (dk_at dksX2_save_0 23 rfl rfl)
theorem dX2_save_24 : decode cX2_save 24 = .ok (.invokevirtual 43, 3) := dk_182 0 43 (dk_at dksX2_save_1 0 rfl rfl)
theorem dX2_save_27 : decode cX2_save 27 = .ok (.ifCond .eq 5, 3) := dk_153 0 5 (dk_at dksX2_save_1 3 rfl rfl)
theorem dX2_save_30 : decode cX2_save 30 = .ok (.iconst 0, 1) := dk_3 (dk_at dksX2_save_1 6 rfl rfl)
theorem dX2_save_31 : decode cX2_save 31 = .ok (.ireturn, 1) := dk_172 (dk_at dksX2_save_1 7 rfl rfl)
theorem dX2_save_32 : decode cX2_save 32 = .ok (.aload_n 0, 1) := dk_42 (dk_at dksX2_save_1 8 rfl rfl)
theorem dX2_save_33 : decode cX2_save 33 = .ok (.getfield 13, 3) := dk_180 0 13 (dk_at dksX2_save_1 9 rfl rfl)
theorem dX2_save_36 : decode cX2_save 36 = .ok (.iconst 0, 1) := dk_3 (dk_at dksX2_save_1 12 rfl rfl)
theorem dX2_save_37 : decode cX2_save 37 = .ok (.aload_n 0, 1) := dk_42 (dk_at dksX2_save_1 13 rfl rfl)
theorem dX2_save_38 : decode cX2_save 38 = .ok (.getfield 16, 3) := dk_180 0 16 (dk_at dksX2_save_1 14 rfl rfl)
theorem dX2_save_41 : decode cX2_save 41 = .ok (.sipush 273, 3) := dk_17 1 17 (dk_at dksX2_save_1 17 rfl rfl)
theorem dX2_save_44 : decode cX2_save 44 = .ok (.bipush 8, 2) := dk_16 8 (dk_at dksX2_save_1 20 rfl rfl)
theorem dX2_save_46 : decode cX2_save 46 = .ok (.iload_n 1, 1) := dk_27 (dk_at dksX2_save_1 22 rfl rfl)
theorem dX2_save_47 : decode cX2_save 47 = .ok (.iadd, 1) := dk_96 (dk_at dksX2_save_1 23 rfl rfl)
theorem dX2_save_48 : decode cX2_save 48 = .ok (.imul, 1) := dk_104 (dk_at dksX2_save_2 0 rfl rfl)
theorem dX2_save_49 : decode cX2_save 49 = .ok (.invokestatic 47, 3) := dk_184 0 47 (dk_at dksX2_save_2 1 rfl rfl)
theorem dX2_save_52 : decode cX2_save 52 = .ok (.aload_n 0, 1) := dk_42 (dk_at dksX2_save_2 4 rfl rfl)
theorem dX2_save_53 : decode cX2_save 53 = .ok (.getfield 19, 3) := dk_180 0 19 (dk_at dksX2_save_2 5 rfl rfl)
theorem dX2_save_56 : decode cX2_save 56 = .ok (.iload_n 1, 1) := dk_27 (dk_at dksX2_save_2 8 rfl rfl)
theorem dX2_save_57 : decode cX2_save 57 = .ok (.iconst 1, 1) := dk_4 (dk_at dksX2_save_2 9 rfl rfl)
theorem dX2_save_58 : decode cX2_save 58 = .ok (.bastore, 1) := dk_84 (dk_at dksX2_save_2 10 rfl rfl)
theorem dX2_save_59 : decode cX2_save 59 = .ok (.aload_n 0, 1) := dk_42 (dk_at dksX2_save_2 11 rfl rfl)
theorem dX2_save_60 : decode cX2_save 60 = .ok (.iconst 0, 1) := dk_3 (dk_at dksX2_save_2 12 rfl rfl)
theorem dX2_save_61 : decode cX2_save 61 = .ok (.invokevirtual 266, 3) := dk_182 1 10 (dk_at dksX2_save_2 13 rfl rfl)
theorem dX2_save_64 : decode cX2_save 64 = .ok (.ireturn, 1) := dk_172 (dk_at dksX2_save_2 16 rfl rfl)
abbrev cX2_restore : ByteArray := prog_14_method_133_code
def yX2_restore : MethodName := ⟨RX2, "restore", "(I)I"⟩
def dkwX2_restore_3 : List UInt8 := [3, 184, 0, 47, 42, 3, 181, 1, 1, 42, 3, 182, 1, 10, 172]
abbrev dktX2_restore_3 : List UInt8 := dkwX2_restore_3 ++ []
def dkwX2_restore_2 : List UInt8 := [182, 0, 43, 153, 0, 5, 3, 172, 42, 180, 0, 16, 17, 1, 17, 16, 8, 27, 96, 104, 42, 180, 0, 13]
abbrev dktX2_restore_2 : List UInt8 := dkwX2_restore_2 ++ dktX2_restore_3
def dkwX2_restore_1 : List UInt8 := [182, 0, 43, 154, 0, 25, 42, 42, 180, 0, 19, 27, 51, 154, 0, 7, 4, 167, 0, 4, 3, 5]
abbrev dktX2_restore_1 : List UInt8 := dkwX2_restore_1 ++ dktX2_restore_2
def dkwX2_restore_0 : List UInt8 := [42, 3, 181, 0, 36, 42, 27, 133, 9, 10, 184, 0, 195, 154, 0, 7, 4, 167, 0, 4, 3, 4]
abbrev dktX2_restore_0 : List UInt8 := dkwX2_restore_0 ++ dktX2_restore_1
theorem dksX2_restore_0 : cX2_restore.data.toList.drop 0 = dktX2_restore_0 := by decide +kernel
theorem dksX2_restore_1 : cX2_restore.data.toList.drop 22 = dktX2_restore_1 := dk_seg dksX2_restore_0 22 rfl rfl
theorem dksX2_restore_2 : cX2_restore.data.toList.drop 44 = dktX2_restore_2 := dk_seg dksX2_restore_1 22 rfl rfl
theorem dksX2_restore_3 : cX2_restore.data.toList.drop 68 = dktX2_restore_3 := dk_seg dksX2_restore_2 24 rfl rfl
theorem dX2_restore_0 : decode cX2_restore 0 = .ok (.aload_n 0, 1) := dk_42 (dk_at dksX2_restore_0 0 rfl rfl)
theorem dX2_restore_1 : decode cX2_restore 1 = .ok (.iconst 0, 1) := dk_3 (dk_at dksX2_restore_0 1 rfl rfl)
theorem dX2_restore_2 : decode cX2_restore 2 = .ok (.putfield 36, 3) := dk_181 0 36 (dk_at dksX2_restore_0 2 rfl rfl)
theorem dX2_restore_5 : decode cX2_restore 5 = .ok (.aload_n 0, 1) := dk_42 (dk_at dksX2_restore_0 5 rfl rfl)
theorem dX2_restore_6 : decode cX2_restore 6 = .ok (.iload_n 1, 1) := dk_27 (dk_at dksX2_restore_0 6 rfl rfl)
theorem dX2_restore_7 : decode cX2_restore 7 = .ok (.i2l, 1) := dk_133 (dk_at dksX2_restore_0 7 rfl rfl)
theorem dX2_restore_8 : decode cX2_restore 8 = .ok (.lconst 0, 1) := dk_9 (dk_at dksX2_restore_0 8 rfl rfl)
theorem dX2_restore_9 : decode cX2_restore 9 = .ok (.lconst 1, 1) := dk_10 (dk_at dksX2_restore_0 9 rfl rfl)
theorem dX2_restore_10 : decode cX2_restore 10 = .ok (.invokestatic 195, 3) := dk_184 0 195 (dk_at dksX2_restore_0 10 rfl rfl)
theorem dX2_restore_13 : decode cX2_restore 13 = .ok (.ifCond .ne 7, 3) := dk_154 0 7 (dk_at dksX2_restore_0 13 rfl rfl)
theorem dX2_restore_16 : decode cX2_restore 16 = .ok (.iconst 1, 1) := dk_4 (dk_at dksX2_restore_0 16 rfl rfl)
theorem dX2_restore_17 : decode cX2_restore 17 = .ok (.goto 4, 3) := dk_167 0 4 (dk_at dksX2_restore_0 17 rfl rfl)
theorem dX2_restore_20 : decode cX2_restore 20 = .ok (.iconst 0, 1) := dk_3 (dk_at dksX2_restore_0 20 rfl rfl)
theorem dX2_restore_21 : decode cX2_restore 21 = .ok (.iconst 1, 1) := dk_4 (dk_at dksX2_restore_0 21 rfl rfl)
theorem dX2_restore_22 : decode cX2_restore 22 = .ok (.invokevirtual 43, 3) := dk_182 0 43 (dk_at dksX2_restore_1 0 rfl rfl)
theorem dX2_restore_25 : decode cX2_restore 25 = .ok (.ifCond .ne 25, 3) := dk_154 0 25 (dk_at dksX2_restore_1 3 rfl rfl)
theorem dX2_restore_28 : decode cX2_restore 28 = .ok (.aload_n 0, 1) := dk_42 (dk_at dksX2_restore_1 6 rfl rfl)
theorem dX2_restore_29 : decode cX2_restore 29 = .ok (.aload_n 0, 1) := dk_42 (dk_at dksX2_restore_1 7 rfl rfl)
theorem dX2_restore_30 : decode cX2_restore 30 = .ok (.getfield 19, 3) := dk_180 0 19 (dk_at dksX2_restore_1 8 rfl rfl)
theorem dX2_restore_33 : decode cX2_restore 33 = .ok (.iload_n 1, 1) := dk_27 (dk_at dksX2_restore_1 11 rfl rfl)
theorem dX2_restore_34 : decode cX2_restore 34 = .ok (.baload, 1) := dk_51 (dk_at dksX2_restore_1 12 rfl rfl)
theorem dX2_restore_35 : decode cX2_restore 35 = .ok (.ifCond .ne 7, 3) := dk_154 0 7 (dk_at dksX2_restore_1 13 rfl rfl)
theorem dX2_restore_38 : decode cX2_restore 38 = .ok (.iconst 1, 1) := dk_4 (dk_at dksX2_restore_1 16 rfl rfl)
theorem dX2_restore_39 : decode cX2_restore 39 = .ok (.goto 4, 3) := dk_167 0 4 (dk_at dksX2_restore_1 17 rfl rfl)
theorem dX2_restore_42 : decode cX2_restore 42 = .ok (.iconst 0, 1) := dk_3 (dk_at dksX2_restore_1 20 rfl rfl)
theorem dX2_restore_43 : decode cX2_restore 43 = .ok (.iconst 2, 1) := dk_5 (dk_at dksX2_restore_1 21 rfl rfl)
theorem dX2_restore_44 : decode cX2_restore 44 = .ok (.invokevirtual 43, 3) := dk_182 0 43 (dk_at dksX2_restore_2 0 rfl rfl)
theorem dX2_restore_47 : decode cX2_restore 47 = .ok (.ifCond .eq 5, 3) := dk_153 0 5 (dk_at dksX2_restore_2 3 rfl rfl)
theorem dX2_restore_50 : decode cX2_restore 50 = .ok (.iconst 0, 1) := dk_3 (dk_at dksX2_restore_2 6 rfl rfl)
theorem dX2_restore_51 : decode cX2_restore 51 = .ok (.ireturn, 1) := dk_172 (dk_at dksX2_restore_2 7 rfl rfl)
theorem dX2_restore_52 : decode cX2_restore 52 = .ok (.aload_n 0, 1) := dk_42 (dk_at dksX2_restore_2 8 rfl rfl)
theorem dX2_restore_53 : decode cX2_restore 53 = .ok (.getfield 16, 3) := dk_180 0 16 (dk_at dksX2_restore_2 9 rfl rfl)
theorem dX2_restore_56 : decode cX2_restore 56 = .ok (.sipush 273, 3) := dk_17 1 17 (dk_at dksX2_restore_2 12 rfl rfl)
theorem dX2_restore_59 : decode cX2_restore 59 = .ok (.bipush 8, 2) := dk_16 8 (dk_at dksX2_restore_2 15 rfl rfl)
theorem dX2_restore_61 : decode cX2_restore 61 = .ok (.iload_n 1, 1) := dk_27 (dk_at dksX2_restore_2 17 rfl rfl)
theorem dX2_restore_62 : decode cX2_restore 62 = .ok (.iadd, 1) := dk_96 (dk_at dksX2_restore_2 18 rfl rfl)
theorem dX2_restore_63 : decode cX2_restore 63 = .ok (.imul, 1) := dk_104 (dk_at dksX2_restore_2 19 rfl rfl)
theorem dX2_restore_64 : decode cX2_restore 64 = .ok (.aload_n 0, 1) := dk_42 (dk_at dksX2_restore_2 20 rfl rfl)
theorem dX2_restore_65 : decode cX2_restore 65 = .ok (.getfield 13, 3) := dk_180 0 13 (dk_at dksX2_restore_2 21 rfl rfl)
theorem dX2_restore_68 : decode cX2_restore 68 = .ok (.iconst 0, 1) := dk_3 (dk_at dksX2_restore_3 0 rfl rfl)
theorem dX2_restore_69 : decode cX2_restore 69 = .ok (.invokestatic 47, 3) := dk_184 0 47 (dk_at dksX2_restore_3 1 rfl rfl)
theorem dX2_restore_72 : decode cX2_restore 72 = .ok (.aload_n 0, 1) := dk_42 (dk_at dksX2_restore_3 4 rfl rfl)
theorem dX2_restore_73 : decode cX2_restore 73 = .ok (.iconst 0, 1) := dk_3 (dk_at dksX2_restore_3 5 rfl rfl)
theorem dX2_restore_74 : decode cX2_restore 74 = .ok (.putfield 257, 3) := dk_181 1 1 (dk_at dksX2_restore_3 6 rfl rfl)
theorem dX2_restore_77 : decode cX2_restore 77 = .ok (.aload_n 0, 1) := dk_42 (dk_at dksX2_restore_3 9 rfl rfl)
theorem dX2_restore_78 : decode cX2_restore 78 = .ok (.iconst 0, 1) := dk_3 (dk_at dksX2_restore_3 10 rfl rfl)
theorem dX2_restore_79 : decode cX2_restore 79 = .ok (.invokevirtual 266, 3) := dk_182 1 10 (dk_at dksX2_restore_3 11 rfl rfl)
theorem dX2_restore_82 : decode cX2_restore 82 = .ok (.ireturn, 1) := dk_172 (dk_at dksX2_restore_3 14 rfl rfl)
theorem q117 : (Jvm.Cond.initialized "BadCodesModel") ∈ lw_all := lw_g (lw_at lw_m1 6 rfl) rfl
theorem q1042 : (Jvm.Cond.selects "BadCodesModel" ({ cls := "java/lang/Object", name := "getClass", desc := "()Ljava/lang/Class;" } : Jvm.MethodName) ({ cls := "java/lang/Object", name := "getClass", desc := "()Ljava/lang/Class;" } : Jvm.MethodName)) ∈ lw_all := lw_g (lw_at lw_m4 211 rfl) rfl
theorem q1946 : (Jvm.Cond.instantiable "BadCodesModel" (22 : Nat)) ∈ lw_all := lw_g (lw_at lw_m8 155 rfl) rfl
theorem q1948 : (Jvm.Cond.instanceMethod ({ cls := "BadCodesModel", name := "<init>", desc := "()V" } : Jvm.MethodName)) ∈ lw_all := lw_g (lw_at lw_m8 157 rfl) rfl
theorem q1949 : (Jvm.Cond.code ({ cls := "BadCodesModel", name := "<init>", desc := "()V" } : Jvm.MethodName) prog_14_method_1_code (1 : Nat) (Option.none : Option Jvm.ClassFile.FieldType)) ∈ lw_all := lw_g (lw_at lw_m8 158 rfl) rfl
theorem q1950 : (Jvm.Cond.methodLink "BadCodesModel" (1 : Nat) ({ cls := "java/lang/Object", name := "<init>", desc := "()V" } : Jvm.MethodName)) ∈ lw_all := lw_g (lw_at lw_m8 159 rfl) rfl
theorem q1951 : (Jvm.Cond.fieldLink "BadCodesModel" (36 : Nat) "BadCodesModel" "thrown" "I") ∈ lw_all := lw_g (lw_at lw_m8 160 rfl) rfl
theorem q1952 : (Jvm.Cond.fieldLink "BadCodesModel" (39 : Nat) "BadCodesModel" "isLoaded" "Z") ∈ lw_all := lw_g (lw_at lw_m8 161 rfl) rfl
theorem q1953 : (Jvm.Cond.fieldLink "BadCodesModel" (7 : Nat) "BadCodesModel" "h" "[I") ∈ lw_all := lw_g (lw_at lw_m8 162 rfl) rfl
theorem q1954 : (Jvm.Cond.fieldLink "BadCodesModel" (13 : Nat) "BadCodesModel" "s" "[I") ∈ lw_all := lw_g (lw_at lw_m8 163 rfl) rfl
theorem q1955 : (Jvm.Cond.fieldLink "BadCodesModel" (16 : Nat) "BadCodesModel" "stores" "[I") ∈ lw_all := lw_g (lw_at lw_m8 164 rfl) rfl
theorem q1956 : (Jvm.Cond.fieldLink "BadCodesModel" (257 : Nat) "BadCodesModel" "changes" "I") ∈ lw_all := lw_g (lw_at lw_m8 165 rfl) rfl
theorem q1957 : (Jvm.Cond.fieldLink "BadCodesModel" (19 : Nat) "BadCodesModel" "isKept" "[Z") ∈ lw_all := lw_g (lw_at lw_m8 166 rfl) rfl
theorem q1958 : (Jvm.Cond.fieldLink "BadCodesModel" (23 : Nat) "BadCodesModel" "buffer" "[I") ∈ lw_all := lw_g (lw_at lw_m8 167 rfl) rfl
theorem q1959 : (Jvm.Cond.fieldLink "BadCodesModel" (140 : Nat) "BadCodesModel" "buffered" "I") ∈ lw_all := lw_g (lw_at lw_m8 168 rfl) rfl
theorem q1960 : (Jvm.Cond.fieldLink "BadCodesModel" (143 : Nat) "BadCodesModel" "parseError" "I") ∈ lw_all := lw_g (lw_at lw_m8 169 rfl) rfl
theorem q1961 : (Jvm.Cond.fieldLink "BadCodesModel" (26 : Nat) "BadCodesModel" "errorPosition" "I") ∈ lw_all := lw_g (lw_at lw_m8 170 rfl) rfl
theorem q1962 : (Jvm.Cond.fieldLink "BadCodesModel" (146 : Nat) "BadCodesModel" "length" "I") ∈ lw_all := lw_g (lw_at lw_m8 171 rfl) rfl
theorem q1963 : (Jvm.Cond.fieldLink "BadCodesModel" (153 : Nat) "BadCodesModel" "next" "I") ∈ lw_all := lw_g (lw_at lw_m8 172 rfl) rfl
theorem q1964 : (Jvm.Cond.fieldLink "BadCodesModel" (159 : Nat) "BadCodesModel" "from" "I") ∈ lw_all := lw_g (lw_at lw_m8 173 rfl) rfl
theorem q1965 : (Jvm.Cond.fieldLink "BadCodesModel" (162 : Nat) "BadCodesModel" "sort" "I") ∈ lw_all := lw_g (lw_at lw_m8 174 rfl) rfl
theorem q1966 : (Jvm.Cond.fieldLink "BadCodesModel" (171 : Nat) "BadCodesModel" "number" "I") ∈ lw_all := lw_g (lw_at lw_m8 175 rfl) rfl
theorem q1967 : (Jvm.Cond.fieldLink "BadCodesModel" (174 : Nat) "BadCodesModel" "bad" "I") ∈ lw_all := lw_g (lw_at lw_m8 176 rfl) rfl
theorem q1968 : (Jvm.Cond.fieldLink "BadCodesModel" (177 : Nat) "BadCodesModel" "badAt" "I") ∈ lw_all := lw_g (lw_at lw_m8 177 rfl) rfl
theorem q1969 : (Jvm.Cond.fieldLink "BadCodesModel" (30 : Nat) "BadCodesModel" "heldTold" "[I") ∈ lw_all := lw_g (lw_at lw_m8 178 rfl) rfl
theorem q1970 : (Jvm.Cond.fieldLink "BadCodesModel" (205 : Nat) "BadCodesModel" "wasSorted" "Z") ∈ lw_all := lw_g (lw_at lw_m8 179 rfl) rfl
theorem q1971 : (Jvm.Cond.fieldLink "BadCodesModel" (33 : Nat) "BadCodesModel" "text" "[I") ∈ lw_all := lw_g (lw_at lw_m8 180 rfl) rfl
theorem q1972 : (Jvm.Cond.fieldLink "BadCodesModel" (360 : Nat) "BadCodesModel" "textLong" "I") ∈ lw_all := lw_g (lw_at lw_m8 181 rfl) rfl
theorem q1973 : (Jvm.Cond.lays "BadCodesModel" "BadCodesModel" "thrown" "I") ∈ lw_all := lw_g (lw_at lw_m8 182 rfl) rfl
theorem q1974 : (Jvm.Cond.soleField "BadCodesModel" "thrown") ∈ lw_all := lw_g (lw_at lw_m8 183 rfl) rfl
theorem q1975 : (Jvm.Cond.lays "BadCodesModel" "BadCodesModel" "isLoaded" "Z") ∈ lw_all := lw_g (lw_at lw_m8 184 rfl) rfl
theorem q1976 : (Jvm.Cond.soleField "BadCodesModel" "isLoaded") ∈ lw_all := lw_g (lw_at lw_m8 185 rfl) rfl
theorem q1977 : (Jvm.Cond.laysFinal "BadCodesModel" "BadCodesModel" "h" "[I") ∈ lw_all := lw_g (lw_at lw_m8 186 rfl) rfl
theorem q1978 : (Jvm.Cond.soleField "BadCodesModel" "h") ∈ lw_all := lw_g (lw_at lw_m8 187 rfl) rfl
theorem q1979 : (Jvm.Cond.laysFinal "BadCodesModel" "BadCodesModel" "s" "[I") ∈ lw_all := lw_g (lw_at lw_m8 188 rfl) rfl
theorem q1980 : (Jvm.Cond.soleField "BadCodesModel" "s") ∈ lw_all := lw_g (lw_at lw_m8 189 rfl) rfl
theorem q1981 : (Jvm.Cond.laysFinal "BadCodesModel" "BadCodesModel" "stores" "[I") ∈ lw_all := lw_g (lw_at lw_m8 190 rfl) rfl
theorem q1982 : (Jvm.Cond.soleField "BadCodesModel" "stores") ∈ lw_all := lw_g (lw_at lw_m8 191 rfl) rfl
theorem q1983 : (Jvm.Cond.lays "BadCodesModel" "BadCodesModel" "changes" "I") ∈ lw_all := lw_g (lw_at lw_m8 192 rfl) rfl
theorem q1984 : (Jvm.Cond.soleField "BadCodesModel" "changes") ∈ lw_all := lw_g (lw_at lw_m8 193 rfl) rfl
theorem q1985 : (Jvm.Cond.laysFinal "BadCodesModel" "BadCodesModel" "isKept" "[Z") ∈ lw_all := lw_g (lw_at lw_m8 194 rfl) rfl
theorem q1986 : (Jvm.Cond.soleField "BadCodesModel" "isKept") ∈ lw_all := lw_g (lw_at lw_m8 195 rfl) rfl
theorem q1987 : (Jvm.Cond.laysFinal "BadCodesModel" "BadCodesModel" "buffer" "[I") ∈ lw_all := lw_g (lw_at lw_m8 196 rfl) rfl
theorem q1988 : (Jvm.Cond.soleField "BadCodesModel" "buffer") ∈ lw_all := lw_g (lw_at lw_m8 197 rfl) rfl
theorem q1989 : (Jvm.Cond.lays "BadCodesModel" "BadCodesModel" "buffered" "I") ∈ lw_all := lw_g (lw_at lw_m8 198 rfl) rfl
theorem q1990 : (Jvm.Cond.soleField "BadCodesModel" "buffered") ∈ lw_all := lw_g (lw_at lw_m8 199 rfl) rfl
theorem q1991 : (Jvm.Cond.lays "BadCodesModel" "BadCodesModel" "parseError" "I") ∈ lw_all := lw_g (lw_at lw_m8 200 rfl) rfl
theorem q1992 : (Jvm.Cond.soleField "BadCodesModel" "parseError") ∈ lw_all := lw_g (lw_at lw_m8 201 rfl) rfl
theorem q1993 : (Jvm.Cond.lays "BadCodesModel" "BadCodesModel" "errorPosition" "I") ∈ lw_all := lw_g (lw_at lw_m8 202 rfl) rfl
theorem q1994 : (Jvm.Cond.soleField "BadCodesModel" "errorPosition") ∈ lw_all := lw_g (lw_at lw_m8 203 rfl) rfl
theorem q1995 : (Jvm.Cond.lays "BadCodesModel" "BadCodesModel" "length" "I") ∈ lw_all := lw_g (lw_at lw_m8 204 rfl) rfl
theorem q1996 : (Jvm.Cond.soleField "BadCodesModel" "length") ∈ lw_all := lw_g (lw_at lw_m8 205 rfl) rfl
theorem q1997 : (Jvm.Cond.lays "BadCodesModel" "BadCodesModel" "next" "I") ∈ lw_all := lw_g (lw_at lw_m8 206 rfl) rfl
theorem q1998 : (Jvm.Cond.soleField "BadCodesModel" "next") ∈ lw_all := lw_g (lw_at lw_m8 207 rfl) rfl
theorem q1999 : (Jvm.Cond.lays "BadCodesModel" "BadCodesModel" "from" "I") ∈ lw_all := lw_g (lw_at lw_m8 208 rfl) rfl
theorem q2000 : (Jvm.Cond.soleField "BadCodesModel" "from") ∈ lw_all := lw_g (lw_at lw_m8 209 rfl) rfl
theorem q2001 : (Jvm.Cond.lays "BadCodesModel" "BadCodesModel" "sort" "I") ∈ lw_all := lw_g (lw_at lw_m8 210 rfl) rfl
theorem q2002 : (Jvm.Cond.soleField "BadCodesModel" "sort") ∈ lw_all := lw_g (lw_at lw_m8 211 rfl) rfl
theorem q2003 : (Jvm.Cond.lays "BadCodesModel" "BadCodesModel" "number" "I") ∈ lw_all := lw_g (lw_at lw_m8 212 rfl) rfl
theorem q2004 : (Jvm.Cond.soleField "BadCodesModel" "number") ∈ lw_all := lw_g (lw_at lw_m8 213 rfl) rfl
theorem q2005 : (Jvm.Cond.lays "BadCodesModel" "BadCodesModel" "bad" "I") ∈ lw_all := lw_g (lw_at lw_m8 214 rfl) rfl
theorem q2006 : (Jvm.Cond.soleField "BadCodesModel" "bad") ∈ lw_all := lw_g (lw_at lw_m8 215 rfl) rfl
theorem q2007 : (Jvm.Cond.lays "BadCodesModel" "BadCodesModel" "badAt" "I") ∈ lw_all := lw_g (lw_at lw_m8 216 rfl) rfl
theorem q2008 : (Jvm.Cond.soleField "BadCodesModel" "badAt") ∈ lw_all := lw_g (lw_at lw_m8 217 rfl) rfl
theorem q2009 : (Jvm.Cond.laysFinal "BadCodesModel" "BadCodesModel" "heldTold" "[I") ∈ lw_all := lw_g (lw_at lw_m8 218 rfl) rfl
theorem q2010 : (Jvm.Cond.soleField "BadCodesModel" "heldTold") ∈ lw_all := lw_g (lw_at lw_m8 219 rfl) rfl
theorem q2011 : (Jvm.Cond.lays "BadCodesModel" "BadCodesModel" "wasSorted" "Z") ∈ lw_all := lw_g (lw_at lw_m8 220 rfl) rfl
theorem q2012 : (Jvm.Cond.soleField "BadCodesModel" "wasSorted") ∈ lw_all := lw_g (lw_at lw_m8 221 rfl) rfl
theorem q2013 : (Jvm.Cond.laysFinal "BadCodesModel" "BadCodesModel" "text" "[I") ∈ lw_all := lw_g (lw_at lw_m8 222 rfl) rfl
theorem q2014 : (Jvm.Cond.soleField "BadCodesModel" "text") ∈ lw_all := lw_g (lw_at lw_m8 223 rfl) rfl
theorem q2015 : (Jvm.Cond.lays "BadCodesModel" "BadCodesModel" "textLong" "I") ∈ lw_all := lw_g (lw_at lw_m8 224 rfl) rfl
theorem q2016 : (Jvm.Cond.soleField "BadCodesModel" "textLong") ∈ lw_all := lw_g (lw_at lw_m8 225 rfl) rfl
theorem q2017 : (Jvm.Cond.superclass "BadCodesModel" "java/lang/Object") ∈ lw_all := lw_g (lw_at lw_m8 226 rfl) rfl
theorem q2019 : (Jvm.Cond.instanceMethod ({ cls := "BadCodesModel", name := "thrown", desc := "()I" } : Jvm.MethodName)) ∈ lw_all := lw_g (lw_at lw_m8 228 rfl) rfl
theorem q2020 : (Jvm.Cond.selects "BadCodesModel" ({ cls := "BadCodesModel", name := "thrown", desc := "()I" } : Jvm.MethodName) ({ cls := "BadCodesModel", name := "thrown", desc := "()I" } : Jvm.MethodName)) ∈ lw_all := lw_g (lw_at lw_m8 229 rfl) rfl
theorem q2021 : (Jvm.Cond.code ({ cls := "BadCodesModel", name := "thrown", desc := "()I" } : Jvm.MethodName) prog_14_method_2_code (1 : Nat) (Option.some Jvm.ClassFile.FieldType.int)) ∈ lw_all := lw_g (lw_at lw_m8 230 rfl) rfl
theorem q2023 : (Jvm.Cond.instanceMethod ({ cls := "BadCodesModel", name := "append", desc := "(IIIII)I" } : Jvm.MethodName)) ∈ lw_all := lw_g (lw_at lw_m8 232 rfl) rfl
theorem q2024 : (Jvm.Cond.selects "BadCodesModel" ({ cls := "BadCodesModel", name := "append", desc := "(IIIII)I" } : Jvm.MethodName) ({ cls := "BadCodesModel", name := "append", desc := "(IIIII)I" } : Jvm.MethodName)) ∈ lw_all := lw_g (lw_at lw_m8 233 rfl) rfl
theorem q2025 : (Jvm.Cond.code ({ cls := "BadCodesModel", name := "append", desc := "(IIIII)I" } : Jvm.MethodName) prog_14_method_37_code (8 : Nat) (Option.some Jvm.ClassFile.FieldType.int)) ∈ lw_all := lw_g (lw_at lw_m8 234 rfl) rfl
theorem q2027 : (Jvm.Cond.instanceMethod ({ cls := "BadCodesModel", name := "buffered", desc := "()I" } : Jvm.MethodName)) ∈ lw_all := lw_g (lw_at lw_m8 236 rfl) rfl
theorem q2028 : (Jvm.Cond.selects "BadCodesModel" ({ cls := "BadCodesModel", name := "buffered", desc := "()I" } : Jvm.MethodName) ({ cls := "BadCodesModel", name := "buffered", desc := "()I" } : Jvm.MethodName)) ∈ lw_all := lw_g (lw_at lw_m8 237 rfl) rfl
theorem q2029 : (Jvm.Cond.code ({ cls := "BadCodesModel", name := "buffered", desc := "()I" } : Jvm.MethodName) prog_14_method_38_code (1 : Nat) (Option.some Jvm.ClassFile.FieldType.int)) ∈ lw_all := lw_g (lw_at lw_m8 238 rfl) rfl
theorem q2031 : (Jvm.Cond.instanceMethod ({ cls := "BadCodesModel", name := "parseError", desc := "()I" } : Jvm.MethodName)) ∈ lw_all := lw_g (lw_at lw_m9 0 rfl) rfl
theorem q2032 : (Jvm.Cond.selects "BadCodesModel" ({ cls := "BadCodesModel", name := "parseError", desc := "()I" } : Jvm.MethodName) ({ cls := "BadCodesModel", name := "parseError", desc := "()I" } : Jvm.MethodName)) ∈ lw_all := lw_g (lw_at lw_m9 1 rfl) rfl
theorem q2033 : (Jvm.Cond.code ({ cls := "BadCodesModel", name := "parseError", desc := "()I" } : Jvm.MethodName) prog_14_method_39_code (1 : Nat) (Option.some Jvm.ClassFile.FieldType.int)) ∈ lw_all := lw_g (lw_at lw_m9 2 rfl) rfl
theorem q2035 : (Jvm.Cond.instanceMethod ({ cls := "BadCodesModel", name := "errorPosition", desc := "()I" } : Jvm.MethodName)) ∈ lw_all := lw_g (lw_at lw_m9 4 rfl) rfl
theorem q2036 : (Jvm.Cond.selects "BadCodesModel" ({ cls := "BadCodesModel", name := "errorPosition", desc := "()I" } : Jvm.MethodName) ({ cls := "BadCodesModel", name := "errorPosition", desc := "()I" } : Jvm.MethodName)) ∈ lw_all := lw_g (lw_at lw_m9 5 rfl) rfl
theorem q2037 : (Jvm.Cond.code ({ cls := "BadCodesModel", name := "errorPosition", desc := "()I" } : Jvm.MethodName) prog_14_method_40_code (1 : Nat) (Option.some Jvm.ClassFile.FieldType.int)) ∈ lw_all := lw_g (lw_at lw_m9 6 rfl) rfl
theorem q2039 : (Jvm.Cond.instanceMethod ({ cls := "BadCodesModel", name := "load", desc := "(I)I" } : Jvm.MethodName)) ∈ lw_all := lw_g (lw_at lw_m9 8 rfl) rfl
theorem q2040 : (Jvm.Cond.selects "BadCodesModel" ({ cls := "BadCodesModel", name := "load", desc := "(I)I" } : Jvm.MethodName) ({ cls := "BadCodesModel", name := "load", desc := "(I)I" } : Jvm.MethodName)) ∈ lw_all := lw_g (lw_at lw_m9 9 rfl) rfl
theorem q2041 : (Jvm.Cond.code ({ cls := "BadCodesModel", name := "load", desc := "(I)I" } : Jvm.MethodName) prog_14_method_57_code (3 : Nat) (Option.some Jvm.ClassFile.FieldType.int)) ∈ lw_all := lw_g (lw_at lw_m9 10 rfl) rfl
theorem q2042 : (Jvm.Cond.methodLink "BadCodesModel" (195 : Nat) ({ cls := "BadCodesModel", name := "in", desc := "(JJJ)Z" } : Jvm.MethodName)) ∈ lw_all := lw_g (lw_at lw_m9 11 rfl) rfl
theorem q2043 : (Jvm.Cond.static ({ cls := "BadCodesModel", name := "in", desc := "(JJJ)Z" } : Jvm.MethodName)) ∈ lw_all := lw_g (lw_at lw_m9 12 rfl) rfl
theorem q2044 : (Jvm.Cond.code ({ cls := "BadCodesModel", name := "in", desc := "(JJJ)Z" } : Jvm.MethodName) prog_14_method_3_code (6 : Nat) (Option.some Jvm.ClassFile.FieldType.boolean)) ∈ lw_all := lw_g (lw_at lw_m9 13 rfl) rfl
theorem q2045 : (Jvm.Cond.methodLink "BadCodesModel" (43 : Nat) ({ cls := "BadCodesModel", name := "refuse", desc := "(ZI)Z" } : Jvm.MethodName)) ∈ lw_all := lw_g (lw_at lw_m9 14 rfl) rfl
theorem q2046 : (Jvm.Cond.privateMethod ({ cls := "BadCodesModel", name := "refuse", desc := "(ZI)Z" } : Jvm.MethodName)) ∈ lw_tbl := lw_at lw_m9 15 rfl
theorem q2047 : (Jvm.Cond.instanceMethod ({ cls := "BadCodesModel", name := "refuse", desc := "(ZI)Z" } : Jvm.MethodName)) ∈ lw_all := lw_g (lw_at lw_m9 16 rfl) rfl
theorem q2048 : (Jvm.Cond.code ({ cls := "BadCodesModel", name := "refuse", desc := "(ZI)Z" } : Jvm.MethodName) prog_14_method_5_code (3 : Nat) (Option.some Jvm.ClassFile.FieldType.boolean)) ∈ lw_all := lw_g (lw_at lw_m9 17 rfl) rfl
theorem q2049 : (Jvm.Cond.methodLink "BadCodesModel" (248 : Nat) ({ cls := "BadCodesModel", name := "laysAside", desc := "()V" } : Jvm.MethodName)) ∈ lw_all := lw_g (lw_at lw_m9 18 rfl) rfl
theorem q2050 : (Jvm.Cond.privateMethod ({ cls := "BadCodesModel", name := "laysAside", desc := "()V" } : Jvm.MethodName)) ∈ lw_tbl := lw_at lw_m9 19 rfl
theorem q2051 : (Jvm.Cond.instanceMethod ({ cls := "BadCodesModel", name := "laysAside", desc := "()V" } : Jvm.MethodName)) ∈ lw_all := lw_g (lw_at lw_m9 20 rfl) rfl
theorem q2052 : (Jvm.Cond.code ({ cls := "BadCodesModel", name := "laysAside", desc := "()V" } : Jvm.MethodName) prog_14_method_8_code (1 : Nat) (Option.none : Option Jvm.ClassFile.FieldType)) ∈ lw_all := lw_g (lw_at lw_m9 21 rfl) rfl
theorem q2053 : (Jvm.Cond.methodLink "BadCodesModel" (47 : Nat) ({ cls := "BadCodesModel", name := "copies", desc := "([II[II)V" } : Jvm.MethodName)) ∈ lw_all := lw_g (lw_at lw_m9 22 rfl) rfl
theorem q2054 : (Jvm.Cond.static ({ cls := "BadCodesModel", name := "copies", desc := "([II[II)V" } : Jvm.MethodName)) ∈ lw_all := lw_g (lw_at lw_m9 23 rfl) rfl
theorem q2055 : (Jvm.Cond.code ({ cls := "BadCodesModel", name := "copies", desc := "([II[II)V" } : Jvm.MethodName) prog_14_method_7_code (5 : Nat) (Option.none : Option Jvm.ClassFile.FieldType)) ∈ lw_all := lw_g (lw_at lw_m9 24 rfl) rfl
theorem q2056 : (Jvm.Cond.methodLink "BadCodesModel" (184 : Nat) ({ cls := "BadCodesModel", name := "token", desc := "()V" } : Jvm.MethodName)) ∈ lw_all := lw_g (lw_at lw_m9 25 rfl) rfl
theorem q2057 : (Jvm.Cond.privateMethod ({ cls := "BadCodesModel", name := "token", desc := "()V" } : Jvm.MethodName)) ∈ lw_tbl := lw_at lw_m9 26 rfl
theorem q2058 : (Jvm.Cond.instanceMethod ({ cls := "BadCodesModel", name := "token", desc := "()V" } : Jvm.MethodName)) ∈ lw_all := lw_g (lw_at lw_m9 27 rfl) rfl
theorem q2059 : (Jvm.Cond.code ({ cls := "BadCodesModel", name := "token", desc := "()V" } : Jvm.MethodName) prog_14_method_45_code (3 : Nat) (Option.none : Option Jvm.ClassFile.FieldType)) ∈ lw_all := lw_g (lw_at lw_m9 28 rfl) rfl
theorem q2060 : (Jvm.Cond.methodLink "BadCodesModel" (156 : Nat) ({ cls := "BadCodesModel", name := "seen", desc := "(I)I" } : Jvm.MethodName)) ∈ lw_all := lw_g (lw_at lw_m9 29 rfl) rfl
theorem q2061 : (Jvm.Cond.privateMethod ({ cls := "BadCodesModel", name := "seen", desc := "(I)I" } : Jvm.MethodName)) ∈ lw_tbl := lw_at lw_m9 30 rfl
theorem q2062 : (Jvm.Cond.instanceMethod ({ cls := "BadCodesModel", name := "seen", desc := "(I)I" } : Jvm.MethodName)) ∈ lw_all := lw_g (lw_at lw_m9 31 rfl) rfl
theorem q2063 : (Jvm.Cond.code ({ cls := "BadCodesModel", name := "seen", desc := "(I)I" } : Jvm.MethodName) prog_14_method_41_code (2 : Nat) (Option.some Jvm.ClassFile.FieldType.int)) ∈ lw_all := lw_g (lw_at lw_m9 32 rfl) rfl
theorem q2064 : (Jvm.Cond.methodLink "BadCodesModel" (165 : Nat) ({ cls := "BadCodesModel", name := "isSmall", desc := "(I)Z" } : Jvm.MethodName)) ∈ lw_all := lw_g (lw_at lw_m9 33 rfl) rfl
theorem q2065 : (Jvm.Cond.static ({ cls := "BadCodesModel", name := "isSmall", desc := "(I)Z" } : Jvm.MethodName)) ∈ lw_all := lw_g (lw_at lw_m9 34 rfl) rfl
theorem q2066 : (Jvm.Cond.code ({ cls := "BadCodesModel", name := "isSmall", desc := "(I)Z" } : Jvm.MethodName) prog_14_method_42_code (1 : Nat) (Option.some Jvm.ClassFile.FieldType.boolean)) ∈ lw_all := lw_g (lw_at lw_m9 35 rfl) rfl
theorem q2067 : (Jvm.Cond.methodLink "BadCodesModel" (168 : Nat) ({ cls := "BadCodesModel", name := "isSign", desc := "(I)Z" } : Jvm.MethodName)) ∈ lw_all := lw_g (lw_at lw_m9 36 rfl) rfl
theorem q2068 : (Jvm.Cond.static ({ cls := "BadCodesModel", name := "isSign", desc := "(I)Z" } : Jvm.MethodName)) ∈ lw_all := lw_g (lw_at lw_m9 37 rfl) rfl
theorem q2069 : (Jvm.Cond.code ({ cls := "BadCodesModel", name := "isSign", desc := "(I)Z" } : Jvm.MethodName) prog_14_method_44_code (1 : Nat) (Option.some Jvm.ClassFile.FieldType.boolean)) ∈ lw_all := lw_g (lw_at lw_m9 38 rfl) rfl
theorem q2070 : (Jvm.Cond.methodLink "BadCodesModel" (149 : Nat) ({ cls := "BadCodesModel", name := "isDigit", desc := "(I)Z" } : Jvm.MethodName)) ∈ lw_all := lw_g (lw_at lw_m9 39 rfl) rfl
theorem q2071 : (Jvm.Cond.static ({ cls := "BadCodesModel", name := "isDigit", desc := "(I)Z" } : Jvm.MethodName)) ∈ lw_all := lw_g (lw_at lw_m9 40 rfl) rfl
theorem q2072 : (Jvm.Cond.code ({ cls := "BadCodesModel", name := "isDigit", desc := "(I)Z" } : Jvm.MethodName) prog_14_method_43_code (1 : Nat) (Option.some Jvm.ClassFile.FieldType.boolean)) ∈ lw_all := lw_g (lw_at lw_m9 41 rfl) rfl
theorem q2073 : (Jvm.Cond.methodLink "BadCodesModel" (251 : Nat) ({ cls := "BadCodesModel", name := "reads", desc := "()V" } : Jvm.MethodName)) ∈ lw_all := lw_g (lw_at lw_m9 42 rfl) rfl
theorem q2074 : (Jvm.Cond.privateMethod ({ cls := "BadCodesModel", name := "reads", desc := "()V" } : Jvm.MethodName)) ∈ lw_tbl := lw_at lw_m9 43 rfl
theorem q2075 : (Jvm.Cond.instanceMethod ({ cls := "BadCodesModel", name := "reads", desc := "()V" } : Jvm.MethodName)) ∈ lw_all := lw_g (lw_at lw_m9 44 rfl) rfl
theorem q2076 : (Jvm.Cond.code ({ cls := "BadCodesModel", name := "reads", desc := "()V" } : Jvm.MethodName) prog_14_method_56_code (2 : Nat) (Option.none : Option Jvm.ClassFile.FieldType)) ∈ lw_all := lw_g (lw_at lw_m9 45 rfl) rfl
theorem q2077 : (Jvm.Cond.stringRef "BadCodesModel" (243 : Nat) "office") ∈ lw_tbl := lw_at lw_m9 46 rfl
theorem q2078 : (Jvm.Cond.methodLink "BadCodesModel" (220 : Nat) ({ cls := "BadCodesModel", name := "isWord", desc := "(Ljava/lang/String;)Z" } : Jvm.MethodName)) ∈ lw_all := lw_g (lw_at lw_m9 47 rfl) rfl
theorem q2079 : (Jvm.Cond.privateMethod ({ cls := "BadCodesModel", name := "isWord", desc := "(Ljava/lang/String;)Z" } : Jvm.MethodName)) ∈ lw_tbl := lw_at lw_m9 48 rfl
theorem q2080 : (Jvm.Cond.instanceMethod ({ cls := "BadCodesModel", name := "isWord", desc := "(Ljava/lang/String;)Z" } : Jvm.MethodName)) ∈ lw_all := lw_g (lw_at lw_m9 49 rfl) rfl
theorem q2081 : (Jvm.Cond.code ({ cls := "BadCodesModel", name := "isWord", desc := "(Ljava/lang/String;)Z" } : Jvm.MethodName) prog_14_method_49_code (3 : Nat) (Option.some Jvm.ClassFile.FieldType.boolean)) ∈ lw_all := lw_g (lw_at lw_m9 50 rfl) rfl
theorem q2082 : (Jvm.Cond.methodLink "BadCodesModel" (187 : Nat) ({ cls := "java/lang/String", name := "length", desc := "()I" } : Jvm.MethodName)) ∈ lw_all := lw_g (lw_at lw_m9 51 rfl) rfl
theorem q2083 : (Jvm.Cond.methodLink "BadCodesModel" (191 : Nat) ({ cls := "java/lang/String", name := "charAt", desc := "(I)C" } : Jvm.MethodName)) ∈ lw_all := lw_g (lw_at lw_m9 52 rfl) rfl
theorem q2084 : (Jvm.Cond.methodLink "BadCodesModel" (208 : Nat) ({ cls := "BadCodesModel", name := "failsIf", desc := "(ZI)V" } : Jvm.MethodName)) ∈ lw_all := lw_g (lw_at lw_m9 53 rfl) rfl
theorem q2085 : (Jvm.Cond.privateMethod ({ cls := "BadCodesModel", name := "failsIf", desc := "(ZI)V" } : Jvm.MethodName)) ∈ lw_tbl := lw_at lw_m9 54 rfl
theorem q2086 : (Jvm.Cond.instanceMethod ({ cls := "BadCodesModel", name := "failsIf", desc := "(ZI)V" } : Jvm.MethodName)) ∈ lw_all := lw_g (lw_at lw_m9 55 rfl) rfl
theorem q2087 : (Jvm.Cond.code ({ cls := "BadCodesModel", name := "failsIf", desc := "(ZI)V" } : Jvm.MethodName) prog_14_method_47_code (3 : Nat) (Option.none : Option Jvm.ClassFile.FieldType)) ∈ lw_all := lw_g (lw_at lw_m9 56 rfl) rfl
theorem q2088 : (Jvm.Cond.methodLink "BadCodesModel" (180 : Nat) ({ cls := "BadCodesModel", name := "fails", desc := "(I)V" } : Jvm.MethodName)) ∈ lw_all := lw_g (lw_at lw_m9 57 rfl) rfl
theorem q2089 : (Jvm.Cond.privateMethod ({ cls := "BadCodesModel", name := "fails", desc := "(I)V" } : Jvm.MethodName)) ∈ lw_tbl := lw_at lw_m9 58 rfl
theorem q2090 : (Jvm.Cond.instanceMethod ({ cls := "BadCodesModel", name := "fails", desc := "(I)V" } : Jvm.MethodName)) ∈ lw_all := lw_g (lw_at lw_m9 59 rfl) rfl
theorem q2091 : (Jvm.Cond.code ({ cls := "BadCodesModel", name := "fails", desc := "(I)V" } : Jvm.MethodName) prog_14_method_46_code (2 : Nat) (Option.none : Option Jvm.ClassFile.FieldType)) ∈ lw_all := lw_g (lw_at lw_m9 60 rfl) rfl
theorem q2092 : (Jvm.Cond.methodLink "BadCodesModel" (202 : Nat) ({ cls := "BadCodesModel", name := "goesOn", desc := "()V" } : Jvm.MethodName)) ∈ lw_all := lw_g (lw_at lw_m9 61 rfl) rfl
theorem q2093 : (Jvm.Cond.privateMethod ({ cls := "BadCodesModel", name := "goesOn", desc := "()V" } : Jvm.MethodName)) ∈ lw_tbl := lw_at lw_m9 62 rfl
theorem q2094 : (Jvm.Cond.instanceMethod ({ cls := "BadCodesModel", name := "goesOn", desc := "()V" } : Jvm.MethodName)) ∈ lw_all := lw_g (lw_at lw_m9 63 rfl) rfl
theorem q2095 : (Jvm.Cond.code ({ cls := "BadCodesModel", name := "goesOn", desc := "()V" } : Jvm.MethodName) prog_14_method_48_code (1 : Nat) (Option.none : Option Jvm.ClassFile.FieldType)) ∈ lw_all := lw_g (lw_at lw_m9 64 rfl) rfl
theorem q2096 : (Jvm.Cond.methodLink "BadCodesModel" (212 : Nat) ({ cls := "BadCodesModel", name := "takes", desc := "(II)I" } : Jvm.MethodName)) ∈ lw_all := lw_g (lw_at lw_m9 65 rfl) rfl
theorem q2097 : (Jvm.Cond.privateMethod ({ cls := "BadCodesModel", name := "takes", desc := "(II)I" } : Jvm.MethodName)) ∈ lw_tbl := lw_at lw_m9 66 rfl
theorem q2098 : (Jvm.Cond.instanceMethod ({ cls := "BadCodesModel", name := "takes", desc := "(II)I" } : Jvm.MethodName)) ∈ lw_all := lw_g (lw_at lw_m9 67 rfl) rfl
theorem q2099 : (Jvm.Cond.code ({ cls := "BadCodesModel", name := "takes", desc := "(II)I" } : Jvm.MethodName) prog_14_method_51_code (4 : Nat) (Option.some Jvm.ClassFile.FieldType.int)) ∈ lw_all := lw_g (lw_at lw_m9 68 rfl) rfl
theorem q2100 : (Jvm.Cond.methodLink "BadCodesModel" (199 : Nat) ({ cls := "BadCodesModel", name := "looks", desc := "(II)I" } : Jvm.MethodName)) ∈ lw_all := lw_g (lw_at lw_m9 69 rfl) rfl
theorem q2101 : (Jvm.Cond.privateMethod ({ cls := "BadCodesModel", name := "looks", desc := "(II)I" } : Jvm.MethodName)) ∈ lw_tbl := lw_at lw_m9 70 rfl
theorem q2102 : (Jvm.Cond.instanceMethod ({ cls := "BadCodesModel", name := "looks", desc := "(II)I" } : Jvm.MethodName)) ∈ lw_all := lw_g (lw_at lw_m9 71 rfl) rfl
theorem q2103 : (Jvm.Cond.code ({ cls := "BadCodesModel", name := "looks", desc := "(II)I" } : Jvm.MethodName) prog_14_method_50_code (3 : Nat) (Option.some Jvm.ClassFile.FieldType.int)) ∈ lw_all := lw_g (lw_at lw_m9 72 rfl) rfl
theorem q2104 : (Jvm.Cond.methodLink "BadCodesModel" (245 : Nat) ({ cls := "BadCodesModel", name := "line", desc := "()V" } : Jvm.MethodName)) ∈ lw_all := lw_g (lw_at lw_m9 73 rfl) rfl
theorem q2105 : (Jvm.Cond.privateMethod ({ cls := "BadCodesModel", name := "line", desc := "()V" } : Jvm.MethodName)) ∈ lw_tbl := lw_at lw_m9 74 rfl
theorem q2106 : (Jvm.Cond.instanceMethod ({ cls := "BadCodesModel", name := "line", desc := "()V" } : Jvm.MethodName)) ∈ lw_all := lw_g (lw_at lw_m9 75 rfl) rfl
theorem q2107 : (Jvm.Cond.code ({ cls := "BadCodesModel", name := "line", desc := "()V" } : Jvm.MethodName) prog_14_method_55_code (2 : Nat) (Option.none : Option Jvm.ClassFile.FieldType)) ∈ lw_all := lw_g (lw_at lw_m9 76 rfl) rfl
theorem q2108 : (Jvm.Cond.stringRef "BadCodesModel" (218 : Nat) "town") ∈ lw_tbl := lw_at lw_m9 77 rfl
theorem q2109 : (Jvm.Cond.methodLink "BadCodesModel" (224 : Nat) ({ cls := "BadCodesModel", name := "townLine", desc := "()V" } : Jvm.MethodName)) ∈ lw_all := lw_g (lw_at lw_m9 78 rfl) rfl
theorem q2110 : (Jvm.Cond.privateMethod ({ cls := "BadCodesModel", name := "townLine", desc := "()V" } : Jvm.MethodName)) ∈ lw_tbl := lw_at lw_m9 79 rfl
theorem q2111 : (Jvm.Cond.instanceMethod ({ cls := "BadCodesModel", name := "townLine", desc := "()V" } : Jvm.MethodName)) ∈ lw_all := lw_g (lw_at lw_m9 80 rfl) rfl
theorem q2112 : (Jvm.Cond.code ({ cls := "BadCodesModel", name := "townLine", desc := "()V" } : Jvm.MethodName) prog_14_method_52_code (4 : Nat) (Option.none : Option Jvm.ClassFile.FieldType)) ∈ lw_all := lw_g (lw_at lw_m9 81 rfl) rfl
theorem q2113 : (Jvm.Cond.methodLink "BadCodesModel" (90 : Nat) ({ cls := "BadCodesModel", name := "towns", desc := "()I" } : Jvm.MethodName)) ∈ lw_all := lw_g (lw_at lw_m9 82 rfl) rfl
theorem q2114 : (Jvm.Cond.privateMethod ({ cls := "BadCodesModel", name := "towns", desc := "()I" } : Jvm.MethodName)) ∈ lw_tbl := lw_at lw_m9 83 rfl
theorem q2115 : (Jvm.Cond.instanceMethod ({ cls := "BadCodesModel", name := "towns", desc := "()I" } : Jvm.MethodName)) ∈ lw_all := lw_g (lw_at lw_m9 84 rfl) rfl
theorem q2116 : (Jvm.Cond.code ({ cls := "BadCodesModel", name := "towns", desc := "()I" } : Jvm.MethodName) prog_14_method_10_code (1 : Nat) (Option.some Jvm.ClassFile.FieldType.int)) ∈ lw_all := lw_g (lw_at lw_m9 85 rfl) rfl
theorem q2117 : (Jvm.Cond.stringRef "BadCodesModel" (227 : Nat) "letter") ∈ lw_tbl := lw_at lw_m9 86 rfl
theorem q2118 : (Jvm.Cond.methodLink "BadCodesModel" (229 : Nat) ({ cls := "BadCodesModel", name := "letterLine", desc := "()V" } : Jvm.MethodName)) ∈ lw_all := lw_g (lw_at lw_m9 87 rfl) rfl
theorem q2119 : (Jvm.Cond.privateMethod ({ cls := "BadCodesModel", name := "letterLine", desc := "()V" } : Jvm.MethodName)) ∈ lw_tbl := lw_at lw_m9 88 rfl
theorem q2120 : (Jvm.Cond.instanceMethod ({ cls := "BadCodesModel", name := "letterLine", desc := "()V" } : Jvm.MethodName)) ∈ lw_all := lw_g (lw_at lw_m9 89 rfl) rfl
theorem q2121 : (Jvm.Cond.code ({ cls := "BadCodesModel", name := "letterLine", desc := "()V" } : Jvm.MethodName) prog_14_method_53_code (3 : Nat) (Option.none : Option Jvm.ClassFile.FieldType)) ∈ lw_all := lw_g (lw_at lw_m9 90 rfl) rfl
theorem q2122 : (Jvm.Cond.methodLink "BadCodesModel" (109 : Nat) ({ cls := "BadCodesModel", name := "letters", desc := "()I" } : Jvm.MethodName)) ∈ lw_all := lw_g (lw_at lw_m9 91 rfl) rfl
theorem q2123 : (Jvm.Cond.privateMethod ({ cls := "BadCodesModel", name := "letters", desc := "()I" } : Jvm.MethodName)) ∈ lw_tbl := lw_at lw_m9 92 rfl
theorem q2124 : (Jvm.Cond.instanceMethod ({ cls := "BadCodesModel", name := "letters", desc := "()I" } : Jvm.MethodName)) ∈ lw_all := lw_g (lw_at lw_m9 93 rfl) rfl
theorem q2125 : (Jvm.Cond.code ({ cls := "BadCodesModel", name := "letters", desc := "()I" } : Jvm.MethodName) prog_14_method_11_code (1 : Nat) (Option.some Jvm.ClassFile.FieldType.int)) ∈ lw_all := lw_g (lw_at lw_m9 94 rfl) rfl
theorem q2126 : (Jvm.Cond.methodLink "BadCodesModel" (133 : Nat) ({ cls := "BadCodesModel", name := "lays", desc := "(III)V" } : Jvm.MethodName)) ∈ lw_all := lw_g (lw_at lw_m9 95 rfl) rfl
theorem q2127 : (Jvm.Cond.privateMethod ({ cls := "BadCodesModel", name := "lays", desc := "(III)V" } : Jvm.MethodName)) ∈ lw_tbl := lw_at lw_m9 96 rfl
theorem q2128 : (Jvm.Cond.instanceMethod ({ cls := "BadCodesModel", name := "lays", desc := "(III)V" } : Jvm.MethodName)) ∈ lw_all := lw_g (lw_at lw_m9 97 rfl) rfl
theorem q2129 : (Jvm.Cond.code ({ cls := "BadCodesModel", name := "lays", desc := "(III)V" } : Jvm.MethodName) prog_14_method_13_code (4 : Nat) (Option.none : Option Jvm.ClassFile.FieldType)) ∈ lw_all := lw_g (lw_at lw_m9 98 rfl) rfl
theorem q2130 : (Jvm.Cond.methodLink "BadCodesModel" (215 : Nat) ({ cls := "BadCodesModel", name := "newLetter", desc := "(I)V" } : Jvm.MethodName)) ∈ lw_all := lw_g (lw_at lw_m9 99 rfl) rfl
theorem q2131 : (Jvm.Cond.privateMethod ({ cls := "BadCodesModel", name := "newLetter", desc := "(I)V" } : Jvm.MethodName)) ∈ lw_tbl := lw_at lw_m9 100 rfl
theorem q2132 : (Jvm.Cond.instanceMethod ({ cls := "BadCodesModel", name := "newLetter", desc := "(I)V" } : Jvm.MethodName)) ∈ lw_all := lw_g (lw_at lw_m9 101 rfl) rfl
theorem q2133 : (Jvm.Cond.code ({ cls := "BadCodesModel", name := "newLetter", desc := "(I)V" } : Jvm.MethodName) prog_14_method_36_code (3 : Nat) (Option.none : Option Jvm.ClassFile.FieldType)) ∈ lw_all := lw_g (lw_at lw_m9 102 rfl) rfl
theorem q2134 : (Jvm.Cond.stringRef "BadCodesModel" (232 : Nat) "sum") ∈ lw_tbl := lw_at lw_m9 103 rfl
theorem q2135 : (Jvm.Cond.methodLink "BadCodesModel" (234 : Nat) ({ cls := "BadCodesModel", name := "sumLine", desc := "()V" } : Jvm.MethodName)) ∈ lw_all := lw_g (lw_at lw_m9 104 rfl) rfl
theorem q2136 : (Jvm.Cond.privateMethod ({ cls := "BadCodesModel", name := "sumLine", desc := "()V" } : Jvm.MethodName)) ∈ lw_tbl := lw_at lw_m9 105 rfl
theorem q2137 : (Jvm.Cond.instanceMethod ({ cls := "BadCodesModel", name := "sumLine", desc := "()V" } : Jvm.MethodName)) ∈ lw_all := lw_g (lw_at lw_m9 106 rfl) rfl
theorem q2138 : (Jvm.Cond.code ({ cls := "BadCodesModel", name := "sumLine", desc := "()V" } : Jvm.MethodName) prog_14_method_54_code (3 : Nat) (Option.none : Option Jvm.ClassFile.FieldType)) ∈ lw_all := lw_g (lw_at lw_m9 107 rfl) rfl
theorem q2139 : (Jvm.Cond.stringRef "BadCodesModel" (237 : Nat) "close") ∈ lw_tbl := lw_at lw_m9 108 rfl
theorem q2140 : (Jvm.Cond.stringRef "BadCodesModel" (239 : Nat) "sort") ∈ lw_tbl := lw_at lw_m9 109 rfl
theorem q2141 : (Jvm.Cond.methodLink "BadCodesModel" (240 : Nat) ({ cls := "BadCodesModel", name := "sortsAll", desc := "()I" } : Jvm.MethodName)) ∈ lw_all := lw_g (lw_at lw_m9 110 rfl) rfl
theorem q2142 : (Jvm.Cond.privateMethod ({ cls := "BadCodesModel", name := "sortsAll", desc := "()I" } : Jvm.MethodName)) ∈ lw_tbl := lw_at lw_m9 111 rfl
theorem q2143 : (Jvm.Cond.instanceMethod ({ cls := "BadCodesModel", name := "sortsAll", desc := "()I" } : Jvm.MethodName)) ∈ lw_all := lw_g (lw_at lw_m9 112 rfl) rfl
theorem q2144 : (Jvm.Cond.code ({ cls := "BadCodesModel", name := "sortsAll", desc := "()I" } : Jvm.MethodName) prog_14_method_34_code (3 : Nat) (Option.some Jvm.ClassFile.FieldType.int)) ∈ lw_all := lw_g (lw_at lw_m9 113 rfl) rfl
theorem q2145 : (Jvm.Cond.methodLink "BadCodesModel" (74 : Nat) ({ cls := "BadCodesModel", name := "l", desc := "(II)I" } : Jvm.MethodName)) ∈ lw_all := lw_g (lw_at lw_m9 114 rfl) rfl
theorem q2146 : (Jvm.Cond.privateMethod ({ cls := "BadCodesModel", name := "l", desc := "(II)I" } : Jvm.MethodName)) ∈ lw_tbl := lw_at lw_m9 115 rfl
theorem q2147 : (Jvm.Cond.instanceMethod ({ cls := "BadCodesModel", name := "l", desc := "(II)I" } : Jvm.MethodName)) ∈ lw_all := lw_g (lw_at lw_m9 116 rfl) rfl
theorem q2148 : (Jvm.Cond.code ({ cls := "BadCodesModel", name := "l", desc := "(II)I" } : Jvm.MethodName) prog_14_method_12_code (3 : Nat) (Option.some Jvm.ClassFile.FieldType.int)) ∈ lw_all := lw_g (lw_at lw_m9 117 rfl) rfl
theorem q2149 : (Jvm.Cond.methodLink "BadCodesModel" (137 : Nat) ({ cls := "BadCodesModel", name := "sorts", desc := "(I)I" } : Jvm.MethodName)) ∈ lw_all := lw_g (lw_at lw_m9 118 rfl) rfl
theorem q2150 : (Jvm.Cond.privateMethod ({ cls := "BadCodesModel", name := "sorts", desc := "(I)I" } : Jvm.MethodName)) ∈ lw_tbl := lw_at lw_m9 119 rfl
theorem q2151 : (Jvm.Cond.instanceMethod ({ cls := "BadCodesModel", name := "sorts", desc := "(I)I" } : Jvm.MethodName)) ∈ lw_all := lw_g (lw_at lw_m9 120 rfl) rfl
theorem q2152 : (Jvm.Cond.code ({ cls := "BadCodesModel", name := "sorts", desc := "(I)I" } : Jvm.MethodName) prog_14_method_33_code (5 : Nat) (Option.some Jvm.ClassFile.FieldType.int)) ∈ lw_all := lw_g (lw_at lw_m9 121 rfl) rfl
theorem q2153 : (Jvm.Cond.methodLink "BadCodesModel" (130 : Nat) ({ cls := "BadCodesModel", name := "causeNow", desc := "(I)I" } : Jvm.MethodName)) ∈ lw_all := lw_g (lw_at lw_m9 122 rfl) rfl
theorem q2154 : (Jvm.Cond.privateMethod ({ cls := "BadCodesModel", name := "causeNow", desc := "(I)I" } : Jvm.MethodName)) ∈ lw_tbl := lw_at lw_m9 123 rfl
theorem q2155 : (Jvm.Cond.instanceMethod ({ cls := "BadCodesModel", name := "causeNow", desc := "(I)I" } : Jvm.MethodName)) ∈ lw_all := lw_g (lw_at lw_m9 124 rfl) rfl
theorem q2156 : (Jvm.Cond.code ({ cls := "BadCodesModel", name := "causeNow", desc := "(I)I" } : Jvm.MethodName) prog_14_method_32_code (3 : Nat) (Option.some Jvm.ClassFile.FieldType.int)) ∈ lw_all := lw_g (lw_at lw_m9 125 rfl) rfl
theorem q2157 : (Jvm.Cond.methodLink "BadCodesModel" (127 : Nat) ({ cls := "BadCodesModel", name := "whyOf", desc := "(I)I" } : Jvm.MethodName)) ∈ lw_all := lw_g (lw_at lw_m9 126 rfl) rfl
theorem q2158 : (Jvm.Cond.privateMethod ({ cls := "BadCodesModel", name := "whyOf", desc := "(I)I" } : Jvm.MethodName)) ∈ lw_tbl := lw_at lw_m9 127 rfl
theorem q2159 : (Jvm.Cond.instanceMethod ({ cls := "BadCodesModel", name := "whyOf", desc := "(I)I" } : Jvm.MethodName)) ∈ lw_all := lw_g (lw_at lw_m9 128 rfl) rfl
theorem q2160 : (Jvm.Cond.code ({ cls := "BadCodesModel", name := "whyOf", desc := "(I)I" } : Jvm.MethodName) prog_14_method_31_code (2 : Nat) (Option.some Jvm.ClassFile.FieldType.int)) ∈ lw_all := lw_g (lw_at lw_m9 129 rfl) rfl
theorem q2161 : (Jvm.Cond.methodLink "BadCodesModel" (121 : Nat) ({ cls := "BadCodesModel", name := "decidedFor", desc := "(I)I" } : Jvm.MethodName)) ∈ lw_all := lw_g (lw_at lw_m9 130 rfl) rfl
theorem q2162 : (Jvm.Cond.privateMethod ({ cls := "BadCodesModel", name := "decidedFor", desc := "(I)I" } : Jvm.MethodName)) ∈ lw_tbl := lw_at lw_m9 131 rfl
theorem q2163 : (Jvm.Cond.instanceMethod ({ cls := "BadCodesModel", name := "decidedFor", desc := "(I)I" } : Jvm.MethodName)) ∈ lw_all := lw_g (lw_at lw_m9 132 rfl) rfl
theorem q2164 : (Jvm.Cond.code ({ cls := "BadCodesModel", name := "decidedFor", desc := "(I)I" } : Jvm.MethodName) prog_14_method_30_code (3 : Nat) (Option.some Jvm.ClassFile.FieldType.int)) ∈ lw_all := lw_g (lw_at lw_m9 133 rfl) rfl
theorem q2165 : (Jvm.Cond.methodLink "BadCodesModel" (112 : Nat) ({ cls := "BadCodesModel", name := "bySelf", desc := "(I)I" } : Jvm.MethodName)) ∈ lw_all := lw_g (lw_at lw_m9 134 rfl) rfl
theorem q2166 : (Jvm.Cond.privateMethod ({ cls := "BadCodesModel", name := "bySelf", desc := "(I)I" } : Jvm.MethodName)) ∈ lw_tbl := lw_at lw_m9 135 rfl
theorem q2167 : (Jvm.Cond.instanceMethod ({ cls := "BadCodesModel", name := "bySelf", desc := "(I)I" } : Jvm.MethodName)) ∈ lw_all := lw_g (lw_at lw_m9 136 rfl) rfl
theorem q2168 : (Jvm.Cond.code ({ cls := "BadCodesModel", name := "bySelf", desc := "(I)I" } : Jvm.MethodName) prog_14_method_28_code (3 : Nat) (Option.some Jvm.ClassFile.FieldType.int)) ∈ lw_all := lw_g (lw_at lw_m9 137 rfl) rfl
theorem q2169 : (Jvm.Cond.methodLink "BadCodesModel" (103 : Nat) ({ cls := "BadCodesModel", name := "unread", desc := "(I)I" } : Jvm.MethodName)) ∈ lw_all := lw_g (lw_at lw_m9 138 rfl) rfl
theorem q2170 : (Jvm.Cond.privateMethod ({ cls := "BadCodesModel", name := "unread", desc := "(I)I" } : Jvm.MethodName)) ∈ lw_tbl := lw_at lw_m9 139 rfl
theorem q2171 : (Jvm.Cond.instanceMethod ({ cls := "BadCodesModel", name := "unread", desc := "(I)I" } : Jvm.MethodName)) ∈ lw_all := lw_g (lw_at lw_m9 140 rfl) rfl
theorem q2172 : (Jvm.Cond.code ({ cls := "BadCodesModel", name := "unread", desc := "(I)I" } : Jvm.MethodName) prog_14_method_23_code (4 : Nat) (Option.some Jvm.ClassFile.FieldType.int)) ∈ lw_all := lw_g (lw_at lw_m9 141 rfl) rfl
theorem q2173 : (Jvm.Cond.methodLink "BadCodesModel" (86 : Nat) ({ cls := "BadCodesModel", name := "flag", desc := "(Z)I" } : Jvm.MethodName)) ∈ lw_all := lw_g (lw_at lw_m9 142 rfl) rfl
theorem q2174 : (Jvm.Cond.static ({ cls := "BadCodesModel", name := "flag", desc := "(Z)I" } : Jvm.MethodName)) ∈ lw_all := lw_g (lw_at lw_m9 143 rfl) rfl
theorem q2175 : (Jvm.Cond.code ({ cls := "BadCodesModel", name := "flag", desc := "(Z)I" } : Jvm.MethodName) prog_14_method_4_code (1 : Nat) (Option.some Jvm.ClassFile.FieldType.int)) ∈ lw_all := lw_g (lw_at lw_m9 144 rfl) rfl
theorem q2176 : (Jvm.Cond.methodLink "BadCodesModel" (106 : Nat) ({ cls := "BadCodesModel", name := "bestTowns", desc := "(I)I" } : Jvm.MethodName)) ∈ lw_all := lw_g (lw_at lw_m9 145 rfl) rfl
theorem q2177 : (Jvm.Cond.privateMethod ({ cls := "BadCodesModel", name := "bestTowns", desc := "(I)I" } : Jvm.MethodName)) ∈ lw_tbl := lw_at lw_m9 146 rfl
theorem q2178 : (Jvm.Cond.instanceMethod ({ cls := "BadCodesModel", name := "bestTowns", desc := "(I)I" } : Jvm.MethodName)) ∈ lw_all := lw_g (lw_at lw_m9 147 rfl) rfl
theorem q2179 : (Jvm.Cond.code ({ cls := "BadCodesModel", name := "bestTowns", desc := "(I)I" } : Jvm.MethodName) prog_14_method_27_code (4 : Nat) (Option.some Jvm.ClassFile.FieldType.int)) ∈ lw_all := lw_g (lw_at lw_m9 148 rfl) rfl
theorem q2180 : (Jvm.Cond.methodLink "BadCodesModel" (100 : Nat) ({ cls := "BadCodesModel", name := "isBest", desc := "(II)Z" } : Jvm.MethodName)) ∈ lw_all := lw_g (lw_at lw_m9 149 rfl) rfl
theorem q2181 : (Jvm.Cond.privateMethod ({ cls := "BadCodesModel", name := "isBest", desc := "(II)Z" } : Jvm.MethodName)) ∈ lw_tbl := lw_at lw_m9 150 rfl
theorem q2182 : (Jvm.Cond.instanceMethod ({ cls := "BadCodesModel", name := "isBest", desc := "(II)Z" } : Jvm.MethodName)) ∈ lw_all := lw_g (lw_at lw_m9 151 rfl) rfl
theorem q2183 : (Jvm.Cond.code ({ cls := "BadCodesModel", name := "isBest", desc := "(II)Z" } : Jvm.MethodName) prog_14_method_26_code (4 : Nat) (Option.some Jvm.ClassFile.FieldType.boolean)) ∈ lw_all := lw_g (lw_at lw_m9 152 rfl) rfl
theorem q2184 : (Jvm.Cond.methodLink "BadCodesModel" (94 : Nat) ({ cls := "BadCodesModel", name := "farTown", desc := "(II)I" } : Jvm.MethodName)) ∈ lw_all := lw_g (lw_at lw_m9 153 rfl) rfl
theorem q2185 : (Jvm.Cond.privateMethod ({ cls := "BadCodesModel", name := "farTown", desc := "(II)I" } : Jvm.MethodName)) ∈ lw_tbl := lw_at lw_m9 154 rfl
theorem q2186 : (Jvm.Cond.instanceMethod ({ cls := "BadCodesModel", name := "farTown", desc := "(II)I" } : Jvm.MethodName)) ∈ lw_all := lw_g (lw_at lw_m9 155 rfl) rfl
theorem q2187 : (Jvm.Cond.code ({ cls := "BadCodesModel", name := "farTown", desc := "(II)I" } : Jvm.MethodName) prog_14_method_22_code (3 : Nat) (Option.some Jvm.ClassFile.FieldType.int)) ∈ lw_all := lw_g (lw_at lw_m9 156 rfl) rfl
theorem q2188 : (Jvm.Cond.methodLink "BadCodesModel" (80 : Nat) ({ cls := "BadCodesModel", name := "codeAt", desc := "(I)I" } : Jvm.MethodName)) ∈ lw_all := lw_g (lw_at lw_m9 157 rfl) rfl
theorem q2189 : (Jvm.Cond.privateMethod ({ cls := "BadCodesModel", name := "codeAt", desc := "(I)I" } : Jvm.MethodName)) ∈ lw_tbl := lw_at lw_m9 158 rfl
theorem q2190 : (Jvm.Cond.instanceMethod ({ cls := "BadCodesModel", name := "codeAt", desc := "(I)I" } : Jvm.MethodName)) ∈ lw_all := lw_g (lw_at lw_m9 159 rfl) rfl
theorem q2191 : (Jvm.Cond.code ({ cls := "BadCodesModel", name := "codeAt", desc := "(I)I" } : Jvm.MethodName) prog_14_method_17_code (2 : Nat) (Option.some Jvm.ClassFile.FieldType.int)) ∈ lw_all := lw_g (lw_at lw_m9 160 rfl) rfl
theorem q2192 : (Jvm.Cond.methodLink "BadCodesModel" (55 : Nat) ({ cls := "BadCodesModel", name := "codeOf", desc := "(I)I" } : Jvm.MethodName)) ∈ lw_all := lw_g (lw_at lw_m9 161 rfl) rfl
theorem q2193 : (Jvm.Cond.static ({ cls := "BadCodesModel", name := "codeOf", desc := "(I)I" } : Jvm.MethodName)) ∈ lw_all := lw_g (lw_at lw_m9 162 rfl) rfl
theorem q2194 : (Jvm.Cond.code ({ cls := "BadCodesModel", name := "codeOf", desc := "(I)I" } : Jvm.MethodName) prog_14_method_15_code (1 : Nat) (Option.some Jvm.ClassFile.FieldType.int)) ∈ lw_all := lw_g (lw_at lw_m9 163 rfl) rfl
theorem q2195 : (Jvm.Cond.methodLink "BadCodesModel" (51 : Nat) ({ cls := "BadCodesModel", name := "checkOf", desc := "(I)I" } : Jvm.MethodName)) ∈ lw_all := lw_g (lw_at lw_m9 164 rfl) rfl
theorem q2196 : (Jvm.Cond.static ({ cls := "BadCodesModel", name := "checkOf", desc := "(I)I" } : Jvm.MethodName)) ∈ lw_all := lw_g (lw_at lw_m9 165 rfl) rfl
theorem q2197 : (Jvm.Cond.code ({ cls := "BadCodesModel", name := "checkOf", desc := "(I)I" } : Jvm.MethodName) prog_14_method_14_code (2 : Nat) (Option.some Jvm.ClassFile.FieldType.int)) ∈ lw_all := lw_g (lw_at lw_m9 166 rfl) rfl
theorem q2198 : (Jvm.Cond.methodLink "BadCodesModel" (83 : Nat) ({ cls := "BadCodesModel", name := "far", desc := "(II)I" } : Jvm.MethodName)) ∈ lw_all := lw_g (lw_at lw_m9 167 rfl) rfl
theorem q2199 : (Jvm.Cond.privateMethod ({ cls := "BadCodesModel", name := "far", desc := "(II)I" } : Jvm.MethodName)) ∈ lw_tbl := lw_at lw_m9 168 rfl
theorem q2200 : (Jvm.Cond.instanceMethod ({ cls := "BadCodesModel", name := "far", desc := "(II)I" } : Jvm.MethodName)) ∈ lw_all := lw_g (lw_at lw_m9 169 rfl) rfl
theorem q2201 : (Jvm.Cond.code ({ cls := "BadCodesModel", name := "far", desc := "(II)I" } : Jvm.MethodName) prog_14_method_21_code (6 : Nat) (Option.some Jvm.ClassFile.FieldType.int)) ∈ lw_all := lw_g (lw_at lw_m9 170 rfl) rfl
theorem q2202 : (Jvm.Cond.methodLink "BadCodesModel" (77 : Nat) ({ cls := "BadCodesModel", name := "costOf", desc := "(II)I" } : Jvm.MethodName)) ∈ lw_all := lw_g (lw_at lw_m9 171 rfl) rfl
theorem q2203 : (Jvm.Cond.static ({ cls := "BadCodesModel", name := "costOf", desc := "(II)I" } : Jvm.MethodName)) ∈ lw_all := lw_g (lw_at lw_m9 172 rfl) rfl
theorem q2204 : (Jvm.Cond.code ({ cls := "BadCodesModel", name := "costOf", desc := "(II)I" } : Jvm.MethodName) prog_14_method_20_code (2 : Nat) (Option.some Jvm.ClassFile.FieldType.int)) ∈ lw_all := lw_g (lw_at lw_m9 173 rfl) rfl
theorem q2205 : (Jvm.Cond.methodLink "BadCodesModel" (70 : Nat) ({ cls := "BadCodesModel", name := "areAlike", desc := "(II)Z" } : Jvm.MethodName)) ∈ lw_all := lw_g (lw_at lw_m9 174 rfl) rfl
theorem q2206 : (Jvm.Cond.static ({ cls := "BadCodesModel", name := "areAlike", desc := "(II)Z" } : Jvm.MethodName)) ∈ lw_all := lw_g (lw_at lw_m9 175 rfl) rfl
theorem q2207 : (Jvm.Cond.code ({ cls := "BadCodesModel", name := "areAlike", desc := "(II)Z" } : Jvm.MethodName) prog_14_method_19_code (4 : Nat) (Option.some Jvm.ClassFile.FieldType.boolean)) ∈ lw_all := lw_g (lw_at lw_m9 176 rfl) rfl
theorem q2208 : (Jvm.Cond.methodLink "BadCodesModel" (62 : Nat) ({ cls := "java/lang/Math", name := "min", desc := "(II)I" } : Jvm.MethodName)) ∈ lw_all := lw_g (lw_at lw_m9 177 rfl) rfl
theorem q2209 : (Jvm.Cond.methodLink "BadCodesModel" (67 : Nat) ({ cls := "java/lang/Math", name := "max", desc := "(II)I" } : Jvm.MethodName)) ∈ lw_all := lw_g (lw_at lw_m9 178 rfl) rfl
theorem q2210 : (Jvm.Cond.methodLink "BadCodesModel" (97 : Nat) ({ cls := "BadCodesModel", name := "leastFar", desc := "(I)I" } : Jvm.MethodName)) ∈ lw_all := lw_g (lw_at lw_m9 179 rfl) rfl
theorem q2211 : (Jvm.Cond.privateMethod ({ cls := "BadCodesModel", name := "leastFar", desc := "(I)I" } : Jvm.MethodName)) ∈ lw_tbl := lw_at lw_m9 180 rfl
theorem q2212 : (Jvm.Cond.instanceMethod ({ cls := "BadCodesModel", name := "leastFar", desc := "(I)I" } : Jvm.MethodName)) ∈ lw_all := lw_g (lw_at lw_m9 181 rfl) rfl
theorem q2213 : (Jvm.Cond.code ({ cls := "BadCodesModel", name := "leastFar", desc := "(I)I" } : Jvm.MethodName) prog_14_method_24_code (4 : Nat) (Option.some Jvm.ClassFile.FieldType.int)) ∈ lw_all := lw_g (lw_at lw_m9 182 rfl) rfl
theorem q2214 : (Jvm.Cond.methodLink "BadCodesModel" (118 : Nat) ({ cls := "BadCodesModel", name := "byBundle", desc := "(I)I" } : Jvm.MethodName)) ∈ lw_all := lw_g (lw_at lw_m9 183 rfl) rfl
theorem q2215 : (Jvm.Cond.privateMethod ({ cls := "BadCodesModel", name := "byBundle", desc := "(I)I" } : Jvm.MethodName)) ∈ lw_tbl := lw_at lw_m9 184 rfl
theorem q2216 : (Jvm.Cond.instanceMethod ({ cls := "BadCodesModel", name := "byBundle", desc := "(I)I" } : Jvm.MethodName)) ∈ lw_all := lw_g (lw_at lw_m9 185 rfl) rfl
theorem q2217 : (Jvm.Cond.code ({ cls := "BadCodesModel", name := "byBundle", desc := "(I)I" } : Jvm.MethodName) prog_14_method_29_code (6 : Nat) (Option.some Jvm.ClassFile.FieldType.int)) ∈ lw_all := lw_g (lw_at lw_m9 186 rfl) rfl
theorem q2218 : (Jvm.Cond.methodLink "BadCodesModel" (115 : Nat) ({ cls := "BadCodesModel", name := "digitsOf", desc := "(I)I" } : Jvm.MethodName)) ∈ lw_all := lw_g (lw_at lw_m9 187 rfl) rfl
theorem q2219 : (Jvm.Cond.static ({ cls := "BadCodesModel", name := "digitsOf", desc := "(I)I" } : Jvm.MethodName)) ∈ lw_all := lw_g (lw_at lw_m9 188 rfl) rfl
theorem q2220 : (Jvm.Cond.code ({ cls := "BadCodesModel", name := "digitsOf", desc := "(I)I" } : Jvm.MethodName) prog_14_method_18_code (3 : Nat) (Option.some Jvm.ClassFile.FieldType.int)) ∈ lw_all := lw_g (lw_at lw_m9 189 rfl) rfl
theorem q2221 : (Jvm.Cond.methodLink "BadCodesModel" (58 : Nat) ({ cls := "BadCodesModel", name := "digitOf", desc := "(II)I" } : Jvm.MethodName)) ∈ lw_all := lw_g (lw_at lw_m9 190 rfl) rfl
theorem q2222 : (Jvm.Cond.static ({ cls := "BadCodesModel", name := "digitOf", desc := "(II)I" } : Jvm.MethodName)) ∈ lw_all := lw_g (lw_at lw_m9 191 rfl) rfl
theorem q2223 : (Jvm.Cond.code ({ cls := "BadCodesModel", name := "digitOf", desc := "(II)I" } : Jvm.MethodName) prog_14_method_16_code (4 : Nat) (Option.some Jvm.ClassFile.FieldType.int)) ∈ lw_all := lw_g (lw_at lw_m9 192 rfl) rfl
theorem q2224 : (Jvm.Cond.methodLink "BadCodesModel" (124 : Nat) ({ cls := "BadCodesModel", name := "nearTowns", desc := "(I)I" } : Jvm.MethodName)) ∈ lw_all := lw_g (lw_at lw_m9 193 rfl) rfl
theorem q2225 : (Jvm.Cond.privateMethod ({ cls := "BadCodesModel", name := "nearTowns", desc := "(I)I" } : Jvm.MethodName)) ∈ lw_tbl := lw_at lw_m9 194 rfl
theorem q2226 : (Jvm.Cond.instanceMethod ({ cls := "BadCodesModel", name := "nearTowns", desc := "(I)I" } : Jvm.MethodName)) ∈ lw_all := lw_g (lw_at lw_m9 195 rfl) rfl
theorem q2227 : (Jvm.Cond.code ({ cls := "BadCodesModel", name := "nearTowns", desc := "(I)I" } : Jvm.MethodName) prog_14_method_25_code (4 : Nat) (Option.some Jvm.ClassFile.FieldType.int)) ∈ lw_all := lw_g (lw_at lw_m9 196 rfl) rfl
theorem q2228 : (Jvm.Cond.methodLink "BadCodesModel" (254 : Nat) ({ cls := "BadCodesModel", name := "back", desc := "(I)I" } : Jvm.MethodName)) ∈ lw_all := lw_g (lw_at lw_m9 197 rfl) rfl
theorem q2229 : (Jvm.Cond.privateMethod ({ cls := "BadCodesModel", name := "back", desc := "(I)I" } : Jvm.MethodName)) ∈ lw_tbl := lw_at lw_m9 198 rfl
theorem q2230 : (Jvm.Cond.instanceMethod ({ cls := "BadCodesModel", name := "back", desc := "(I)I" } : Jvm.MethodName)) ∈ lw_all := lw_g (lw_at lw_m9 199 rfl) rfl
theorem q2231 : (Jvm.Cond.code ({ cls := "BadCodesModel", name := "back", desc := "(I)I" } : Jvm.MethodName) prog_14_method_9_code (2 : Nat) (Option.some Jvm.ClassFile.FieldType.int)) ∈ lw_all := lw_g (lw_at lw_m9 200 rfl) rfl
theorem q2233 : (Jvm.Cond.instanceMethod ({ cls := "BadCodesModel", name := "count", desc := "(I)I" } : Jvm.MethodName)) ∈ lw_all := lw_g (lw_at lw_m9 202 rfl) rfl
theorem q2234 : (Jvm.Cond.selects "BadCodesModel" ({ cls := "BadCodesModel", name := "count", desc := "(I)I" } : Jvm.MethodName) ({ cls := "BadCodesModel", name := "count", desc := "(I)I" } : Jvm.MethodName)) ∈ lw_all := lw_g (lw_at lw_m9 203 rfl) rfl
theorem q2235 : (Jvm.Cond.code ({ cls := "BadCodesModel", name := "count", desc := "(I)I" } : Jvm.MethodName) prog_14_method_60_code (2 : Nat) (Option.some Jvm.ClassFile.FieldType.int)) ∈ lw_all := lw_g (lw_at lw_m9 204 rfl) rfl
theorem q2236 : (Jvm.Cond.methodLink "BadCodesModel" (260 : Nat) ({ cls := "BadCodesModel", name := "notLoaded", desc := "()Z" } : Jvm.MethodName)) ∈ lw_all := lw_g (lw_at lw_m9 205 rfl) rfl
theorem q2237 : (Jvm.Cond.privateMethod ({ cls := "BadCodesModel", name := "notLoaded", desc := "()Z" } : Jvm.MethodName)) ∈ lw_tbl := lw_at lw_m9 206 rfl
theorem q2238 : (Jvm.Cond.instanceMethod ({ cls := "BadCodesModel", name := "notLoaded", desc := "()Z" } : Jvm.MethodName)) ∈ lw_all := lw_g (lw_at lw_m9 207 rfl) rfl
theorem q2239 : (Jvm.Cond.code ({ cls := "BadCodesModel", name := "notLoaded", desc := "()Z" } : Jvm.MethodName) prog_14_method_6_code (1 : Nat) (Option.some Jvm.ClassFile.FieldType.boolean)) ∈ lw_all := lw_g (lw_at lw_m9 208 rfl) rfl
theorem q2240 : (Jvm.Cond.constantLong "BadCodesModel" (264 : Nat) (11 : Int64)) ∈ lw_all := lw_g (lw_at lw_m9 209 rfl) rfl
theorem q2241 : (Jvm.Cond.methodLink "BadCodesModel" (266 : Nat) ({ cls := "BadCodesModel", name := "statesOf", desc := "(I)I" } : Jvm.MethodName)) ∈ lw_all := lw_g (lw_at lw_m9 210 rfl) rfl
theorem q2242 : (Jvm.Cond.privateMethod ({ cls := "BadCodesModel", name := "statesOf", desc := "(I)I" } : Jvm.MethodName)) ∈ lw_tbl := lw_at lw_m9 211 rfl
theorem q2243 : (Jvm.Cond.instanceMethod ({ cls := "BadCodesModel", name := "statesOf", desc := "(I)I" } : Jvm.MethodName)) ∈ lw_all := lw_g (lw_at lw_m9 212 rfl) rfl
theorem q2244 : (Jvm.Cond.code ({ cls := "BadCodesModel", name := "statesOf", desc := "(I)I" } : Jvm.MethodName) prog_14_method_35_code (4 : Nat) (Option.some Jvm.ClassFile.FieldType.int)) ∈ lw_all := lw_g (lw_at lw_m9 213 rfl) rfl
theorem q2245 : (Jvm.Cond.methodLink "BadCodesModel" (269 : Nat) ({ cls := "BadCodesModel", name := "waitingFor", desc := "(I)I" } : Jvm.MethodName)) ∈ lw_all := lw_g (lw_at lw_m9 214 rfl) rfl
theorem q2246 : (Jvm.Cond.privateMethod ({ cls := "BadCodesModel", name := "waitingFor", desc := "(I)I" } : Jvm.MethodName)) ∈ lw_tbl := lw_at lw_m9 215 rfl
theorem q2247 : (Jvm.Cond.instanceMethod ({ cls := "BadCodesModel", name := "waitingFor", desc := "(I)I" } : Jvm.MethodName)) ∈ lw_all := lw_g (lw_at lw_m9 216 rfl) rfl
theorem q2248 : (Jvm.Cond.code ({ cls := "BadCodesModel", name := "waitingFor", desc := "(I)I" } : Jvm.MethodName) prog_14_method_59_code (5 : Nat) (Option.some Jvm.ClassFile.FieldType.int)) ∈ lw_all := lw_g (lw_at lw_m9 217 rfl) rfl
theorem q2249 : (Jvm.Cond.methodLink "BadCodesModel" (272 : Nat) ({ cls := "BadCodesModel", name := "sumOf", desc := "(I)I" } : Jvm.MethodName)) ∈ lw_all := lw_g (lw_at lw_m9 218 rfl) rfl
theorem q2250 : (Jvm.Cond.privateMethod ({ cls := "BadCodesModel", name := "sumOf", desc := "(I)I" } : Jvm.MethodName)) ∈ lw_tbl := lw_at lw_m9 219 rfl
theorem q2251 : (Jvm.Cond.instanceMethod ({ cls := "BadCodesModel", name := "sumOf", desc := "(I)I" } : Jvm.MethodName)) ∈ lw_all := lw_g (lw_at lw_m9 220 rfl) rfl
theorem q2252 : (Jvm.Cond.code ({ cls := "BadCodesModel", name := "sumOf", desc := "(I)I" } : Jvm.MethodName) prog_14_method_58_code (4 : Nat) (Option.some Jvm.ClassFile.FieldType.int)) ∈ lw_all := lw_g (lw_at lw_m9 221 rfl) rfl
theorem q2254 : (Jvm.Cond.instanceMethod ({ cls := "BadCodesModel", name := "town", desc := "(II)I" } : Jvm.MethodName)) ∈ lw_all := lw_g (lw_at lw_m9 223 rfl) rfl
theorem q2255 : (Jvm.Cond.selects "BadCodesModel" ({ cls := "BadCodesModel", name := "town", desc := "(II)I" } : Jvm.MethodName) ({ cls := "BadCodesModel", name := "town", desc := "(II)I" } : Jvm.MethodName)) ∈ lw_all := lw_g (lw_at lw_m9 224 rfl) rfl
theorem q2256 : (Jvm.Cond.code ({ cls := "BadCodesModel", name := "town", desc := "(II)I" } : Jvm.MethodName) prog_14_method_65_code (3 : Nat) (Option.some Jvm.ClassFile.FieldType.int)) ∈ lw_all := lw_g (lw_at lw_m9 225 rfl) rfl
theorem q2257 : (Jvm.Cond.methodLink "BadCodesModel" (278 : Nat) ({ cls := "BadCodesModel", name := "noTown", desc := "(I)Z" } : Jvm.MethodName)) ∈ lw_all := lw_g (lw_at lw_m9 226 rfl) rfl
theorem q2258 : (Jvm.Cond.privateMethod ({ cls := "BadCodesModel", name := "noTown", desc := "(I)Z" } : Jvm.MethodName)) ∈ lw_tbl := lw_at lw_m9 227 rfl
theorem q2259 : (Jvm.Cond.instanceMethod ({ cls := "BadCodesModel", name := "noTown", desc := "(I)Z" } : Jvm.MethodName)) ∈ lw_all := lw_g (lw_at lw_m9 228 rfl) rfl
theorem q2260 : (Jvm.Cond.code ({ cls := "BadCodesModel", name := "noTown", desc := "(I)Z" } : Jvm.MethodName) prog_14_method_62_code (2 : Nat) (Option.some Jvm.ClassFile.FieldType.boolean)) ∈ lw_all := lw_g (lw_at lw_m9 229 rfl) rfl
theorem q2261 : (Jvm.Cond.methodLink "BadCodesModel" (275 : Nat) ({ cls := "BadCodesModel", name := "isTown", desc := "(I)Z" } : Jvm.MethodName)) ∈ lw_all := lw_g (lw_at lw_m9 230 rfl) rfl
theorem q2262 : (Jvm.Cond.privateMethod ({ cls := "BadCodesModel", name := "isTown", desc := "(I)Z" } : Jvm.MethodName)) ∈ lw_tbl := lw_at lw_m9 231 rfl
theorem q2263 : (Jvm.Cond.instanceMethod ({ cls := "BadCodesModel", name := "isTown", desc := "(I)Z" } : Jvm.MethodName)) ∈ lw_all := lw_g (lw_at lw_m9 232 rfl) rfl
theorem q2264 : (Jvm.Cond.code ({ cls := "BadCodesModel", name := "isTown", desc := "(I)Z" } : Jvm.MethodName) prog_14_method_61_code (2 : Nat) (Option.some Jvm.ClassFile.FieldType.boolean)) ∈ lw_all := lw_g (lw_at lw_m9 233 rfl) rfl
theorem q2265 : (Jvm.Cond.constantLong "BadCodesModel" (281 : Nat) (6 : Int64)) ∈ lw_all := lw_g (lw_at lw_m9 234 rfl) rfl
theorem q2266 : (Jvm.Cond.methodLink "BadCodesModel" (283 : Nat) ({ cls := "BadCodesModel", name := "sortedFor", desc := "(I)I" } : Jvm.MethodName)) ∈ lw_all := lw_g (lw_at lw_m9 235 rfl) rfl
theorem q2267 : (Jvm.Cond.privateMethod ({ cls := "BadCodesModel", name := "sortedFor", desc := "(I)I" } : Jvm.MethodName)) ∈ lw_tbl := lw_at lw_m9 236 rfl
theorem q2268 : (Jvm.Cond.instanceMethod ({ cls := "BadCodesModel", name := "sortedFor", desc := "(I)I" } : Jvm.MethodName)) ∈ lw_all := lw_g (lw_at lw_m9 237 rfl) rfl
theorem q2269 : (Jvm.Cond.code ({ cls := "BadCodesModel", name := "sortedFor", desc := "(I)I" } : Jvm.MethodName) prog_14_method_63_code (4 : Nat) (Option.some Jvm.ClassFile.FieldType.int)) ∈ lw_all := lw_g (lw_at lw_m9 238 rfl) rfl
theorem q2270 : (Jvm.Cond.methodLink "BadCodesModel" (286 : Nat) ({ cls := "BadCodesModel", name := "nearLetters", desc := "(I)I" } : Jvm.MethodName)) ∈ lw_all := lw_g (lw_at lw_m9 239 rfl) rfl
theorem q2271 : (Jvm.Cond.privateMethod ({ cls := "BadCodesModel", name := "nearLetters", desc := "(I)I" } : Jvm.MethodName)) ∈ lw_tbl := lw_at lw_m10 0 rfl
theorem q2272 : (Jvm.Cond.instanceMethod ({ cls := "BadCodesModel", name := "nearLetters", desc := "(I)I" } : Jvm.MethodName)) ∈ lw_all := lw_g (lw_at lw_m10 1 rfl) rfl
theorem q2273 : (Jvm.Cond.code ({ cls := "BadCodesModel", name := "nearLetters", desc := "(I)I" } : Jvm.MethodName) prog_14_method_64_code (4 : Nat) (Option.some Jvm.ClassFile.FieldType.int)) ∈ lw_all := lw_g (lw_at lw_m10 2 rfl) rfl
theorem q2275 : (Jvm.Cond.instanceMethod ({ cls := "BadCodesModel", name := "codeDigit", desc := "(II)I" } : Jvm.MethodName)) ∈ lw_all := lw_g (lw_at lw_m10 4 rfl) rfl
theorem q2276 : (Jvm.Cond.selects "BadCodesModel" ({ cls := "BadCodesModel", name := "codeDigit", desc := "(II)I" } : Jvm.MethodName) ({ cls := "BadCodesModel", name := "codeDigit", desc := "(II)I" } : Jvm.MethodName)) ∈ lw_all := lw_g (lw_at lw_m10 5 rfl) rfl
theorem q2277 : (Jvm.Cond.code ({ cls := "BadCodesModel", name := "codeDigit", desc := "(II)I" } : Jvm.MethodName) prog_14_method_67_code (3 : Nat) (Option.some Jvm.ClassFile.FieldType.int)) ∈ lw_all := lw_g (lw_at lw_m10 6 rfl) rfl
theorem q2278 : (Jvm.Cond.methodLink "BadCodesModel" (291 : Nat) ({ cls := "BadCodesModel", name := "isPlace", desc := "(I)Z" } : Jvm.MethodName)) ∈ lw_all := lw_g (lw_at lw_m10 7 rfl) rfl
theorem q2279 : (Jvm.Cond.static ({ cls := "BadCodesModel", name := "isPlace", desc := "(I)Z" } : Jvm.MethodName)) ∈ lw_all := lw_g (lw_at lw_m10 8 rfl) rfl
theorem q2280 : (Jvm.Cond.code ({ cls := "BadCodesModel", name := "isPlace", desc := "(I)Z" } : Jvm.MethodName) prog_14_method_66_code (1 : Nat) (Option.some Jvm.ClassFile.FieldType.boolean)) ∈ lw_all := lw_g (lw_at lw_m10 9 rfl) rfl
theorem q2281 : (Jvm.Cond.constantLong "BadCodesModel" (289 : Nat) (4 : Int64)) ∈ lw_all := lw_g (lw_at lw_m10 10 rfl) rfl
theorem q2283 : (Jvm.Cond.instanceMethod ({ cls := "BadCodesModel", name := "checkDigit", desc := "(I)I" } : Jvm.MethodName)) ∈ lw_all := lw_g (lw_at lw_m10 12 rfl) rfl
theorem q2284 : (Jvm.Cond.selects "BadCodesModel" ({ cls := "BadCodesModel", name := "checkDigit", desc := "(I)I" } : Jvm.MethodName) ({ cls := "BadCodesModel", name := "checkDigit", desc := "(I)I" } : Jvm.MethodName)) ∈ lw_all := lw_g (lw_at lw_m10 13 rfl) rfl
theorem q2285 : (Jvm.Cond.code ({ cls := "BadCodesModel", name := "checkDigit", desc := "(I)I" } : Jvm.MethodName) prog_14_method_68_code (2 : Nat) (Option.some Jvm.ClassFile.FieldType.int)) ∈ lw_all := lw_g (lw_at lw_m10 14 rfl) rfl
theorem q2286 : (Jvm.Cond.constantLong "BadCodesModel" (294 : Nat) (9999 : Int64)) ∈ lw_all := lw_g (lw_at lw_m10 15 rfl) rfl
theorem q2288 : (Jvm.Cond.instanceMethod ({ cls := "BadCodesModel", name := "apart", desc := "(II)I" } : Jvm.MethodName)) ∈ lw_all := lw_g (lw_at lw_m10 17 rfl) rfl
theorem q2289 : (Jvm.Cond.selects "BadCodesModel" ({ cls := "BadCodesModel", name := "apart", desc := "(II)I" } : Jvm.MethodName) ({ cls := "BadCodesModel", name := "apart", desc := "(II)I" } : Jvm.MethodName)) ∈ lw_all := lw_g (lw_at lw_m10 18 rfl) rfl
theorem q2290 : (Jvm.Cond.code ({ cls := "BadCodesModel", name := "apart", desc := "(II)I" } : Jvm.MethodName) prog_14_method_70_code (3 : Nat) (Option.some Jvm.ClassFile.FieldType.int)) ∈ lw_all := lw_g (lw_at lw_m10 19 rfl) rfl
theorem q2291 : (Jvm.Cond.methodLink "BadCodesModel" (296 : Nat) ({ cls := "BadCodesModel", name := "apartOf", desc := "(II)I" } : Jvm.MethodName)) ∈ lw_all := lw_g (lw_at lw_m10 20 rfl) rfl
theorem q2292 : (Jvm.Cond.privateMethod ({ cls := "BadCodesModel", name := "apartOf", desc := "(II)I" } : Jvm.MethodName)) ∈ lw_tbl := lw_at lw_m10 21 rfl
theorem q2293 : (Jvm.Cond.instanceMethod ({ cls := "BadCodesModel", name := "apartOf", desc := "(II)I" } : Jvm.MethodName)) ∈ lw_all := lw_g (lw_at lw_m10 22 rfl) rfl
theorem q2294 : (Jvm.Cond.code ({ cls := "BadCodesModel", name := "apartOf", desc := "(II)I" } : Jvm.MethodName) prog_14_method_69_code (5 : Nat) (Option.some Jvm.ClassFile.FieldType.int)) ∈ lw_all := lw_g (lw_at lw_m10 23 rfl) rfl
theorem q2296 : (Jvm.Cond.instanceMethod ({ cls := "BadCodesModel", name := "closest", desc := "(I)I" } : Jvm.MethodName)) ∈ lw_all := lw_g (lw_at lw_m10 25 rfl) rfl
theorem q2297 : (Jvm.Cond.selects "BadCodesModel" ({ cls := "BadCodesModel", name := "closest", desc := "(I)I" } : Jvm.MethodName) ({ cls := "BadCodesModel", name := "closest", desc := "(I)I" } : Jvm.MethodName)) ∈ lw_all := lw_g (lw_at lw_m10 26 rfl) rfl
theorem q2298 : (Jvm.Cond.code ({ cls := "BadCodesModel", name := "closest", desc := "(I)I" } : Jvm.MethodName) prog_14_method_71_code (4 : Nat) (Option.some Jvm.ClassFile.FieldType.int)) ∈ lw_all := lw_g (lw_at lw_m10 27 rfl) rfl
theorem q2300 : (Jvm.Cond.instanceMethod ({ cls := "BadCodesModel", name := "letter", desc := "(II)I" } : Jvm.MethodName)) ∈ lw_all := lw_g (lw_at lw_m10 29 rfl) rfl
theorem q2301 : (Jvm.Cond.selects "BadCodesModel" ({ cls := "BadCodesModel", name := "letter", desc := "(II)I" } : Jvm.MethodName) ({ cls := "BadCodesModel", name := "letter", desc := "(II)I" } : Jvm.MethodName)) ∈ lw_all := lw_g (lw_at lw_m10 30 rfl) rfl
theorem q2302 : (Jvm.Cond.code ({ cls := "BadCodesModel", name := "letter", desc := "(II)I" } : Jvm.MethodName) prog_14_method_73_code (3 : Nat) (Option.some Jvm.ClassFile.FieldType.int)) ∈ lw_all := lw_g (lw_at lw_m10 31 rfl) rfl
theorem q2303 : (Jvm.Cond.methodLink "BadCodesModel" (299 : Nat) ({ cls := "BadCodesModel", name := "noLetter", desc := "(I)Z" } : Jvm.MethodName)) ∈ lw_all := lw_g (lw_at lw_m10 32 rfl) rfl
theorem q2304 : (Jvm.Cond.privateMethod ({ cls := "BadCodesModel", name := "noLetter", desc := "(I)Z" } : Jvm.MethodName)) ∈ lw_tbl := lw_at lw_m10 33 rfl
theorem q2305 : (Jvm.Cond.instanceMethod ({ cls := "BadCodesModel", name := "noLetter", desc := "(I)Z" } : Jvm.MethodName)) ∈ lw_all := lw_g (lw_at lw_m10 34 rfl) rfl
theorem q2306 : (Jvm.Cond.code ({ cls := "BadCodesModel", name := "noLetter", desc := "(I)Z" } : Jvm.MethodName) prog_14_method_72_code (2 : Nat) (Option.some Jvm.ClassFile.FieldType.boolean)) ∈ lw_all := lw_g (lw_at lw_m10 35 rfl) rfl
theorem q2307 : (Jvm.Cond.constantLong "BadCodesModel" (302 : Nat) (7 : Int64)) ∈ lw_all := lw_g (lw_at lw_m10 36 rfl) rfl
theorem q2309 : (Jvm.Cond.instanceMethod ({ cls := "BadCodesModel", name := "read", desc := "(II)I" } : Jvm.MethodName)) ∈ lw_all := lw_g (lw_at lw_m10 38 rfl) rfl
theorem q2310 : (Jvm.Cond.selects "BadCodesModel" ({ cls := "BadCodesModel", name := "read", desc := "(II)I" } : Jvm.MethodName) ({ cls := "BadCodesModel", name := "read", desc := "(II)I" } : Jvm.MethodName)) ∈ lw_all := lw_g (lw_at lw_m10 39 rfl) rfl
theorem q2311 : (Jvm.Cond.code ({ cls := "BadCodesModel", name := "read", desc := "(II)I" } : Jvm.MethodName) prog_14_method_75_code (3 : Nat) (Option.some Jvm.ClassFile.FieldType.int)) ∈ lw_all := lw_g (lw_at lw_m10 40 rfl) rfl
theorem q2312 : (Jvm.Cond.methodLink "BadCodesModel" (304 : Nat) ({ cls := "BadCodesModel", name := "noPlace", desc := "(II)Z" } : Jvm.MethodName)) ∈ lw_all := lw_g (lw_at lw_m10 41 rfl) rfl
theorem q2313 : (Jvm.Cond.privateMethod ({ cls := "BadCodesModel", name := "noPlace", desc := "(II)Z" } : Jvm.MethodName)) ∈ lw_tbl := lw_at lw_m10 42 rfl
theorem q2314 : (Jvm.Cond.instanceMethod ({ cls := "BadCodesModel", name := "noPlace", desc := "(II)Z" } : Jvm.MethodName)) ∈ lw_all := lw_g (lw_at lw_m10 43 rfl) rfl
theorem q2315 : (Jvm.Cond.code ({ cls := "BadCodesModel", name := "noPlace", desc := "(II)Z" } : Jvm.MethodName) prog_14_method_74_code (3 : Nat) (Option.some Jvm.ClassFile.FieldType.boolean)) ∈ lw_all := lw_g (lw_at lw_m10 44 rfl) rfl
theorem q2317 : (Jvm.Cond.instanceMethod ({ cls := "BadCodesModel", name := "isRight", desc := "(I)Z" } : Jvm.MethodName)) ∈ lw_all := lw_g (lw_at lw_m10 46 rfl) rfl
theorem q2318 : (Jvm.Cond.selects "BadCodesModel" ({ cls := "BadCodesModel", name := "isRight", desc := "(I)Z" } : Jvm.MethodName) ({ cls := "BadCodesModel", name := "isRight", desc := "(I)Z" } : Jvm.MethodName)) ∈ lw_all := lw_g (lw_at lw_m10 47 rfl) rfl
theorem q2319 : (Jvm.Cond.code ({ cls := "BadCodesModel", name := "isRight", desc := "(I)Z" } : Jvm.MethodName) prog_14_method_76_code (3 : Nat) (Option.some Jvm.ClassFile.FieldType.boolean)) ∈ lw_all := lw_g (lw_at lw_m10 48 rfl) rfl
theorem q2321 : (Jvm.Cond.instanceMethod ({ cls := "BadCodesModel", name := "distance", desc := "(II)I" } : Jvm.MethodName)) ∈ lw_all := lw_g (lw_at lw_m10 50 rfl) rfl
theorem q2322 : (Jvm.Cond.selects "BadCodesModel" ({ cls := "BadCodesModel", name := "distance", desc := "(II)I" } : Jvm.MethodName) ({ cls := "BadCodesModel", name := "distance", desc := "(II)I" } : Jvm.MethodName)) ∈ lw_all := lw_g (lw_at lw_m10 51 rfl) rfl
theorem q2323 : (Jvm.Cond.code ({ cls := "BadCodesModel", name := "distance", desc := "(II)I" } : Jvm.MethodName) prog_14_method_77_code (3 : Nat) (Option.some Jvm.ClassFile.FieldType.int)) ∈ lw_all := lw_g (lw_at lw_m10 52 rfl) rfl
theorem q2325 : (Jvm.Cond.instanceMethod ({ cls := "BadCodesModel", name := "near", desc := "(II)I" } : Jvm.MethodName)) ∈ lw_all := lw_g (lw_at lw_m10 54 rfl) rfl
theorem q2326 : (Jvm.Cond.selects "BadCodesModel" ({ cls := "BadCodesModel", name := "near", desc := "(II)I" } : Jvm.MethodName) ({ cls := "BadCodesModel", name := "near", desc := "(II)I" } : Jvm.MethodName)) ∈ lw_all := lw_g (lw_at lw_m10 55 rfl) rfl
theorem q2327 : (Jvm.Cond.code ({ cls := "BadCodesModel", name := "near", desc := "(II)I" } : Jvm.MethodName) prog_14_method_79_code (3 : Nat) (Option.some Jvm.ClassFile.FieldType.int)) ∈ lw_all := lw_g (lw_at lw_m10 56 rfl) rfl
theorem q2328 : (Jvm.Cond.methodLink "BadCodesModel" (307 : Nat) ({ cls := "BadCodesModel", name := "nearAt", desc := "(II)I" } : Jvm.MethodName)) ∈ lw_all := lw_g (lw_at lw_m10 57 rfl) rfl
theorem q2329 : (Jvm.Cond.privateMethod ({ cls := "BadCodesModel", name := "nearAt", desc := "(II)I" } : Jvm.MethodName)) ∈ lw_tbl := lw_at lw_m10 58 rfl
theorem q2330 : (Jvm.Cond.instanceMethod ({ cls := "BadCodesModel", name := "nearAt", desc := "(II)I" } : Jvm.MethodName)) ∈ lw_all := lw_g (lw_at lw_m10 59 rfl) rfl
theorem q2331 : (Jvm.Cond.code ({ cls := "BadCodesModel", name := "nearAt", desc := "(II)I" } : Jvm.MethodName) prog_14_method_78_code (6 : Nat) (Option.some Jvm.ClassFile.FieldType.int)) ∈ lw_all := lw_g (lw_at lw_m10 60 rfl) rfl
theorem q2333 : (Jvm.Cond.instanceMethod ({ cls := "BadCodesModel", name := "decided", desc := "(I)I" } : Jvm.MethodName)) ∈ lw_all := lw_g (lw_at lw_m10 62 rfl) rfl
theorem q2334 : (Jvm.Cond.selects "BadCodesModel" ({ cls := "BadCodesModel", name := "decided", desc := "(I)I" } : Jvm.MethodName) ({ cls := "BadCodesModel", name := "decided", desc := "(I)I" } : Jvm.MethodName)) ∈ lw_all := lw_g (lw_at lw_m10 63 rfl) rfl
theorem q2335 : (Jvm.Cond.code ({ cls := "BadCodesModel", name := "decided", desc := "(I)I" } : Jvm.MethodName) prog_14_method_80_code (2 : Nat) (Option.some Jvm.ClassFile.FieldType.int)) ∈ lw_all := lw_g (lw_at lw_m10 64 rfl) rfl
theorem q2337 : (Jvm.Cond.instanceMethod ({ cls := "BadCodesModel", name := "how", desc := "(I)I" } : Jvm.MethodName)) ∈ lw_all := lw_g (lw_at lw_m10 66 rfl) rfl
theorem q2338 : (Jvm.Cond.selects "BadCodesModel" ({ cls := "BadCodesModel", name := "how", desc := "(I)I" } : Jvm.MethodName) ({ cls := "BadCodesModel", name := "how", desc := "(I)I" } : Jvm.MethodName)) ∈ lw_all := lw_g (lw_at lw_m10 67 rfl) rfl
theorem q2339 : (Jvm.Cond.code ({ cls := "BadCodesModel", name := "how", desc := "(I)I" } : Jvm.MethodName) prog_14_method_81_code (3 : Nat) (Option.some Jvm.ClassFile.FieldType.int)) ∈ lw_all := lw_g (lw_at lw_m10 68 rfl) rfl
theorem q2341 : (Jvm.Cond.instanceMethod ({ cls := "BadCodesModel", name := "whyNot", desc := "(I)I" } : Jvm.MethodName)) ∈ lw_all := lw_g (lw_at lw_m10 70 rfl) rfl
theorem q2342 : (Jvm.Cond.selects "BadCodesModel" ({ cls := "BadCodesModel", name := "whyNot", desc := "(I)I" } : Jvm.MethodName) ({ cls := "BadCodesModel", name := "whyNot", desc := "(I)I" } : Jvm.MethodName)) ∈ lw_all := lw_g (lw_at lw_m10 71 rfl) rfl
theorem q2343 : (Jvm.Cond.code ({ cls := "BadCodesModel", name := "whyNot", desc := "(I)I" } : Jvm.MethodName) prog_14_method_82_code (2 : Nat) (Option.some Jvm.ClassFile.FieldType.int)) ∈ lw_all := lw_g (lw_at lw_m10 72 rfl) rfl
theorem q2345 : (Jvm.Cond.instanceMethod ({ cls := "BadCodesModel", name := "margin", desc := "(I)I" } : Jvm.MethodName)) ∈ lw_all := lw_g (lw_at lw_m10 74 rfl) rfl
theorem q2346 : (Jvm.Cond.selects "BadCodesModel" ({ cls := "BadCodesModel", name := "margin", desc := "(I)I" } : Jvm.MethodName) ({ cls := "BadCodesModel", name := "margin", desc := "(I)I" } : Jvm.MethodName)) ∈ lw_all := lw_g (lw_at lw_m10 75 rfl) rfl
theorem q2347 : (Jvm.Cond.code ({ cls := "BadCodesModel", name := "margin", desc := "(I)I" } : Jvm.MethodName) prog_14_method_83_code (7 : Nat) (Option.some Jvm.ClassFile.FieldType.int)) ∈ lw_all := lw_g (lw_at lw_m10 76 rfl) rfl
theorem q2349 : (Jvm.Cond.instanceMethod ({ cls := "BadCodesModel", name := "mended", desc := "(I)I" } : Jvm.MethodName)) ∈ lw_all := lw_g (lw_at lw_m10 78 rfl) rfl
theorem q2350 : (Jvm.Cond.selects "BadCodesModel" ({ cls := "BadCodesModel", name := "mended", desc := "(I)I" } : Jvm.MethodName) ({ cls := "BadCodesModel", name := "mended", desc := "(I)I" } : Jvm.MethodName)) ∈ lw_all := lw_g (lw_at lw_m10 79 rfl) rfl
theorem q2351 : (Jvm.Cond.code ({ cls := "BadCodesModel", name := "mended", desc := "(I)I" } : Jvm.MethodName) prog_14_method_84_code (5 : Nat) (Option.some Jvm.ClassFile.FieldType.int)) ∈ lw_all := lw_g (lw_at lw_m10 80 rfl) rfl
theorem q2353 : (Jvm.Cond.instanceMethod ({ cls := "BadCodesModel", name := "whyNotAgain", desc := "(I)I" } : Jvm.MethodName)) ∈ lw_all := lw_g (lw_at lw_m10 82 rfl) rfl
theorem q2354 : (Jvm.Cond.selects "BadCodesModel" ({ cls := "BadCodesModel", name := "whyNotAgain", desc := "(I)I" } : Jvm.MethodName) ({ cls := "BadCodesModel", name := "whyNotAgain", desc := "(I)I" } : Jvm.MethodName)) ∈ lw_all := lw_g (lw_at lw_m10 83 rfl) rfl
theorem q2355 : (Jvm.Cond.code ({ cls := "BadCodesModel", name := "whyNotAgain", desc := "(I)I" } : Jvm.MethodName) prog_14_method_86_code (2 : Nat) (Option.some Jvm.ClassFile.FieldType.int)) ∈ lw_all := lw_g (lw_at lw_m10 84 rfl) rfl
theorem q2356 : (Jvm.Cond.methodLink "BadCodesModel" (310 : Nat) ({ cls := "BadCodesModel", name := "whyNotRead", desc := "(I)I" } : Jvm.MethodName)) ∈ lw_all := lw_g (lw_at lw_m10 85 rfl) rfl
theorem q2357 : (Jvm.Cond.privateMethod ({ cls := "BadCodesModel", name := "whyNotRead", desc := "(I)I" } : Jvm.MethodName)) ∈ lw_tbl := lw_at lw_m10 86 rfl
theorem q2358 : (Jvm.Cond.instanceMethod ({ cls := "BadCodesModel", name := "whyNotRead", desc := "(I)I" } : Jvm.MethodName)) ∈ lw_all := lw_g (lw_at lw_m10 87 rfl) rfl
theorem q2359 : (Jvm.Cond.code ({ cls := "BadCodesModel", name := "whyNotRead", desc := "(I)I" } : Jvm.MethodName) prog_14_method_85_code (2 : Nat) (Option.some Jvm.ClassFile.FieldType.int)) ∈ lw_all := lw_g (lw_at lw_m10 88 rfl) rfl
theorem q2361 : (Jvm.Cond.instanceMethod ({ cls := "BadCodesModel", name := "leastFix", desc := "(I)I" } : Jvm.MethodName)) ∈ lw_all := lw_g (lw_at lw_m10 90 rfl) rfl
theorem q2362 : (Jvm.Cond.selects "BadCodesModel" ({ cls := "BadCodesModel", name := "leastFix", desc := "(I)I" } : Jvm.MethodName) ({ cls := "BadCodesModel", name := "leastFix", desc := "(I)I" } : Jvm.MethodName)) ∈ lw_all := lw_g (lw_at lw_m10 91 rfl) rfl
theorem q2363 : (Jvm.Cond.code ({ cls := "BadCodesModel", name := "leastFix", desc := "(I)I" } : Jvm.MethodName) prog_14_method_88_code (2 : Nat) (Option.some Jvm.ClassFile.FieldType.int)) ∈ lw_all := lw_g (lw_at lw_m10 92 rfl) rfl
theorem q2364 : (Jvm.Cond.methodLink "BadCodesModel" (313 : Nat) ({ cls := "BadCodesModel", name := "fix", desc := "(I)I" } : Jvm.MethodName)) ∈ lw_all := lw_g (lw_at lw_m10 93 rfl) rfl
theorem q2365 : (Jvm.Cond.privateMethod ({ cls := "BadCodesModel", name := "fix", desc := "(I)I" } : Jvm.MethodName)) ∈ lw_tbl := lw_at lw_m10 94 rfl
theorem q2366 : (Jvm.Cond.instanceMethod ({ cls := "BadCodesModel", name := "fix", desc := "(I)I" } : Jvm.MethodName)) ∈ lw_all := lw_g (lw_at lw_m10 95 rfl) rfl
theorem q2367 : (Jvm.Cond.code ({ cls := "BadCodesModel", name := "fix", desc := "(I)I" } : Jvm.MethodName) prog_14_method_87_code (6 : Nat) (Option.some Jvm.ClassFile.FieldType.int)) ∈ lw_all := lw_g (lw_at lw_m10 96 rfl) rfl
theorem q2369 : (Jvm.Cond.instanceMethod ({ cls := "BadCodesModel", name := "codesNear", desc := "(II)I" } : Jvm.MethodName)) ∈ lw_all := lw_g (lw_at lw_m10 98 rfl) rfl
theorem q2370 : (Jvm.Cond.selects "BadCodesModel" ({ cls := "BadCodesModel", name := "codesNear", desc := "(II)I" } : Jvm.MethodName) ({ cls := "BadCodesModel", name := "codesNear", desc := "(II)I" } : Jvm.MethodName)) ∈ lw_all := lw_g (lw_at lw_m10 99 rfl) rfl
theorem q2371 : (Jvm.Cond.code ({ cls := "BadCodesModel", name := "codesNear", desc := "(II)I" } : Jvm.MethodName) prog_14_method_89_code (5 : Nat) (Option.some Jvm.ClassFile.FieldType.int)) ∈ lw_all := lw_g (lw_at lw_m10 100 rfl) rfl
theorem q2372 : (Jvm.Cond.constantLong "BadCodesModel" (316 : Nat) (10 : Int64)) ∈ lw_all := lw_g (lw_at lw_m10 101 rfl) rfl
theorem q2374 : (Jvm.Cond.instanceMethod ({ cls := "BadCodesModel", name := "firstFix", desc := "(I)I" } : Jvm.MethodName)) ∈ lw_all := lw_g (lw_at lw_m10 103 rfl) rfl
theorem q2375 : (Jvm.Cond.selects "BadCodesModel" ({ cls := "BadCodesModel", name := "firstFix", desc := "(I)I" } : Jvm.MethodName) ({ cls := "BadCodesModel", name := "firstFix", desc := "(I)I" } : Jvm.MethodName)) ∈ lw_all := lw_g (lw_at lw_m10 104 rfl) rfl
theorem q2376 : (Jvm.Cond.code ({ cls := "BadCodesModel", name := "firstFix", desc := "(I)I" } : Jvm.MethodName) prog_14_method_90_code (2 : Nat) (Option.some Jvm.ClassFile.FieldType.int)) ∈ lw_all := lw_g (lw_at lw_m10 105 rfl) rfl
theorem q2378 : (Jvm.Cond.instanceMethod ({ cls := "BadCodesModel", name := "bundle", desc := "(II)I" } : Jvm.MethodName)) ∈ lw_all := lw_g (lw_at lw_m10 107 rfl) rfl
theorem q2379 : (Jvm.Cond.selects "BadCodesModel" ({ cls := "BadCodesModel", name := "bundle", desc := "(II)I" } : Jvm.MethodName) ({ cls := "BadCodesModel", name := "bundle", desc := "(II)I" } : Jvm.MethodName)) ∈ lw_all := lw_g (lw_at lw_m10 108 rfl) rfl
theorem q2380 : (Jvm.Cond.code ({ cls := "BadCodesModel", name := "bundle", desc := "(II)I" } : Jvm.MethodName) prog_14_method_94_code (3 : Nat) (Option.some Jvm.ClassFile.FieldType.int)) ∈ lw_all := lw_g (lw_at lw_m10 109 rfl) rfl
theorem q2381 : (Jvm.Cond.methodLink "BadCodesModel" (320 : Nat) ({ cls := "BadCodesModel", name := "noBundle", desc := "(I)Z" } : Jvm.MethodName)) ∈ lw_all := lw_g (lw_at lw_m10 110 rfl) rfl
theorem q2382 : (Jvm.Cond.privateMethod ({ cls := "BadCodesModel", name := "noBundle", desc := "(I)Z" } : Jvm.MethodName)) ∈ lw_tbl := lw_at lw_m10 111 rfl
theorem q2383 : (Jvm.Cond.instanceMethod ({ cls := "BadCodesModel", name := "noBundle", desc := "(I)Z" } : Jvm.MethodName)) ∈ lw_all := lw_g (lw_at lw_m10 112 rfl) rfl
theorem q2384 : (Jvm.Cond.code ({ cls := "BadCodesModel", name := "noBundle", desc := "(I)Z" } : Jvm.MethodName) prog_14_method_91_code (2 : Nat) (Option.some Jvm.ClassFile.FieldType.boolean)) ∈ lw_all := lw_g (lw_at lw_m10 113 rfl) rfl
theorem q2385 : (Jvm.Cond.constantLong "BadCodesModel" (318 : Nat) (5 : Int64)) ∈ lw_all := lw_g (lw_at lw_m10 114 rfl) rfl
theorem q2386 : (Jvm.Cond.constantLong "BadCodesModel" (323 : Nat) (3 : Int64)) ∈ lw_all := lw_g (lw_at lw_m10 115 rfl) rfl
theorem q2387 : (Jvm.Cond.methodLink "BadCodesModel" (325 : Nat) ({ cls := "BadCodesModel", name := "lettersOf", desc := "(I)I" } : Jvm.MethodName)) ∈ lw_all := lw_g (lw_at lw_m10 116 rfl) rfl
theorem q2388 : (Jvm.Cond.privateMethod ({ cls := "BadCodesModel", name := "lettersOf", desc := "(I)I" } : Jvm.MethodName)) ∈ lw_tbl := lw_at lw_m10 117 rfl
theorem q2389 : (Jvm.Cond.instanceMethod ({ cls := "BadCodesModel", name := "lettersOf", desc := "(I)I" } : Jvm.MethodName)) ∈ lw_all := lw_g (lw_at lw_m10 118 rfl) rfl
theorem q2390 : (Jvm.Cond.code ({ cls := "BadCodesModel", name := "lettersOf", desc := "(I)I" } : Jvm.MethodName) prog_14_method_92_code (4 : Nat) (Option.some Jvm.ClassFile.FieldType.int)) ∈ lw_all := lw_g (lw_at lw_m10 119 rfl) rfl
theorem q2391 : (Jvm.Cond.methodLink "BadCodesModel" (328 : Nat) ({ cls := "BadCodesModel", name := "selves", desc := "(IZ)I" } : Jvm.MethodName)) ∈ lw_all := lw_g (lw_at lw_m10 120 rfl) rfl
theorem q2392 : (Jvm.Cond.privateMethod ({ cls := "BadCodesModel", name := "selves", desc := "(IZ)I" } : Jvm.MethodName)) ∈ lw_tbl := lw_at lw_m10 121 rfl
theorem q2393 : (Jvm.Cond.instanceMethod ({ cls := "BadCodesModel", name := "selves", desc := "(IZ)I" } : Jvm.MethodName)) ∈ lw_all := lw_g (lw_at lw_m10 122 rfl) rfl
theorem q2394 : (Jvm.Cond.code ({ cls := "BadCodesModel", name := "selves", desc := "(IZ)I" } : Jvm.MethodName) prog_14_method_93_code (6 : Nat) (Option.some Jvm.ClassFile.FieldType.int)) ∈ lw_all := lw_g (lw_at lw_m10 123 rfl) rfl
theorem q2396 : (Jvm.Cond.instanceMethod ({ cls := "BadCodesModel", name := "bag", desc := "(II)I" } : Jvm.MethodName)) ∈ lw_all := lw_g (lw_at lw_m10 125 rfl) rfl
theorem q2397 : (Jvm.Cond.selects "BadCodesModel" ({ cls := "BadCodesModel", name := "bag", desc := "(II)I" } : Jvm.MethodName) ({ cls := "BadCodesModel", name := "bag", desc := "(II)I" } : Jvm.MethodName)) ∈ lw_all := lw_g (lw_at lw_m10 126 rfl) rfl
theorem q2398 : (Jvm.Cond.code ({ cls := "BadCodesModel", name := "bag", desc := "(II)I" } : Jvm.MethodName) prog_14_method_97_code (3 : Nat) (Option.some Jvm.ClassFile.FieldType.int)) ∈ lw_all := lw_g (lw_at lw_m10 127 rfl) rfl
theorem q2399 : (Jvm.Cond.methodLink "BadCodesModel" (332 : Nat) ({ cls := "BadCodesModel", name := "noRoute", desc := "(I)Z" } : Jvm.MethodName)) ∈ lw_all := lw_g (lw_at lw_m10 128 rfl) rfl
theorem q2400 : (Jvm.Cond.privateMethod ({ cls := "BadCodesModel", name := "noRoute", desc := "(I)Z" } : Jvm.MethodName)) ∈ lw_tbl := lw_at lw_m10 129 rfl
theorem q2401 : (Jvm.Cond.instanceMethod ({ cls := "BadCodesModel", name := "noRoute", desc := "(I)Z" } : Jvm.MethodName)) ∈ lw_all := lw_g (lw_at lw_m10 130 rfl) rfl
theorem q2402 : (Jvm.Cond.code ({ cls := "BadCodesModel", name := "noRoute", desc := "(I)Z" } : Jvm.MethodName) prog_14_method_95_code (2 : Nat) (Option.some Jvm.ClassFile.FieldType.boolean)) ∈ lw_all := lw_g (lw_at lw_m10 131 rfl) rfl
theorem q2403 : (Jvm.Cond.methodLink "BadCodesModel" (335 : Nat) ({ cls := "BadCodesModel", name := "townsOn", desc := "(I)I" } : Jvm.MethodName)) ∈ lw_all := lw_g (lw_at lw_m10 132 rfl) rfl
theorem q2404 : (Jvm.Cond.privateMethod ({ cls := "BadCodesModel", name := "townsOn", desc := "(I)I" } : Jvm.MethodName)) ∈ lw_tbl := lw_at lw_m10 133 rfl
theorem q2405 : (Jvm.Cond.instanceMethod ({ cls := "BadCodesModel", name := "townsOn", desc := "(I)I" } : Jvm.MethodName)) ∈ lw_all := lw_g (lw_at lw_m10 134 rfl) rfl
theorem q2406 : (Jvm.Cond.code ({ cls := "BadCodesModel", name := "townsOn", desc := "(I)I" } : Jvm.MethodName) prog_14_method_96_code (4 : Nat) (Option.some Jvm.ClassFile.FieldType.int)) ∈ lw_all := lw_g (lw_at lw_m10 135 rfl) rfl
theorem q2408 : (Jvm.Cond.instanceMethod ({ cls := "BadCodesModel", name := "causes", desc := "(I)I" } : Jvm.MethodName)) ∈ lw_all := lw_g (lw_at lw_m10 137 rfl) rfl
theorem q2409 : (Jvm.Cond.selects "BadCodesModel" ({ cls := "BadCodesModel", name := "causes", desc := "(I)I" } : Jvm.MethodName) ({ cls := "BadCodesModel", name := "causes", desc := "(I)I" } : Jvm.MethodName)) ∈ lw_all := lw_g (lw_at lw_m10 138 rfl) rfl
theorem q2410 : (Jvm.Cond.code ({ cls := "BadCodesModel", name := "causes", desc := "(I)I" } : Jvm.MethodName) prog_14_method_98_code (4 : Nat) (Option.some Jvm.ClassFile.FieldType.int)) ∈ lw_all := lw_g (lw_at lw_m10 139 rfl) rfl
theorem q2412 : (Jvm.Cond.instanceMethod ({ cls := "BadCodesModel", name := "gap", desc := "()I" } : Jvm.MethodName)) ∈ lw_all := lw_g (lw_at lw_m10 141 rfl) rfl
theorem q2413 : (Jvm.Cond.selects "BadCodesModel" ({ cls := "BadCodesModel", name := "gap", desc := "()I" } : Jvm.MethodName) ({ cls := "BadCodesModel", name := "gap", desc := "()I" } : Jvm.MethodName)) ∈ lw_all := lw_g (lw_at lw_m10 142 rfl) rfl
theorem q2414 : (Jvm.Cond.code ({ cls := "BadCodesModel", name := "gap", desc := "()I" } : Jvm.MethodName) prog_14_method_99_code (6 : Nat) (Option.some Jvm.ClassFile.FieldType.int)) ∈ lw_all := lw_g (lw_at lw_m10 143 rfl) rfl
theorem q2415 : (Jvm.Cond.methodLink "BadCodesModel" (338 : Nat) ({ cls := "java/lang/Math", name := "abs", desc := "(I)I" } : Jvm.MethodName)) ∈ lw_all := lw_g (lw_at lw_m10 144 rfl) rfl
theorem q2417 : (Jvm.Cond.instanceMethod ({ cls := "BadCodesModel", name := "decidedIf", desc := "(III)I" } : Jvm.MethodName)) ∈ lw_all := lw_g (lw_at lw_m10 146 rfl) rfl
theorem q2418 : (Jvm.Cond.selects "BadCodesModel" ({ cls := "BadCodesModel", name := "decidedIf", desc := "(III)I" } : Jvm.MethodName) ({ cls := "BadCodesModel", name := "decidedIf", desc := "(III)I" } : Jvm.MethodName)) ∈ lw_all := lw_g (lw_at lw_m10 147 rfl) rfl
theorem q2419 : (Jvm.Cond.code ({ cls := "BadCodesModel", name := "decidedIf", desc := "(III)I" } : Jvm.MethodName) prog_14_method_101_code (4 : Nat) (Option.some Jvm.ClassFile.FieldType.int)) ∈ lw_all := lw_g (lw_at lw_m10 148 rfl) rfl
theorem q2420 : (Jvm.Cond.constantLong "BadCodesModel" (341 : Nat) (-1 : Int64)) ∈ lw_all := lw_g (lw_at lw_m10 149 rfl) rfl
theorem q2421 : (Jvm.Cond.constantLong "BadCodesModel" (343 : Nat) (9 : Int64)) ∈ lw_all := lw_g (lw_at lw_m10 150 rfl) rfl
theorem q2422 : (Jvm.Cond.methodLink "BadCodesModel" (345 : Nat) ({ cls := "BadCodesModel", name := "decidedBy", desc := "(III)I" } : Jvm.MethodName)) ∈ lw_all := lw_g (lw_at lw_m10 151 rfl) rfl
theorem q2423 : (Jvm.Cond.privateMethod ({ cls := "BadCodesModel", name := "decidedBy", desc := "(III)I" } : Jvm.MethodName)) ∈ lw_tbl := lw_at lw_m10 152 rfl
theorem q2424 : (Jvm.Cond.instanceMethod ({ cls := "BadCodesModel", name := "decidedBy", desc := "(III)I" } : Jvm.MethodName)) ∈ lw_all := lw_g (lw_at lw_m10 153 rfl) rfl
theorem q2425 : (Jvm.Cond.code ({ cls := "BadCodesModel", name := "decidedBy", desc := "(III)I" } : Jvm.MethodName) prog_14_method_100_code (4 : Nat) (Option.some Jvm.ClassFile.FieldType.int)) ∈ lw_all := lw_g (lw_at lw_m10 154 rfl) rfl
theorem q2427 : (Jvm.Cond.instanceMethod ({ cls := "BadCodesModel", name := "sortedIf", desc := "(I)I" } : Jvm.MethodName)) ∈ lw_all := lw_g (lw_at lw_m10 156 rfl) rfl
theorem q2428 : (Jvm.Cond.selects "BadCodesModel" ({ cls := "BadCodesModel", name := "sortedIf", desc := "(I)I" } : Jvm.MethodName) ({ cls := "BadCodesModel", name := "sortedIf", desc := "(I)I" } : Jvm.MethodName)) ∈ lw_all := lw_g (lw_at lw_m10 157 rfl) rfl
theorem q2429 : (Jvm.Cond.code ({ cls := "BadCodesModel", name := "sortedIf", desc := "(I)I" } : Jvm.MethodName) prog_14_method_104_code (2 : Nat) (Option.some Jvm.ClassFile.FieldType.int)) ∈ lw_all := lw_g (lw_at lw_m10 158 rfl) rfl
theorem q2430 : (Jvm.Cond.methodLink "BadCodesModel" (351 : Nat) ({ cls := "BadCodesModel", name := "noLimit", desc := "(I)Z" } : Jvm.MethodName)) ∈ lw_all := lw_g (lw_at lw_m10 159 rfl) rfl
theorem q2431 : (Jvm.Cond.privateMethod ({ cls := "BadCodesModel", name := "noLimit", desc := "(I)Z" } : Jvm.MethodName)) ∈ lw_tbl := lw_at lw_m10 160 rfl
theorem q2432 : (Jvm.Cond.instanceMethod ({ cls := "BadCodesModel", name := "noLimit", desc := "(I)Z" } : Jvm.MethodName)) ∈ lw_all := lw_g (lw_at lw_m10 161 rfl) rfl
theorem q2433 : (Jvm.Cond.code ({ cls := "BadCodesModel", name := "noLimit", desc := "(I)Z" } : Jvm.MethodName) prog_14_method_103_code (2 : Nat) (Option.some Jvm.ClassFile.FieldType.boolean)) ∈ lw_all := lw_g (lw_at lw_m10 162 rfl) rfl
theorem q2434 : (Jvm.Cond.constantLong "BadCodesModel" (349 : Nat) (8 : Int64)) ∈ lw_all := lw_g (lw_at lw_m10 163 rfl) rfl
theorem q2435 : (Jvm.Cond.methodLink "BadCodesModel" (354 : Nat) ({ cls := "BadCodesModel", name := "sortedBy", desc := "(I)I" } : Jvm.MethodName)) ∈ lw_all := lw_g (lw_at lw_m10 164 rfl) rfl
theorem q2436 : (Jvm.Cond.privateMethod ({ cls := "BadCodesModel", name := "sortedBy", desc := "(I)I" } : Jvm.MethodName)) ∈ lw_tbl := lw_at lw_m10 165 rfl
theorem q2437 : (Jvm.Cond.instanceMethod ({ cls := "BadCodesModel", name := "sortedBy", desc := "(I)I" } : Jvm.MethodName)) ∈ lw_all := lw_g (lw_at lw_m10 166 rfl) rfl
theorem q2438 : (Jvm.Cond.code ({ cls := "BadCodesModel", name := "sortedBy", desc := "(I)I" } : Jvm.MethodName) prog_14_method_102_code (2 : Nat) (Option.some Jvm.ClassFile.FieldType.int)) ∈ lw_all := lw_g (lw_at lw_m10 167 rfl) rfl
theorem q2440 : (Jvm.Cond.instanceMethod ({ cls := "BadCodesModel", name := "bestLimit", desc := "()I" } : Jvm.MethodName)) ∈ lw_all := lw_g (lw_at lw_m10 169 rfl) rfl
theorem q2441 : (Jvm.Cond.selects "BadCodesModel" ({ cls := "BadCodesModel", name := "bestLimit", desc := "()I" } : Jvm.MethodName) ({ cls := "BadCodesModel", name := "bestLimit", desc := "()I" } : Jvm.MethodName)) ∈ lw_all := lw_g (lw_at lw_m10 170 rfl) rfl
theorem q2442 : (Jvm.Cond.code ({ cls := "BadCodesModel", name := "bestLimit", desc := "()I" } : Jvm.MethodName) prog_14_method_105_code (5 : Nat) (Option.some Jvm.ClassFile.FieldType.int)) ∈ lw_all := lw_g (lw_at lw_m10 171 rfl) rfl
theorem q2444 : (Jvm.Cond.instanceMethod ({ cls := "BadCodesModel", name := "sumFor", desc := "(I)I" } : Jvm.MethodName)) ∈ lw_all := lw_g (lw_at lw_m10 173 rfl) rfl
theorem q2445 : (Jvm.Cond.selects "BadCodesModel" ({ cls := "BadCodesModel", name := "sumFor", desc := "(I)I" } : Jvm.MethodName) ({ cls := "BadCodesModel", name := "sumFor", desc := "(I)I" } : Jvm.MethodName)) ∈ lw_all := lw_g (lw_at lw_m10 174 rfl) rfl
theorem q2446 : (Jvm.Cond.code ({ cls := "BadCodesModel", name := "sumFor", desc := "(I)I" } : Jvm.MethodName) prog_14_method_107_code (6 : Nat) (Option.some Jvm.ClassFile.FieldType.int)) ∈ lw_all := lw_g (lw_at lw_m10 175 rfl) rfl
theorem q2447 : (Jvm.Cond.methodLink "BadCodesModel" (357 : Nat) ({ cls := "BadCodesModel", name := "decidedIn", desc := "(II)I" } : Jvm.MethodName)) ∈ lw_all := lw_g (lw_at lw_m10 176 rfl) rfl
theorem q2448 : (Jvm.Cond.privateMethod ({ cls := "BadCodesModel", name := "decidedIn", desc := "(II)I" } : Jvm.MethodName)) ∈ lw_tbl := lw_at lw_m10 177 rfl
theorem q2449 : (Jvm.Cond.instanceMethod ({ cls := "BadCodesModel", name := "decidedIn", desc := "(II)I" } : Jvm.MethodName)) ∈ lw_all := lw_g (lw_at lw_m10 178 rfl) rfl
theorem q2450 : (Jvm.Cond.code ({ cls := "BadCodesModel", name := "decidedIn", desc := "(II)I" } : Jvm.MethodName) prog_14_method_106_code (5 : Nat) (Option.some Jvm.ClassFile.FieldType.int)) ∈ lw_all := lw_g (lw_at lw_m10 179 rfl) rfl
theorem q2452 : (Jvm.Cond.instanceMethod ({ cls := "BadCodesModel", name := "bagsIf", desc := "(I)I" } : Jvm.MethodName)) ∈ lw_all := lw_g (lw_at lw_m10 181 rfl) rfl
theorem q2453 : (Jvm.Cond.selects "BadCodesModel" ({ cls := "BadCodesModel", name := "bagsIf", desc := "(I)I" } : Jvm.MethodName) ({ cls := "BadCodesModel", name := "bagsIf", desc := "(I)I" } : Jvm.MethodName)) ∈ lw_all := lw_g (lw_at lw_m10 182 rfl) rfl
theorem q2454 : (Jvm.Cond.code ({ cls := "BadCodesModel", name := "bagsIf", desc := "(I)I" } : Jvm.MethodName) prog_14_method_108_code (4 : Nat) (Option.some Jvm.ClassFile.FieldType.int)) ∈ lw_all := lw_g (lw_at lw_m10 183 rfl) rfl
theorem q2456 : (Jvm.Cond.instanceMethod ({ cls := "BadCodesModel", name := "helpful", desc := "(I)I" } : Jvm.MethodName)) ∈ lw_all := lw_g (lw_at lw_m10 185 rfl) rfl
theorem q2457 : (Jvm.Cond.selects "BadCodesModel" ({ cls := "BadCodesModel", name := "helpful", desc := "(I)I" } : Jvm.MethodName) ({ cls := "BadCodesModel", name := "helpful", desc := "(I)I" } : Jvm.MethodName)) ∈ lw_all := lw_g (lw_at lw_m10 186 rfl) rfl
theorem q2458 : (Jvm.Cond.code ({ cls := "BadCodesModel", name := "helpful", desc := "(I)I" } : Jvm.MethodName) prog_14_method_109_code (3 : Nat) (Option.some Jvm.ClassFile.FieldType.int)) ∈ lw_all := lw_g (lw_at lw_m10 187 rfl) rfl
theorem q2460 : (Jvm.Cond.instanceMethod ({ cls := "BadCodesModel", name := "causeIf", desc := "(I)I" } : Jvm.MethodName)) ∈ lw_all := lw_g (lw_at lw_m10 189 rfl) rfl
theorem q2461 : (Jvm.Cond.selects "BadCodesModel" ({ cls := "BadCodesModel", name := "causeIf", desc := "(I)I" } : Jvm.MethodName) ({ cls := "BadCodesModel", name := "causeIf", desc := "(I)I" } : Jvm.MethodName)) ∈ lw_all := lw_g (lw_at lw_m10 190 rfl) rfl
theorem q2462 : (Jvm.Cond.code ({ cls := "BadCodesModel", name := "causeIf", desc := "(I)I" } : Jvm.MethodName) prog_14_method_110_code (2 : Nat) (Option.some Jvm.ClassFile.FieldType.int)) ∈ lw_all := lw_g (lw_at lw_m10 191 rfl) rfl
theorem q2464 : (Jvm.Cond.instanceMethod ({ cls := "BadCodesModel", name := "share", desc := "()F" } : Jvm.MethodName)) ∈ lw_all := lw_g (lw_at lw_m10 193 rfl) rfl
theorem q2465 : (Jvm.Cond.selects "BadCodesModel" ({ cls := "BadCodesModel", name := "share", desc := "()F" } : Jvm.MethodName) ({ cls := "BadCodesModel", name := "share", desc := "()F" } : Jvm.MethodName)) ∈ lw_all := lw_g (lw_at lw_m10 194 rfl) rfl
theorem q2466 : (Jvm.Cond.code ({ cls := "BadCodesModel", name := "share", desc := "()F" } : Jvm.MethodName) prog_14_method_111_code (2 : Nat) (Option.some Jvm.ClassFile.FieldType.float)) ∈ lw_all := lw_g (lw_at lw_m10 195 rfl) rfl
theorem q2468 : (Jvm.Cond.instanceMethod ({ cls := "BadCodesModel", name := "meanDistance", desc := "()D" } : Jvm.MethodName)) ∈ lw_all := lw_g (lw_at lw_m10 197 rfl) rfl
theorem q2469 : (Jvm.Cond.selects "BadCodesModel" ({ cls := "BadCodesModel", name := "meanDistance", desc := "()D" } : Jvm.MethodName) ({ cls := "BadCodesModel", name := "meanDistance", desc := "()D" } : Jvm.MethodName)) ∈ lw_all := lw_g (lw_at lw_m10 198 rfl) rfl
theorem q2470 : (Jvm.Cond.code ({ cls := "BadCodesModel", name := "meanDistance", desc := "()D" } : Jvm.MethodName) prog_14_method_112_code (5 : Nat) (Option.some Jvm.ClassFile.FieldType.double)) ∈ lw_all := lw_g (lw_at lw_m10 199 rfl) rfl
theorem q2472 : (Jvm.Cond.instanceMethod ({ cls := "BadCodesModel", name := "writeLetter", desc := "(I)I" } : Jvm.MethodName)) ∈ lw_all := lw_g (lw_at lw_m10 201 rfl) rfl
theorem q2473 : (Jvm.Cond.selects "BadCodesModel" ({ cls := "BadCodesModel", name := "writeLetter", desc := "(I)I" } : Jvm.MethodName) ({ cls := "BadCodesModel", name := "writeLetter", desc := "(I)I" } : Jvm.MethodName)) ∈ lw_all := lw_g (lw_at lw_m10 202 rfl) rfl
theorem q2474 : (Jvm.Cond.code ({ cls := "BadCodesModel", name := "writeLetter", desc := "(I)I" } : Jvm.MethodName) prog_14_method_116_code (3 : Nat) (Option.some Jvm.ClassFile.FieldType.int)) ∈ lw_all := lw_g (lw_at lw_m10 203 rfl) rfl
theorem q2475 : (Jvm.Cond.methodLink "BadCodesModel" (363 : Nat) ({ cls := "BadCodesModel", name := "says", desc := "(I)V" } : Jvm.MethodName)) ∈ lw_all := lw_g (lw_at lw_m10 204 rfl) rfl
theorem q2476 : (Jvm.Cond.privateMethod ({ cls := "BadCodesModel", name := "says", desc := "(I)V" } : Jvm.MethodName)) ∈ lw_tbl := lw_at lw_m10 205 rfl
theorem q2477 : (Jvm.Cond.instanceMethod ({ cls := "BadCodesModel", name := "says", desc := "(I)V" } : Jvm.MethodName)) ∈ lw_all := lw_g (lw_at lw_m10 206 rfl) rfl
theorem q2478 : (Jvm.Cond.code ({ cls := "BadCodesModel", name := "says", desc := "(I)V" } : Jvm.MethodName) prog_14_method_113_code (2 : Nat) (Option.none : Option Jvm.ClassFile.FieldType)) ∈ lw_all := lw_g (lw_at lw_m10 207 rfl) rfl
theorem q2479 : (Jvm.Cond.methodLink "BadCodesModel" (366 : Nat) ({ cls := "BadCodesModel", name := "saysCode", desc := "(I)V" } : Jvm.MethodName)) ∈ lw_all := lw_g (lw_at lw_m10 208 rfl) rfl
theorem q2480 : (Jvm.Cond.privateMethod ({ cls := "BadCodesModel", name := "saysCode", desc := "(I)V" } : Jvm.MethodName)) ∈ lw_tbl := lw_at lw_m10 209 rfl
theorem q2481 : (Jvm.Cond.instanceMethod ({ cls := "BadCodesModel", name := "saysCode", desc := "(I)V" } : Jvm.MethodName)) ∈ lw_all := lw_g (lw_at lw_m10 210 rfl) rfl
theorem q2482 : (Jvm.Cond.code ({ cls := "BadCodesModel", name := "saysCode", desc := "(I)V" } : Jvm.MethodName) prog_14_method_115_code (3 : Nat) (Option.none : Option Jvm.ClassFile.FieldType)) ∈ lw_all := lw_g (lw_at lw_m10 211 rfl) rfl
theorem q2484 : (Jvm.Cond.instanceMethod ({ cls := "BadCodesModel", name := "writeNear", desc := "(I)I" } : Jvm.MethodName)) ∈ lw_all := lw_g (lw_at lw_m10 213 rfl) rfl
theorem q2485 : (Jvm.Cond.selects "BadCodesModel" ({ cls := "BadCodesModel", name := "writeNear", desc := "(I)I" } : Jvm.MethodName) ({ cls := "BadCodesModel", name := "writeNear", desc := "(I)I" } : Jvm.MethodName)) ∈ lw_all := lw_g (lw_at lw_m10 214 rfl) rfl
theorem q2486 : (Jvm.Cond.code ({ cls := "BadCodesModel", name := "writeNear", desc := "(I)I" } : Jvm.MethodName) prog_14_method_117_code (4 : Nat) (Option.some Jvm.ClassFile.FieldType.int)) ∈ lw_all := lw_g (lw_at lw_m10 215 rfl) rfl
theorem q2487 : (Jvm.Cond.methodLink "BadCodesModel" (369 : Nat) ({ cls := "BadCodesModel", name := "saysNumber", desc := "(I)V" } : Jvm.MethodName)) ∈ lw_all := lw_g (lw_at lw_m10 216 rfl) rfl
theorem q2488 : (Jvm.Cond.privateMethod ({ cls := "BadCodesModel", name := "saysNumber", desc := "(I)V" } : Jvm.MethodName)) ∈ lw_tbl := lw_at lw_m10 217 rfl
theorem q2489 : (Jvm.Cond.instanceMethod ({ cls := "BadCodesModel", name := "saysNumber", desc := "(I)V" } : Jvm.MethodName)) ∈ lw_all := lw_g (lw_at lw_m10 218 rfl) rfl
theorem q2490 : (Jvm.Cond.code ({ cls := "BadCodesModel", name := "saysNumber", desc := "(I)V" } : Jvm.MethodName) prog_14_method_114_code (2 : Nat) (Option.none : Option Jvm.ClassFile.FieldType)) ∈ lw_all := lw_g (lw_at lw_m10 219 rfl) rfl
theorem q2492 : (Jvm.Cond.instanceMethod ({ cls := "BadCodesModel", name := "writeBags", desc := "()I" } : Jvm.MethodName)) ∈ lw_all := lw_g (lw_at lw_m10 221 rfl) rfl
theorem q2493 : (Jvm.Cond.selects "BadCodesModel" ({ cls := "BadCodesModel", name := "writeBags", desc := "()I" } : Jvm.MethodName) ({ cls := "BadCodesModel", name := "writeBags", desc := "()I" } : Jvm.MethodName)) ∈ lw_all := lw_g (lw_at lw_m10 222 rfl) rfl
theorem q2494 : (Jvm.Cond.code ({ cls := "BadCodesModel", name := "writeBags", desc := "()I" } : Jvm.MethodName) prog_14_method_118_code (2 : Nat) (Option.some Jvm.ClassFile.FieldType.int)) ∈ lw_all := lw_g (lw_at lw_m10 223 rfl) rfl
theorem q2496 : (Jvm.Cond.instanceMethod ({ cls := "BadCodesModel", name := "textByte", desc := "(I)I" } : Jvm.MethodName)) ∈ lw_all := lw_g (lw_at lw_m10 225 rfl) rfl
theorem q2497 : (Jvm.Cond.selects "BadCodesModel" ({ cls := "BadCodesModel", name := "textByte", desc := "(I)I" } : Jvm.MethodName) ({ cls := "BadCodesModel", name := "textByte", desc := "(I)I" } : Jvm.MethodName)) ∈ lw_all := lw_g (lw_at lw_m10 226 rfl) rfl
theorem q2498 : (Jvm.Cond.code ({ cls := "BadCodesModel", name := "textByte", desc := "(I)I" } : Jvm.MethodName) prog_14_method_119_code (2 : Nat) (Option.some Jvm.ClassFile.FieldType.int)) ∈ lw_all := lw_g (lw_at lw_m10 227 rfl) rfl
theorem q2500 : (Jvm.Cond.instanceMethod ({ cls := "BadCodesModel", name := "sort", desc := "(I)I" } : Jvm.MethodName)) ∈ lw_all := lw_g (lw_at lw_m10 229 rfl) rfl
theorem q2501 : (Jvm.Cond.selects "BadCodesModel" ({ cls := "BadCodesModel", name := "sort", desc := "(I)I" } : Jvm.MethodName) ({ cls := "BadCodesModel", name := "sort", desc := "(I)I" } : Jvm.MethodName)) ∈ lw_all := lw_g (lw_at lw_m10 230 rfl) rfl
theorem q2502 : (Jvm.Cond.code ({ cls := "BadCodesModel", name := "sort", desc := "(I)I" } : Jvm.MethodName) prog_14_method_122_code (2 : Nat) (Option.some Jvm.ClassFile.FieldType.int)) ∈ lw_all := lw_g (lw_at lw_m10 231 rfl) rfl
theorem q2503 : (Jvm.Cond.methodLink "BadCodesModel" (372 : Nat) ({ cls := "BadCodesModel", name := "noWaiting", desc := "(I)Z" } : Jvm.MethodName)) ∈ lw_all := lw_g (lw_at lw_m10 232 rfl) rfl
theorem q2504 : (Jvm.Cond.privateMethod ({ cls := "BadCodesModel", name := "noWaiting", desc := "(I)Z" } : Jvm.MethodName)) ∈ lw_tbl := lw_at lw_m10 233 rfl
theorem q2505 : (Jvm.Cond.instanceMethod ({ cls := "BadCodesModel", name := "noWaiting", desc := "(I)Z" } : Jvm.MethodName)) ∈ lw_all := lw_g (lw_at lw_m10 234 rfl) rfl
theorem q2506 : (Jvm.Cond.code ({ cls := "BadCodesModel", name := "noWaiting", desc := "(I)Z" } : Jvm.MethodName) prog_14_method_121_code (2 : Nat) (Option.some Jvm.ClassFile.FieldType.boolean)) ∈ lw_all := lw_g (lw_at lw_m10 235 rfl) rfl
theorem q2507 : (Jvm.Cond.methodLink "BadCodesModel" (375 : Nat) ({ cls := "BadCodesModel", name := "keepsAll", desc := "()V" } : Jvm.MethodName)) ∈ lw_all := lw_g (lw_at lw_m10 236 rfl) rfl
theorem q2508 : (Jvm.Cond.privateMethod ({ cls := "BadCodesModel", name := "keepsAll", desc := "()V" } : Jvm.MethodName)) ∈ lw_tbl := lw_at lw_m10 237 rfl
theorem q2509 : (Jvm.Cond.instanceMethod ({ cls := "BadCodesModel", name := "keepsAll", desc := "()V" } : Jvm.MethodName)) ∈ lw_all := lw_g (lw_at lw_m10 238 rfl) rfl
theorem q2510 : (Jvm.Cond.code ({ cls := "BadCodesModel", name := "keepsAll", desc := "()V" } : Jvm.MethodName) prog_14_method_120_code (2 : Nat) (Option.none : Option Jvm.ClassFile.FieldType)) ∈ lw_all := lw_g (lw_at lw_m10 239 rfl) rfl
theorem q2512 : (Jvm.Cond.instanceMethod ({ cls := "BadCodesModel", name := "sortAll", desc := "()I" } : Jvm.MethodName)) ∈ lw_all := lw_g (lw_at lw_m11 1 rfl) rfl
theorem q2513 : (Jvm.Cond.selects "BadCodesModel" ({ cls := "BadCodesModel", name := "sortAll", desc := "()I" } : Jvm.MethodName) ({ cls := "BadCodesModel", name := "sortAll", desc := "()I" } : Jvm.MethodName)) ∈ lw_all := lw_g (lw_at lw_m11 2 rfl) rfl
theorem q2514 : (Jvm.Cond.code ({ cls := "BadCodesModel", name := "sortAll", desc := "()I" } : Jvm.MethodName) prog_14_method_123_code (1 : Nat) (Option.some Jvm.ClassFile.FieldType.int)) ∈ lw_all := lw_g (lw_at lw_m11 3 rfl) rfl
theorem q2516 : (Jvm.Cond.instanceMethod ({ cls := "BadCodesModel", name := "again", desc := "(III)I" } : Jvm.MethodName)) ∈ lw_all := lw_g (lw_at lw_m11 5 rfl) rfl
theorem q2517 : (Jvm.Cond.selects "BadCodesModel" ({ cls := "BadCodesModel", name := "again", desc := "(III)I" } : Jvm.MethodName) ({ cls := "BadCodesModel", name := "again", desc := "(III)I" } : Jvm.MethodName)) ∈ lw_all := lw_g (lw_at lw_m11 6 rfl) rfl
theorem q2518 : (Jvm.Cond.code ({ cls := "BadCodesModel", name := "again", desc := "(III)I" } : Jvm.MethodName) prog_14_method_124_code (4 : Nat) (Option.some Jvm.ClassFile.FieldType.int)) ∈ lw_all := lw_g (lw_at lw_m11 7 rfl) rfl
theorem q2520 : (Jvm.Cond.instanceMethod ({ cls := "BadCodesModel", name := "addLetter", desc := "(III)I" } : Jvm.MethodName)) ∈ lw_all := lw_g (lw_at lw_m11 9 rfl) rfl
theorem q2521 : (Jvm.Cond.selects "BadCodesModel" ({ cls := "BadCodesModel", name := "addLetter", desc := "(III)I" } : Jvm.MethodName) ({ cls := "BadCodesModel", name := "addLetter", desc := "(III)I" } : Jvm.MethodName)) ∈ lw_all := lw_g (lw_at lw_m11 10 rfl) rfl
theorem q2522 : (Jvm.Cond.code ({ cls := "BadCodesModel", name := "addLetter", desc := "(III)I" } : Jvm.MethodName) prog_14_method_125_code (6 : Nat) (Option.some Jvm.ClassFile.FieldType.int)) ∈ lw_all := lw_g (lw_at lw_m11 11 rfl) rfl
theorem q2523 : (Jvm.Cond.constantLong "BadCodesModel" (378 : Nat) (99999 : Int64)) ∈ lw_all := lw_g (lw_at lw_m11 12 rfl) rfl
theorem q2524 : (Jvm.Cond.constantLong "BadCodesModel" (380 : Nat) (31 : Int64)) ∈ lw_all := lw_g (lw_at lw_m11 13 rfl) rfl
theorem q2526 : (Jvm.Cond.instanceMethod ({ cls := "BadCodesModel", name := "setSum", desc := "(II)I" } : Jvm.MethodName)) ∈ lw_all := lw_g (lw_at lw_m11 15 rfl) rfl
theorem q2527 : (Jvm.Cond.selects "BadCodesModel" ({ cls := "BadCodesModel", name := "setSum", desc := "(II)I" } : Jvm.MethodName) ({ cls := "BadCodesModel", name := "setSum", desc := "(II)I" } : Jvm.MethodName)) ∈ lw_all := lw_g (lw_at lw_m11 16 rfl) rfl
theorem q2528 : (Jvm.Cond.code ({ cls := "BadCodesModel", name := "setSum", desc := "(II)I" } : Jvm.MethodName) prog_14_method_126_code (4 : Nat) (Option.some Jvm.ClassFile.FieldType.int)) ∈ lw_all := lw_g (lw_at lw_m11 17 rfl) rfl
theorem q2530 : (Jvm.Cond.instanceMethod ({ cls := "BadCodesModel", name := "move", desc := "(II)I" } : Jvm.MethodName)) ∈ lw_all := lw_g (lw_at lw_m11 19 rfl) rfl
theorem q2531 : (Jvm.Cond.selects "BadCodesModel" ({ cls := "BadCodesModel", name := "move", desc := "(II)I" } : Jvm.MethodName) ({ cls := "BadCodesModel", name := "move", desc := "(II)I" } : Jvm.MethodName)) ∈ lw_all := lw_g (lw_at lw_m11 20 rfl) rfl
theorem q2532 : (Jvm.Cond.code ({ cls := "BadCodesModel", name := "move", desc := "(II)I" } : Jvm.MethodName) prog_14_method_127_code (4 : Nat) (Option.some Jvm.ClassFile.FieldType.int)) ∈ lw_all := lw_g (lw_at lw_m11 21 rfl) rfl
theorem q2534 : (Jvm.Cond.instanceMethod ({ cls := "BadCodesModel", name := "setLimit", desc := "(I)I" } : Jvm.MethodName)) ∈ lw_all := lw_g (lw_at lw_m11 23 rfl) rfl
theorem q2535 : (Jvm.Cond.selects "BadCodesModel" ({ cls := "BadCodesModel", name := "setLimit", desc := "(I)I" } : Jvm.MethodName) ({ cls := "BadCodesModel", name := "setLimit", desc := "(I)I" } : Jvm.MethodName)) ∈ lw_all := lw_g (lw_at lw_m11 24 rfl) rfl
theorem q2536 : (Jvm.Cond.code ({ cls := "BadCodesModel", name := "setLimit", desc := "(I)I" } : Jvm.MethodName) prog_14_method_128_code (3 : Nat) (Option.some Jvm.ClassFile.FieldType.int)) ∈ lw_all := lw_g (lw_at lw_m11 25 rfl) rfl
theorem q2538 : (Jvm.Cond.instanceMethod ({ cls := "BadCodesModel", name := "turnRoute", desc := "(I)I" } : Jvm.MethodName)) ∈ lw_all := lw_g (lw_at lw_m11 27 rfl) rfl
theorem q2539 : (Jvm.Cond.selects "BadCodesModel" ({ cls := "BadCodesModel", name := "turnRoute", desc := "(I)I" } : Jvm.MethodName) ({ cls := "BadCodesModel", name := "turnRoute", desc := "(I)I" } : Jvm.MethodName)) ∈ lw_all := lw_g (lw_at lw_m11 28 rfl) rfl
theorem q2540 : (Jvm.Cond.code ({ cls := "BadCodesModel", name := "turnRoute", desc := "(I)I" } : Jvm.MethodName) prog_14_method_129_code (2 : Nat) (Option.some Jvm.ClassFile.FieldType.int)) ∈ lw_all := lw_g (lw_at lw_m11 29 rfl) rfl
theorem q2542 : (Jvm.Cond.instanceMethod ({ cls := "BadCodesModel", name := "undo", desc := "()I" } : Jvm.MethodName)) ∈ lw_all := lw_g (lw_at lw_m11 31 rfl) rfl
theorem q2543 : (Jvm.Cond.selects "BadCodesModel" ({ cls := "BadCodesModel", name := "undo", desc := "()I" } : Jvm.MethodName) ({ cls := "BadCodesModel", name := "undo", desc := "()I" } : Jvm.MethodName)) ∈ lw_all := lw_g (lw_at lw_m11 32 rfl) rfl
theorem q2544 : (Jvm.Cond.code ({ cls := "BadCodesModel", name := "undo", desc := "()I" } : Jvm.MethodName) prog_14_method_130_code (1 : Nat) (Option.some Jvm.ClassFile.FieldType.int)) ∈ lw_all := lw_g (lw_at lw_m11 33 rfl) rfl
theorem q2546 : (Jvm.Cond.instanceMethod ({ cls := "BadCodesModel", name := "undoable", desc := "()I" } : Jvm.MethodName)) ∈ lw_all := lw_g (lw_at lw_m11 35 rfl) rfl
theorem q2547 : (Jvm.Cond.selects "BadCodesModel" ({ cls := "BadCodesModel", name := "undoable", desc := "()I" } : Jvm.MethodName) ({ cls := "BadCodesModel", name := "undoable", desc := "()I" } : Jvm.MethodName)) ∈ lw_all := lw_g (lw_at lw_m11 36 rfl) rfl
theorem q2548 : (Jvm.Cond.code ({ cls := "BadCodesModel", name := "undoable", desc := "()I" } : Jvm.MethodName) prog_14_method_131_code (1 : Nat) (Option.some Jvm.ClassFile.FieldType.int)) ∈ lw_all := lw_g (lw_at lw_m11 37 rfl) rfl
theorem q2550 : (Jvm.Cond.instanceMethod ({ cls := "BadCodesModel", name := "save", desc := "(I)I" } : Jvm.MethodName)) ∈ lw_all := lw_g (lw_at lw_m11 39 rfl) rfl
theorem q2551 : (Jvm.Cond.selects "BadCodesModel" ({ cls := "BadCodesModel", name := "save", desc := "(I)I" } : Jvm.MethodName) ({ cls := "BadCodesModel", name := "save", desc := "(I)I" } : Jvm.MethodName)) ∈ lw_all := lw_g (lw_at lw_m11 40 rfl) rfl
theorem q2552 : (Jvm.Cond.code ({ cls := "BadCodesModel", name := "save", desc := "(I)I" } : Jvm.MethodName) prog_14_method_132_code (2 : Nat) (Option.some Jvm.ClassFile.FieldType.int)) ∈ lw_all := lw_g (lw_at lw_m11 41 rfl) rfl
theorem q2554 : (Jvm.Cond.instanceMethod ({ cls := "BadCodesModel", name := "restore", desc := "(I)I" } : Jvm.MethodName)) ∈ lw_all := lw_g (lw_at lw_m11 43 rfl) rfl
theorem q2555 : (Jvm.Cond.selects "BadCodesModel" ({ cls := "BadCodesModel", name := "restore", desc := "(I)I" } : Jvm.MethodName) ({ cls := "BadCodesModel", name := "restore", desc := "(I)I" } : Jvm.MethodName)) ∈ lw_all := lw_g (lw_at lw_m11 44 rfl) rfl
theorem q2556 : (Jvm.Cond.code ({ cls := "BadCodesModel", name := "restore", desc := "(I)I" } : Jvm.MethodName) prog_14_method_133_code (2 : Nat) (Option.some Jvm.ClassFile.FieldType.int)) ∈ lw_all := lw_g (lw_at lw_m11 45 rfl) rfl
theorem q2576 : (Jvm.Cond.castable "BadCodesModel" "java/lang/Object") ∈ lw_tbl := lw_at lw_m11 65 rfl
theorem in_X2 : ∀ w ∈ wsX20, w ∈ lw_all := lw_in wsX20 [1973, 1975, 1977, 1979, 1981, 1983, 1985, 1987, 1989, 1991, 1993, 1995, 1997, 1999, 2001, 2003, 2005, 2007, 2009, 2011, 2013, 2015] (by decide +kernel) (by decide +kernel)
