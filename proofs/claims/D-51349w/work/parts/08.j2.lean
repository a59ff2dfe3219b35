/-! java/lang/AbstractStringBuilder -/
set_option maxRecDepth 100000
def RJ10 : String := "java/lang/AbstractStringBuilder"
abbrev cJ10_init : ByteArray := prog_16_method_2_code
def yJ10_init : MethodName := ⟨RJ10, "<init>", "(I)V"⟩
def dkwJ10_init_1 : List UInt8 := [167, 0, 16, 42, 27, 184, 0, 26, 181, 0, 15, 42, 4, 181, 0, 22, 177]
abbrev dktJ10_init_1 : List UInt8 := dkwJ10_init_1 ++ []
def dkwJ10_init_0 : List UInt8 := [42, 183, 0, 3, 178, 0, 18, 153, 0, 18, 42, 27, 188, 8, 181, 0, 15, 42, 3, 181, 0, 22]
abbrev dktJ10_init_0 : List UInt8 := dkwJ10_init_0 ++ dktJ10_init_1
theorem dksJ10_init_0 : cJ10_init.data.toList.drop 0 = dktJ10_init_0 := by decide +kernel
theorem dksJ10_init_1 : cJ10_init.data.toList.drop 22 = dktJ10_init_1 := dk_seg dksJ10_init_0 22 rfl rfl
theorem dJ10_init_0 : decode cJ10_init 0 = .ok (.aload_n 0, 1) := dk_42 (dk_at dksJ10_init_0 0 rfl rfl)
theorem dJ10_init_1 : decode cJ10_init 1 = .ok (.invokespecial 3, 3) := dk_183 0 3 (dk_at dksJ10_init_0 1 rfl rfl)
theorem dJ10_init_4 : decode cJ10_init 4 = .ok (.getstatic 18, 3) := dk_178 0 18 (dk_at dksJ10_init_0 4 rfl rfl)
theorem dJ10_init_7 : decode cJ10_init 7 = .ok (.ifCond .eq 18, 3) := dk_153 0 18 (dk_at dksJ10_init_0 7 rfl rfl)
theorem dJ10_init_10 : decode cJ10_init 10 = .ok (.aload_n 0, 1) := dk_42 (dk_at dksJ10_init_0 10 rfl rfl)
theorem dJ10_init_11 : decode cJ10_init 11 = .ok (.iload_n 1, 1) := dk_27 (dk_at dksJ10_init_0 11 rfl rfl)
theorem dJ10_init_12 : decode cJ10_init 12 = .ok (.newarray .byte, 2) := dk_188_8 (dk_at dksJ10_init_0 12 rfl rfl)
theorem dJ10_init_14 : decode cJ10_init 14 = .ok (.putfield 15, 3) := dk_181 0 15 (dk_at dksJ10_init_0 14 rfl rfl)
theorem dJ10_init_17 : decode cJ10_init 17 = .ok (.aload_n 0, 1) := dk_42 (dk_at dksJ10_init_0 17 rfl rfl)
theorem dJ10_init_18 : decode cJ10_init 18 = .ok (.iconst 0, 1) := dk_3 (dk_at dksJ10_init_0 18 rfl rfl)
theorem dJ10_init_19 : decode cJ10_init 19 = .ok (.putfield 22, 3) := dk_181 0 22 (dk_at dksJ10_init_0 19 rfl rfl)
theorem dJ10_init_22 : decode cJ10_init 22 = .ok (.goto 16, 3) := dk_167 0 16 (dk_at dksJ10_init_1 0 rfl rfl)
theorem dJ10_init_25 : decode cJ10_init 25 = .ok (.aload_n 0, 1) := dk_42 (dk_at dksJ10_init_1 3 rfl rfl)
theorem dJ10_init_26 : decode cJ10_init 26 = .ok (.iload_n 1, 1) := dk_27 (dk_at dksJ10_init_1 4 rfl rfl)
theorem dJ10_init_27 : decode cJ10_init 27 = .ok (.invokestatic 26, 3) := dk_184 0 26 (dk_at dksJ10_init_1 5 rfl rfl)
theorem dJ10_init_30 : decode cJ10_init 30 = .ok (.putfield 15, 3) := dk_181 0 15 (dk_at dksJ10_init_1 8 rfl rfl)
theorem dJ10_init_33 : decode cJ10_init 33 = .ok (.aload_n 0, 1) := dk_42 (dk_at dksJ10_init_1 11 rfl rfl)
theorem dJ10_init_34 : decode cJ10_init 34 = .ok (.iconst 1, 1) := dk_4 (dk_at dksJ10_init_1 12 rfl rfl)
theorem dJ10_init_35 : decode cJ10_init 35 = .ok (.putfield 22, 3) := dk_181 0 22 (dk_at dksJ10_init_1 13 rfl rfl)
theorem dJ10_init_38 : decode cJ10_init 38 = .ok (.return_, 1) := dk_177 (dk_at dksJ10_init_1 16 rfl rfl)
abbrev cJ10_append : ByteArray := prog_16_method_31_code
def yJ10_append : MethodName := ⟨RJ10, "append", "(C)Ljava/lang/AbstractStringBuilder;"⟩
def dkwJ10_append_3 : List UInt8 := [181, 0, 79, 27, 184, 0, 197, 42, 176]
abbrev dktJ10_append_3 : List UInt8 := dkwJ10_append_3 ++ []
def dkwJ10_append_2 : List UInt8 := [182, 0, 83, 153, 0, 7, 42, 182, 0, 195, 42, 180, 0, 15, 42, 89, 180, 0, 79, 90, 4, 96]
abbrev dktJ10_append_2 : List UInt8 := dkwJ10_append_2 ++ dktJ10_append_3
def dkwJ10_append_1 : List UInt8 := [42, 180, 0, 15, 42, 89, 180, 0, 79, 90, 4, 96, 181, 0, 79, 27, 145, 84, 167, 0, 33, 42]
abbrev dktJ10_append_1 : List UInt8 := dkwJ10_append_1 ++ dktJ10_append_2
def dkwJ10_append_0 : List UInt8 := [42, 42, 180, 0, 79, 4, 96, 182, 0, 100, 42, 182, 0, 83, 153, 0, 31, 27, 184, 0, 191, 153, 0, 24]
abbrev dktJ10_append_0 : List UInt8 := dkwJ10_append_0 ++ dktJ10_append_1
theorem dksJ10_append_0 : cJ10_append.data.toList.drop 0 = dktJ10_append_0 := by decide +kernel
theorem dksJ10_append_1 : cJ10_append.data.toList.drop 24 = dktJ10_append_1 := dk_seg dksJ10_append_0 24 rfl rfl
theorem dksJ10_append_2 : cJ10_append.data.toList.drop 46 = dktJ10_append_2 := dk_seg dksJ10_append_1 22 rfl rfl
theorem dksJ10_append_3 : cJ10_append.data.toList.drop 68 = dktJ10_append_3 := dk_seg dksJ10_append_2 22 rfl rfl
theorem dJ10_append_0 : decode cJ10_append 0 = .ok (.aload_n 0, 1) := dk_42 (dk_at dksJ10_append_0 0 rfl rfl)
theorem dJ10_append_1 : decode cJ10_append 1 = .ok (.aload_n 0, 1) := dk_42 (dk_at dksJ10_append_0 1 rfl rfl)
theorem dJ10_append_2 : decode cJ10_append 2 = .ok (.getfield 79, 3) := dk_180 0 79 (dk_at dksJ10_append_0 2 rfl rfl)
theorem dJ10_append_5 : decode cJ10_append 5 = .ok (.iconst 1, 1) := dk_4 (dk_at dksJ10_append_0 5 rfl rfl)
theorem dJ10_append_6 : decode cJ10_append 6 = .ok (.iadd, 1) := dk_96 (dk_at dksJ10_append_0 6 rfl rfl)
theorem dJ10_append_7 : decode cJ10_append 7 = .ok (.invokevirtual 100, 3) := dk_182 0 100 (dk_at dksJ10_append_0 7 rfl rfl)
theorem dJ10_append_10 : decode cJ10_append 10 = .ok (.aload_n 0, 1) := dk_42 (dk_at dksJ10_append_0 10 rfl rfl)
theorem dJ10_append_11 : decode cJ10_append 11 = .ok (.invokevirtual 83, 3) := dk_182 0 83 (dk_at dksJ10_append_0 11 rfl rfl)
theorem dJ10_append_14 : decode cJ10_append 14 = .ok (.ifCond .eq 31, 3) := dk_153 0 31 (dk_at dksJ10_append_0 14 rfl rfl)
theorem dJ10_append_17 : decode cJ10_append 17 = .ok (.iload_n 1, 1) := dk_27 (dk_at dksJ10_append_0 17 rfl rfl)
theorem dJ10_append_18 : decode cJ10_append 18 = .ok (.invokestatic 191, 3) := dk_184 0 191 (dk_at dksJ10_append_0 18 rfl rfl)
theorem dJ10_append_21 : decode cJ10_append 21 = .ok (.ifCond .eq 24, 3) := dk_153 0 24 (dk_at dksJ10_append_0 21 rfl rfl)
theorem dJ10_append_24 : decode cJ10_append 24 = .ok (.aload_n 0, 1) := dk_42 (dk_at dksJ10_append_1 0 rfl rfl)
theorem dJ10_append_25 : decode cJ10_append 25 = .ok (.getfield 15, 3) := dk_180 0 15 (dk_at dksJ10_append_1 1 rfl rfl)
theorem dJ10_append_28 : decode cJ10_append 28 = .ok (.aload_n 0, 1) := dk_42 (dk_at dksJ10_append_1 4 rfl rfl)
theorem dJ10_append_29 : decode cJ10_append 29 = .ok (.dup, 1) := dk_89 (dk_at dksJ10_append_1 5 rfl rfl)
theorem dJ10_append_30 : decode cJ10_append 30 = .ok (.getfield 79, 3) := dk_180 0 79 (dk_at dksJ10_append_1 6 rfl rfl)
theorem dJ10_append_33 : decode cJ10_append 33 = .ok (.dup_x1, 1) := dk_90 (dk_at dksJ10_append_1 9 rfl rfl)
theorem dJ10_append_34 : decode cJ10_append 34 = .ok (.iconst 1, 1) := dk_4 (dk_at dksJ10_append_1 10 rfl rfl)
theorem dJ10_append_35 : decode cJ10_append 35 = .ok (.iadd, 1) := dk_96 (dk_at dksJ10_append_1 11 rfl rfl)
theorem dJ10_append_36 : decode cJ10_append 36 = .ok (.putfield 79, 3) := dk_181 0 79 (dk_at dksJ10_append_1 12 rfl rfl)
theorem dJ10_append_39 : decode cJ10_append 39 = .ok (.iload_n 1, 1) := dk_27 (dk_at dksJ10_append_1 15 rfl rfl)
theorem dJ10_append_40 : decode cJ10_append 40 = .ok (.i2b, 1) := dk_145 (dk_at dksJ10_append_1 16 rfl rfl)
theorem dJ10_append_41 : decode cJ10_append 41 = .ok (.bastore, 1) := dk_84 (dk_at dksJ10_append_1 17 rfl rfl)
theorem dJ10_append_42 : decode cJ10_append 42 = .ok (.goto 33, 3) := dk_167 0 33 (dk_at dksJ10_append_1 18 rfl rfl)
theorem dJ10_append_45 : decode cJ10_append 45 = .ok (.aload_n 0, 1) := dk_42 (dk_at dksJ10_append_1 21 rfl rfl)
theorem dJ10_append_46 : decode cJ10_append 46 = .ok (.invokevirtual 83, 3) := dk_182 0 83 (dk_at dksJ10_append_2 0 rfl rfl)
theorem dJ10_append_49 : decode cJ10_append 49 = .ok (.ifCond .eq 7, 3) := dk_153 0 7 (dk_at dksJ10_append_2 3 rfl rfl)
theorem dJ10_append_52 : decode cJ10_append 52 = .ok (.aload_n 0, 1) := dk_42 (dk_at dksJ10_append_2 6 rfl rfl)
theorem dJ10_append_53 : decode cJ10_append 53 = .ok (.invokevirtual 195, 3) := dk_182 0 195 (dk_at dksJ10_append_2 7 rfl rfl)
theorem dJ10_append_56 : decode cJ10_append 56 = .ok (.aload_n 0, 1) := dk_42 (dk_at dksJ10_append_2 10 rfl rfl)
theorem dJ10_append_57 : decode cJ10_append 57 = .ok (.getfield 15, 3) := dk_180 0 15 (dk_at dksJ10_append_2 11 rfl rfl)
theorem dJ10_append_60 : decode cJ10_append 60 = .ok (.aload_n 0, 1) := dk_42 (dk_at dksJ10_append_2 14 rfl rfl)
theorem dJ10_append_61 : decode cJ10_append 61 = .ok (.dup, 1) := dk_89 (dk_at dksJ10_append_2 15 rfl rfl)
theorem dJ10_append_62 : decode cJ10_append 62 = .ok (.getfield 79, 3) := dk_180 0 79 (dk_at dksJ10_append_2 16 rfl rfl)
theorem dJ10_append_65 : decode cJ10_append 65 = .ok (.dup_x1, 1) := dk_90 (dk_at dksJ10_append_2 19 rfl rfl)
theorem dJ10_append_66 : decode cJ10_append 66 = .ok (.iconst 1, 1) := dk_4 (dk_at dksJ10_append_2 20 rfl rfl)
theorem dJ10_append_67 : decode cJ10_append 67 = .ok (.iadd, 1) := dk_96 (dk_at dksJ10_append_2 21 rfl rfl)
theorem dJ10_append_68 : decode cJ10_append 68 = .ok (.putfield 79, 3) := dk_181 0 79 (dk_at dksJ10_append_3 0 rfl rfl)
theorem dJ10_append_71 : decode cJ10_append 71 = .ok (.iload_n 1, 1) := dk_27 (dk_at dksJ10_append_3 3 rfl rfl)
theorem dJ10_append_72 : decode cJ10_append 72 = .ok (.invokestatic 197, 3) := dk_184 0 197 (dk_at dksJ10_append_3 4 rfl rfl)
theorem dJ10_append_75 : decode cJ10_append 75 = .ok (.aload_n 0, 1) := dk_42 (dk_at dksJ10_append_3 7 rfl rfl)
theorem dJ10_append_76 : decode cJ10_append 76 = .ok (.areturn, 1) := dk_176 (dk_at dksJ10_append_3 8 rfl rfl)
abbrev cJ10_ensureCapacityInternal : ByteArray := prog_16_method_9_code
def yJ10_ensureCapacityInternal : MethodName := ⟨RJ10, "ensureCapacityInternal", "(I)V"⟩
def dkwJ10_ensureCapacityInternal_1 : List UInt8 := [182, 0, 104, 42, 180, 0, 22, 120, 184, 0, 108, 181, 0, 15, 177]
abbrev dktJ10_ensureCapacityInternal_1 : List UInt8 := dkwJ10_ensureCapacityInternal_1 ++ []
def dkwJ10_ensureCapacityInternal_0 : List UInt8 := [42, 180, 0, 15, 190, 42, 180, 0, 22, 122, 61, 27, 28, 100, 158, 0, 24, 42, 42, 180, 0, 15, 42, 27]
abbrev dktJ10_ensureCapacityInternal_0 : List UInt8 := dkwJ10_ensureCapacityInternal_0 ++ dktJ10_ensureCapacityInternal_1
theorem dksJ10_ensureCapacityInternal_0 : cJ10_ensureCapacityInternal.data.toList.drop 0 = dktJ10_ensureCapacityInternal_0 := by decide +kernel
theorem dksJ10_ensureCapacityInternal_1 : cJ10_ensureCapacityInternal.data.toList.drop 24 = dktJ10_ensureCapacityInternal_1 := dk_seg dksJ10_ensureCapacityInternal_0 24 rfl rfl
theorem dJ10_ensureCapacityInternal_0 : decode cJ10_ensureCapacityInternal 0 = .ok (.aload_n 0, 1) := dk_42 (dk_at dksJ10_ensureCapacityInternal_0 0 rfl rfl)
theorem dJ10_ensureCapacityInternal_1 : decode cJ10_ensureCapacityInternal 1 = .ok (.getfield 15, 3) := dk_180 0 15 (dk_at dksJ10_ensureCapacityInternal_0 1 rfl rfl)
theorem dJ10_ensureCapacityInternal_4 : decode cJ10_ensureCapacityInternal 4 = .ok (.arraylength, 1) := dk_190 (dk_at dksJ10_ensureCapacityInternal_0 4 rfl rfl)
theorem dJ10_ensureCapacityInternal_5 : decode cJ10_ensureCapacityInternal 5 = .ok (.aload_n 0, 1) := dk_42 (dk_at dksJ10_ensureCapacityInternal_0 5 rfl rfl)
theorem dJ10_ensureCapacityInternal_6 : decode cJ10_ensureCapacityInternal 6 = .ok (.getfield 22, 3) := dk_180 0 22 (dk_at dksJ10_ensureCapacityInternal_0 6 rfl rfl)
theorem dJ10_ensureCapacityInternal_9 : decode cJ10_ensureCapacityInternal 9 = .ok (.ishr, 1) := dk_122 (dk_at dksJ10_ensureCapacityInternal_0 9 rfl rfl)
theorem dJ10_ensureCapacityInternal_10 : decode cJ10_ensureCapacityInternal 10 = .ok (.istore_n 2, 1) := dk_61 (dk_at dksJ10_ensureCapacityInternal_0 10 rfl rfl)
theorem dJ10_ensureCapacityInternal_11 : decode cJ10_ensureCapacityInternal 11 = .ok (.iload_n 1, 1) := dk_27 (dk_at dksJ10_ensureCapacityInternal_0 11 rfl rfl)
theorem dJ10_ensureCapacityInternal_12 : decode cJ10_ensureCapacityInternal 12 = .ok (.iload_n 2, 1) := dk_28 (dk_at dksJ10_ensureCapacityInternal_0 12 rfl rfl)
theorem dJ10_ensureCapacityInternal_13 : decode cJ10_ensureCapacityInternal 13 = .ok (.isub, 1) := dk_100 (dk_at dksJ10_ensureCapacityInternal_0 13 rfl rfl)
theorem dJ10_ensureCapacityInternal_14 : decode cJ10_ensureCapacityInternal 14 = .ok (.ifCond .le 24, 3) := dk_158 0 24 (dk_at dksJ10_ensureCapacityInternal_0 14 rfl rfl)
theorem dJ10_ensureCapacityInternal_17 : decode cJ10_ensureCapacityInternal 17 = .ok (.aload_n 0, 1) := dk_42 (dk_at dksJ10_ensureCapacityInternal_0 17 rfl rfl)
theorem dJ10_ensureCapacityInternal_18 : decode cJ10_ensureCapacityInternal 18 = .ok (.aload_n 0, 1) := dk_42 (dk_at dksJ10_ensureCapacityInternal_0 18 rfl rfl)
theorem dJ10_ensureCapacityInternal_19 : decode cJ10_ensureCapacityInternal 19 = .ok (.getfield 15, 3) := dk_180 0 15 (dk_at dksJ10_ensureCapacityInternal_0 19 rfl rfl)
theorem dJ10_ensureCapacityInternal_22 : decode cJ10_ensureCapacityInternal 22 = .ok (.aload_n 0, 1) := dk_42 (dk_at dksJ10_ensureCapacityInternal_0 22 rfl rfl)
theorem dJ10_ensureCapacityInternal_23 : decode cJ10_ensureCapacityInternal 23 = .ok (.iload_n 1, 1) := dk_27 (dk_at dksJ10_ensureCapacityInternal_0 23 rfl rfl)
theorem dJ10_ensureCapacityInternal_24 : decode cJ10_ensureCapacityInternal 24 = .ok (.invokevirtual 104, 3) := dk_182 0 104 (dk_at dksJ10_ensureCapacityInternal_1 0 rfl rfl)
theorem dJ10_ensureCapacityInternal_27 : decode cJ10_ensureCapacityInternal 27 = .ok (.aload_n 0, 1) := dk_42 (dk_at dksJ10_ensureCapacityInternal_1 3 rfl rfl)
theorem dJ10_ensureCapacityInternal_28 : decode cJ10_ensureCapacityInternal 28 = .ok (.getfield 22, 3) := dk_180 0 22 (dk_at dksJ10_ensureCapacityInternal_1 4 rfl rfl)
theorem dJ10_ensureCapacityInternal_31 : decode cJ10_ensureCapacityInternal 31 = .ok (.ishl, 1) := dk_120 (dk_at dksJ10_ensureCapacityInternal_1 7 rfl rfl)
theorem dJ10_ensureCapacityInternal_32 : decode cJ10_ensureCapacityInternal 32 = .ok (.invokestatic 108, 3) := dk_184 0 108 (dk_at dksJ10_ensureCapacityInternal_1 8 rfl rfl)
theorem dJ10_ensureCapacityInternal_35 : decode cJ10_ensureCapacityInternal 35 = .ok (.putfield 15, 3) := dk_181 0 15 (dk_at dksJ10_ensureCapacityInternal_1 11 rfl rfl)
theorem dJ10_ensureCapacityInternal_38 : decode cJ10_ensureCapacityInternal 38 = .ok (.return_, 1) := dk_177 (dk_at dksJ10_ensureCapacityInternal_1 14 rfl rfl)
abbrev cJ10_newCapacity : ByteArray := prog_16_method_10_code
def yJ10_newCapacity : MethodName := ⟨RJ10, "newCapacity", "(I)I"⟩
def dkwJ10_newCapacity_2 : List UInt8 := [183, 0, 124, 191, 21, 5, 42, 180, 0, 22, 122, 172]
abbrev dktJ10_newCapacity_2 : List UInt8 := dkwJ10_newCapacity_2 ++ []
def dkwJ10_newCapacity_1 : List UInt8 := [180, 0, 22, 120, 96, 184, 0, 114, 54, 5, 21, 5, 18, 39, 160, 0, 13, 187, 0, 120, 89, 18, 122]
abbrev dktJ10_newCapacity_1 : List UInt8 := dkwJ10_newCapacity_1 ++ dktJ10_newCapacity_2
def dkwJ10_newCapacity_0 : List UInt8 := [42, 180, 0, 15, 190, 61, 27, 42, 180, 0, 22, 120, 62, 29, 28, 100, 54, 4, 28, 21, 4, 28, 5, 42]
abbrev dktJ10_newCapacity_0 : List UInt8 := dkwJ10_newCapacity_0 ++ dktJ10_newCapacity_1
theorem dksJ10_newCapacity_0 : cJ10_newCapacity.data.toList.drop 0 = dktJ10_newCapacity_0 := by decide +kernel
theorem dksJ10_newCapacity_1 : cJ10_newCapacity.data.toList.drop 24 = dktJ10_newCapacity_1 := dk_seg dksJ10_newCapacity_0 24 rfl rfl
theorem dksJ10_newCapacity_2 : cJ10_newCapacity.data.toList.drop 47 = dktJ10_newCapacity_2 := dk_seg dksJ10_newCapacity_1 23 rfl rfl
theorem dJ10_newCapacity_0 : decode cJ10_newCapacity 0 = .ok (.aload_n 0, 1) := dk_42 (dk_at dksJ10_newCapacity_0 0 rfl rfl)
theorem dJ10_newCapacity_1 : decode cJ10_newCapacity 1 = .ok (.getfield 15, 3) := dk_180 0 15 (dk_at dksJ10_newCapacity_0 1 rfl rfl)
theorem dJ10_newCapacity_4 : decode cJ10_newCapacity 4 = .ok (.arraylength, 1) := dk_190 (dk_at dksJ10_newCapacity_0 4 rfl rfl)
theorem dJ10_newCapacity_5 : decode cJ10_newCapacity 5 = .ok (.istore_n 2, 1) := dk_61 (dk_at dksJ10_newCapacity_0 5 rfl rfl)
theorem dJ10_newCapacity_6 : decode cJ10_newCapacity 6 = .ok (.iload_n 1, 1) := dk_27 (dk_at dksJ10_newCapacity_0 6 rfl rfl)
theorem dJ10_newCapacity_7 : decode cJ10_newCapacity 7 = .ok (.aload_n 0, 1) := dk_42 (dk_at dksJ10_newCapacity_0 7 rfl rfl)
theorem dJ10_newCapacity_8 : decode cJ10_newCapacity 8 = .ok (.getfield 22, 3) := dk_180 0 22 (dk_at dksJ10_newCapacity_0 8 rfl rfl)
theorem dJ10_newCapacity_11 : decode cJ10_newCapacity 11 = .ok (.ishl, 1) := dk_120 (dk_at dksJ10_newCapacity_0 11 rfl rfl)
theorem dJ10_newCapacity_12 : decode cJ10_newCapacity 12 = .ok (.istore_n 3, 1) := dk_62 (dk_at dksJ10_newCapacity_0 12 rfl rfl)
theorem dJ10_newCapacity_13 : decode cJ10_newCapacity 13 = .ok (.iload_n 3, 1) := dk_29 (dk_at dksJ10_newCapacity_0 13 rfl rfl)
theorem dJ10_newCapacity_14 : decode cJ10_newCapacity 14 = .ok (.iload_n 2, 1) := dk_28 (dk_at dksJ10_newCapacity_0 14 rfl rfl)
theorem dJ10_newCapacity_15 : decode cJ10_newCapacity 15 = .ok (.isub, 1) := dk_100 (dk_at dksJ10_newCapacity_0 15 rfl rfl)
theorem dJ10_newCapacity_16 : decode cJ10_newCapacity 16 = .ok (.istore 4, 2) := dk_54 4 (dk_at dksJ10_newCapacity_0 16 rfl rfl)
theorem dJ10_newCapacity_18 : decode cJ10_newCapacity 18 = .ok (.iload_n 2, 1) := dk_28 (dk_at dksJ10_newCapacity_0 18 rfl rfl)
theorem dJ10_newCapacity_19 : decode cJ10_newCapacity 19 = .ok (.iload 4, 2) := dk_21 4 (dk_at dksJ10_newCapacity_0 19 rfl rfl)
theorem dJ10_newCapacity_21 : decode cJ10_newCapacity 21 = .ok (.iload_n 2, 1) := dk_28 (dk_at dksJ10_newCapacity_0 21 rfl rfl)
theorem dJ10_newCapacity_22 : decode cJ10_newCapacity 22 = .ok (.iconst 2, 1) := dk_5 (dk_at dksJ10_newCapacity_0 22 rfl rfl)
theorem dJ10_newCapacity_23 : decode cJ10_newCapacity 23 = .ok (.aload_n 0, 1) := dk_42 (dk_at dksJ10_newCapacity_0 23 rfl rfl)
theorem dJ10_newCapacity_24 : decode cJ10_newCapacity 24 = .ok (.getfield 22, 3) := dk_180 0 22 (dk_at dksJ10_newCapacity_1 0 rfl rfl)
theorem dJ10_newCapacity_27 : decode cJ10_newCapacity 27 = .ok (.ishl, 1) := dk_120 (dk_at dksJ10_newCapacity_1 3 rfl rfl)
theorem dJ10_newCapacity_28 : decode cJ10_newCapacity 28 = .ok (.iadd, 1) := dk_96 (dk_at dksJ10_newCapacity_1 4 rfl rfl)
theorem dJ10_newCapacity_29 : decode cJ10_newCapacity 29 = .ok (.invokestatic 114, 3) := dk_184 0 114 (dk_at dksJ10_newCapacity_1 5 rfl rfl)
theorem dJ10_newCapacity_32 : decode cJ10_newCapacity 32 = .ok (.istore 5, 2) := dk_54 5 (dk_at dksJ10_newCapacity_1 8 rfl rfl)
theorem dJ10_newCapacity_34 : decode cJ10_newCapacity 34 = .ok (.iload 5, 2) := dk_21 5 (dk_at dksJ10_newCapacity_1 10 rfl rfl)
theorem dJ10_newCapacity_36 : decode cJ10_newCapacity 36 = .ok (.ldc 39, 2) := dk_18 39 (dk_at dksJ10_newCapacity_1 12 rfl rfl)
theorem dJ10_newCapacity_38 : decode cJ10_newCapacity 38 = .ok (.if_icmp .ne 13, 3) := dk_160 0 13 (dk_at dksJ10_newCapacity_1 14 rfl rfl)
theorem dJ10_newCapacity_41 : decode cJ10_newCapacity 41 = .ok (.new 120, 3) := dk_187 0 120 (dk_at dksJ10_newCapacity_1 17 rfl rfl)
theorem dJ10_newCapacity_44 : decode cJ10_newCapacity 44 = .ok (.dup, 1) := dk_89 (dk_at dksJ10_newCapacity_1 20 rfl rfl)
theorem dJ10_newCapacity_45 : decode cJ10_newCapacity 45 = .ok (.ldc 122, 2) := dk_18 122 (dk_at dksJ10_newCapacity_1 21 rfl rfl)
theorem dJ10_newCapacity_47 : decode cJ10_newCapacity 47 = .ok (.invokespecial 124, 3) := dk_183 0 124 (dk_at dksJ10_newCapacity_2 0 rfl rfl)
theorem dJ10_newCapacity_50 : decode cJ10_newCapacity 50 = .ok (.athrow, 1) := dk_191 (dk_at dksJ10_newCapacity_2 3 rfl rfl)
theorem dJ10_newCapacity_51 : decode cJ10_newCapacity 51 = .ok (.iload 5, 2) := dk_21 5 (dk_at dksJ10_newCapacity_2 4 rfl rfl)
theorem dJ10_newCapacity_53 : decode cJ10_newCapacity 53 = .ok (.aload_n 0, 1) := dk_42 (dk_at dksJ10_newCapacity_2 6 rfl rfl)
theorem dJ10_newCapacity_54 : decode cJ10_newCapacity 54 = .ok (.getfield 22, 3) := dk_180 0 22 (dk_at dksJ10_newCapacity_2 7 rfl rfl)
theorem dJ10_newCapacity_57 : decode cJ10_newCapacity 57 = .ok (.ishr, 1) := dk_122 (dk_at dksJ10_newCapacity_2 10 rfl rfl)
theorem dJ10_newCapacity_58 : decode cJ10_newCapacity 58 = .ok (.ireturn, 1) := dk_172 (dk_at dksJ10_newCapacity_2 11 rfl rfl)
abbrev cJ10_isLatin1 : ByteArray := prog_16_method_68_code
def yJ10_isLatin1 : MethodName := ⟨RJ10, "isLatin1", "()Z"⟩
def dkwJ10_isLatin1_0 : List UInt8 := [178, 0, 18, 153, 0, 14, 42, 180, 0, 22, 154, 0, 7, 4, 167, 0, 4, 3, 172]
abbrev dktJ10_isLatin1_0 : List UInt8 := dkwJ10_isLatin1_0 ++ []
theorem dksJ10_isLatin1_0 : cJ10_isLatin1.data.toList.drop 0 = dktJ10_isLatin1_0 := by decide +kernel
theorem dJ10_isLatin1_0 : decode cJ10_isLatin1 0 = .ok (.getstatic 18, 3) := dk_178 0 18 (dk_at dksJ10_isLatin1_0 0 rfl rfl)
theorem dJ10_isLatin1_3 : decode cJ10_isLatin1 3 = .ok (.ifCond .eq 14, 3) := dk_153 0 14 (dk_at dksJ10_isLatin1_0 3 rfl rfl)
theorem dJ10_isLatin1_6 : decode cJ10_isLatin1 6 = .ok (.aload_n 0, 1) := dk_42 (dk_at dksJ10_isLatin1_0 6 rfl rfl)
theorem dJ10_isLatin1_7 : decode cJ10_isLatin1 7 = .ok (.getfield 22, 3) := dk_180 0 22 (dk_at dksJ10_isLatin1_0 7 rfl rfl)
theorem dJ10_isLatin1_10 : decode cJ10_isLatin1 10 = .ok (.ifCond .ne 7, 3) := dk_154 0 7 (dk_at dksJ10_isLatin1_0 10 rfl rfl)
theorem dJ10_isLatin1_13 : decode cJ10_isLatin1 13 = .ok (.iconst 1, 1) := dk_4 (dk_at dksJ10_isLatin1_0 13 rfl rfl)
theorem dJ10_isLatin1_14 : decode cJ10_isLatin1 14 = .ok (.goto 4, 3) := dk_167 0 4 (dk_at dksJ10_isLatin1_0 14 rfl rfl)
theorem dJ10_isLatin1_17 : decode cJ10_isLatin1 17 = .ok (.iconst 0, 1) := dk_3 (dk_at dksJ10_isLatin1_0 17 rfl rfl)
theorem dJ10_isLatin1_18 : decode cJ10_isLatin1 18 = .ok (.ireturn, 1) := dk_172 (dk_at dksJ10_isLatin1_0 18 rfl rfl)
abbrev cJ10_inflate : ByteArray := prog_16_method_11_code
def yJ10_inflate : MethodName := ⟨RJ10, "inflate", "()V"⟩
def dkwJ10_inflate_1 : List UInt8 := [42, 180, 0, 79, 184, 0, 125, 42, 43, 181, 0, 15, 42, 4, 181, 0, 22, 177]
abbrev dktJ10_inflate_1 : List UInt8 := dkwJ10_inflate_1 ++ []
def dkwJ10_inflate_0 : List UInt8 := [42, 182, 0, 83, 154, 0, 4, 177, 42, 180, 0, 15, 190, 184, 0, 26, 76, 42, 180, 0, 15, 3, 43, 3]
abbrev dktJ10_inflate_0 : List UInt8 := dkwJ10_inflate_0 ++ dktJ10_inflate_1
theorem dksJ10_inflate_0 : cJ10_inflate.data.toList.drop 0 = dktJ10_inflate_0 := by decide +kernel
theorem dksJ10_inflate_1 : cJ10_inflate.data.toList.drop 24 = dktJ10_inflate_1 := dk_seg dksJ10_inflate_0 24 rfl rfl
theorem dJ10_inflate_0 : decode cJ10_inflate 0 = .ok (.aload_n 0, 1) := dk_42 (dk_at dksJ10_inflate_0 0 rfl rfl)
theorem dJ10_inflate_1 : decode cJ10_inflate 1 = .ok (.invokevirtual 83, 3) := dk_182 0 83 (dk_at dksJ10_inflate_0 1 rfl rfl)
theorem dJ10_inflate_4 : decode cJ10_inflate 4 = .ok (.ifCond .ne 4, 3) := dk_154 0 4 (dk_at dksJ10_inflate_0 4 rfl rfl)
theorem dJ10_inflate_7 : decode cJ10_inflate 7 = .ok (.return_, 1) := dk_177 (dk_at dksJ10_inflate_0 7 rfl rfl)
theorem dJ10_inflate_8 : decode cJ10_inflate 8 = .ok (.aload_n 0, 1) := dk_42 (dk_at dksJ10_inflate_0 8 rfl rfl)
theorem dJ10_inflate_9 : decode cJ10_inflate 9 = .ok (.getfield 15, 3) := dk_180 0 15 (dk_at dksJ10_inflate_0 9 rfl rfl)
theorem dJ10_inflate_12 : decode cJ10_inflate 12 = .ok (.arraylength, 1) := dk_190 (dk_at dksJ10_inflate_0 12 rfl rfl)
theorem dJ10_inflate_13 : decode cJ10_inflate 13 = .ok (.invokestatic 26, 3) := dk_184 0 26 (dk_at dksJ10_inflate_0 13 rfl rfl)
theorem dJ10_inflate_16 : decode cJ10_inflate 16 = .ok (.astore_n 1, 1) := dk_76 (dk_at dksJ10_inflate_0 16 rfl rfl)
theorem dJ10_inflate_17 : decode cJ10_inflate 17 = .ok (.aload_n 0, 1) := dk_42 (dk_at dksJ10_inflate_0 17 rfl rfl)
theorem dJ10_inflate_18 : decode cJ10_inflate 18 = .ok (.getfield 15, 3) := dk_180 0 15 (dk_at dksJ10_inflate_0 18 rfl rfl)
theorem dJ10_inflate_21 : decode cJ10_inflate 21 = .ok (.iconst 0, 1) := dk_3 (dk_at dksJ10_inflate_0 21 rfl rfl)
theorem dJ10_inflate_22 : decode cJ10_inflate 22 = .ok (.aload_n 1, 1) := dk_43 (dk_at dksJ10_inflate_0 22 rfl rfl)
theorem dJ10_inflate_23 : decode cJ10_inflate 23 = .ok (.iconst 0, 1) := dk_3 (dk_at dksJ10_inflate_0 23 rfl rfl)
theorem dJ10_inflate_24 : decode cJ10_inflate 24 = .ok (.aload_n 0, 1) := dk_42 (dk_at dksJ10_inflate_1 0 rfl rfl)
theorem dJ10_inflate_25 : decode cJ10_inflate 25 = .ok (.getfield 79, 3) := dk_180 0 79 (dk_at dksJ10_inflate_1 1 rfl rfl)
theorem dJ10_inflate_28 : decode cJ10_inflate 28 = .ok (.invokestatic 125, 3) := dk_184 0 125 (dk_at dksJ10_inflate_1 4 rfl rfl)
theorem dJ10_inflate_31 : decode cJ10_inflate 31 = .ok (.aload_n 0, 1) := dk_42 (dk_at dksJ10_inflate_1 7 rfl rfl)
theorem dJ10_inflate_32 : decode cJ10_inflate 32 = .ok (.aload_n 1, 1) := dk_43 (dk_at dksJ10_inflate_1 8 rfl rfl)
theorem dJ10_inflate_33 : decode cJ10_inflate 33 = .ok (.putfield 15, 3) := dk_181 0 15 (dk_at dksJ10_inflate_1 9 rfl rfl)
theorem dJ10_inflate_36 : decode cJ10_inflate 36 = .ok (.aload_n 0, 1) := dk_42 (dk_at dksJ10_inflate_1 12 rfl rfl)
theorem dJ10_inflate_37 : decode cJ10_inflate 37 = .ok (.iconst 1, 1) := dk_4 (dk_at dksJ10_inflate_1 13 rfl rfl)
theorem dJ10_inflate_38 : decode cJ10_inflate 38 = .ok (.putfield 22, 3) := dk_181 0 22 (dk_at dksJ10_inflate_1 14 rfl rfl)
theorem dJ10_inflate_41 : decode cJ10_inflate 41 = .ok (.return_, 1) := dk_177 (dk_at dksJ10_inflate_1 17 rfl rfl)
abbrev cJ10_getValue : ByteArray := prog_16_method_64_code
def yJ10_getValue : MethodName := ⟨RJ10, "getValue", "()[B"⟩
theorem dJ10_getValue_0 : decode cJ10_getValue 0 = .ok (.aload_n 0, 1) := by decide +kernel
theorem dJ10_getValue_1 : decode cJ10_getValue 1 = .ok (.getfield 15, 3) := by decide +kernel
theorem dJ10_getValue_4 : decode cJ10_getValue 4 = .ok (.areturn, 1) := by decide +kernel
abbrev cJ10_length : ByteArray := prog_16_method_6_code
def yJ10_length : MethodName := ⟨RJ10, "length", "()I"⟩
theorem dJ10_length_0 : decode cJ10_length 0 = .ok (.aload_n 0, 1) := by decide +kernel
theorem dJ10_length_1 : decode cJ10_length 1 = .ok (.getfield 79, 3) := by decide +kernel
theorem dJ10_length_4 : decode cJ10_length 4 = .ok (.ireturn, 1) := by decide +kernel
abbrev cJ10_append_2 : ByteArray := prog_16_method_32_code
def yJ10_append_2 : MethodName := ⟨RJ10, "append", "(I)Ljava/lang/AbstractStringBuilder;"⟩
def dkwJ10_append_2_2 : List UInt8 := [42, 29, 181, 0, 79, 42, 176]
abbrev dktJ10_append_2_2 : List UInt8 := dkwJ10_append_2_2 ++ []
def dkwJ10_append_2_1 : List UInt8 := [27, 29, 42, 180, 0, 15, 184, 0, 248, 87, 167, 0, 14, 27, 28, 29, 42, 180, 0, 15, 184, 0, 251, 87]
abbrev dktJ10_append_2_1 : List UInt8 := dkwJ10_append_2_1 ++ dktJ10_append_2_2
def dkwJ10_append_2_0 : List UInt8 := [42, 180, 0, 79, 61, 28, 27, 184, 0, 245, 96, 62, 42, 29, 182, 0, 100, 42, 182, 0, 83, 153, 0, 16]
abbrev dktJ10_append_2_0 : List UInt8 := dkwJ10_append_2_0 ++ dktJ10_append_2_1
theorem dksJ10_append_2_0 : cJ10_append_2.data.toList.drop 0 = dktJ10_append_2_0 := by decide +kernel
theorem dksJ10_append_2_1 : cJ10_append_2.data.toList.drop 24 = dktJ10_append_2_1 := dk_seg dksJ10_append_2_0 24 rfl rfl
theorem dksJ10_append_2_2 : cJ10_append_2.data.toList.drop 48 = dktJ10_append_2_2 := dk_seg dksJ10_append_2_1 24 rfl rfl
theorem dJ10_append_2_0 : decode cJ10_append_2 0 = .ok (.aload_n 0, 1) := dk_42 (dk_at dksJ10_append_2_0 0 rfl rfl)
theorem dJ10_append_2_1 : decode cJ10_append_2 1 = .ok (.getfield 79, 3) := dk_180 0 79 (dk_at dksJ10_append_2_0 1 rfl rfl)
theorem dJ10_append_2_4 : decode cJ10_append_2 4 = .ok (.istore_n 2, 1) := dk_61 (dk_at dksJ10_append_2_0 4 rfl rfl)
theorem dJ10_append_2_5 : decode cJ10_append_2 5 = .ok (.iload_n 2, 1) := dk_28 (dk_at dksJ10_append_2_0 5 rfl rfl)
theorem dJ10_append_2_6 : decode cJ10_append_2 6 = .ok (.iload_n 1, 1) := dk_27 (dk_at dksJ10_append_2_0 6 rfl rfl)
theorem dJ10_append_2_7 : decode cJ10_append_2 7 = .ok (.invokestatic 245, 3) := dk_184 0 245 (dk_at dksJ10_append_2_0 7 rfl rfl)
theorem dJ10_append_2_10 : decode cJ10_append_2 10 = .ok (.iadd, 1) := dk_96 (dk_at dksJ10_append_2_0 10 rfl rfl)
theorem dJ10_append_2_11 : decode cJ10_append_2 11 = .ok (.istore_n 3, 1) := dk_62 (dk_at dksJ10_append_2_0 11 rfl rfl)
theorem dJ10_append_2_12 : decode cJ10_append_2 12 = .ok (.aload_n 0, 1) := dk_42 (dk_at dksJ10_append_2_0 12 rfl rfl)
theorem dJ10_append_2_13 : decode cJ10_append_2 13 = .ok (.iload_n 3, 1) := dk_29 (dk_at dksJ10_append_2_0 13 rfl rfl)
theorem dJ10_append_2_14 : decode cJ10_append_2 14 = .ok (.invokevirtual 100, 3) := dk_182 0 100 (dk_at dksJ10_append_2_0 14 rfl rfl)
theorem dJ10_append_2_17 : decode cJ10_append_2 17 = .ok (.aload_n 0, 1) := dk_42 (dk_at dksJ10_append_2_0 17 rfl rfl)
theorem dJ10_append_2_18 : decode cJ10_append_2 18 = .ok (.invokevirtual 83, 3) := dk_182 0 83 (dk_at dksJ10_append_2_0 18 rfl rfl)
theorem dJ10_append_2_21 : decode cJ10_append_2 21 = .ok (.ifCond .eq 16, 3) := dk_153 0 16 (dk_at dksJ10_append_2_0 21 rfl rfl)
theorem dJ10_append_2_24 : decode cJ10_append_2 24 = .ok (.iload_n 1, 1) := dk_27 (dk_at dksJ10_append_2_1 0 rfl rfl)
theorem dJ10_append_2_25 : decode cJ10_append_2 25 = .ok (.iload_n 3, 1) := dk_29 (dk_at dksJ10_append_2_1 1 rfl rfl)
theorem dJ10_append_2_26 : decode cJ10_append_2 26 = .ok (.aload_n 0, 1) := dk_42 (dk_at dksJ10_append_2_1 2 rfl rfl)
theorem dJ10_append_2_27 : decode cJ10_append_2 27 = .ok (.getfield 15, 3) := dk_180 0 15 (dk_at dksJ10_append_2_1 3 rfl rfl)
theorem dJ10_append_2_30 : decode cJ10_append_2 30 = .ok (.invokestatic 248, 3) := dk_184 0 248 (dk_at dksJ10_append_2_1 6 rfl rfl)
theorem dJ10_append_2_33 : decode cJ10_append_2 33 = .ok (.pop, 1) := dk_87 (dk_at dksJ10_append_2_1 9 rfl rfl)
theorem dJ10_append_2_34 : decode cJ10_append_2 34 = .ok (.goto 14, 3) := dk_167 0 14 (dk_at dksJ10_append_2_1 10 rfl rfl)
theorem dJ10_append_2_37 : decode cJ10_append_2 37 = .ok (.iload_n 1, 1) := dk_27 (dk_at dksJ10_append_2_1 13 rfl rfl)
theorem dJ10_append_2_38 : decode cJ10_append_2 38 = .ok (.iload_n 2, 1) := dk_28 (dk_at dksJ10_append_2_1 14 rfl rfl)
theorem dJ10_append_2_39 : decode cJ10_append_2 39 = .ok (.iload_n 3, 1) := dk_29 (dk_at dksJ10_append_2_1 15 rfl rfl)
theorem dJ10_append_2_40 : decode cJ10_append_2 40 = .ok (.aload_n 0, 1) := dk_42 (dk_at dksJ10_append_2_1 16 rfl rfl)
theorem dJ10_append_2_41 : decode cJ10_append_2 41 = .ok (.getfield 15, 3) := dk_180 0 15 (dk_at dksJ10_append_2_1 17 rfl rfl)
theorem dJ10_append_2_44 : decode cJ10_append_2 44 = .ok (.invokestatic 251, 3) := dk_184 0 251 (dk_at dksJ10_append_2_1 20 rfl rfl)
theorem dJ10_append_2_47 : decode cJ10_append_2 47 = .ok (.pop, 1) := dk_87 (dk_at dksJ10_append_2_1 23 rfl rfl)
theorem dJ10_append_2_48 : decode cJ10_append_2 48 = .ok (.aload_n 0, 1) := dk_42 (dk_at dksJ10_append_2_2 0 rfl rfl)
theorem dJ10_append_2_49 : decode cJ10_append_2 49 = .ok (.iload_n 3, 1) := dk_29 (dk_at dksJ10_append_2_2 1 rfl rfl)
theorem dJ10_append_2_50 : decode cJ10_append_2 50 = .ok (.putfield 79, 3) := dk_181 0 79 (dk_at dksJ10_append_2_2 2 rfl rfl)
theorem dJ10_append_2_53 : decode cJ10_append_2 53 = .ok (.aload_n 0, 1) := dk_42 (dk_at dksJ10_append_2_2 5 rfl rfl)
theorem dJ10_append_2_54 : decode cJ10_append_2 54 = .ok (.areturn, 1) := dk_176 (dk_at dksJ10_append_2_2 6 rfl rfl)
abbrev cJ10_append_3 : ByteArray := prog_16_method_22_code
def yJ10_append_3 : MethodName := ⟨RJ10, "append", "(Ljava/lang/String;)Ljava/lang/AbstractStringBuilder;"⟩
def dkwJ10_append_3_1 : List UInt8 := [42, 42, 180, 0, 79, 43, 182, 0, 208, 42, 89, 180, 0, 79, 28, 96, 181, 0, 79, 42, 176]
abbrev dktJ10_append_3_1 : List UInt8 := dkwJ10_append_3_1 ++ []
def dkwJ10_append_3_0 : List UInt8 := [43, 199, 0, 8, 42, 182, 0, 204, 176, 43, 182, 0, 32, 61, 42, 42, 180, 0, 79, 28, 96, 182, 0, 100]
abbrev dktJ10_append_3_0 : List UInt8 := dkwJ10_append_3_0 ++ dktJ10_append_3_1
theorem dksJ10_append_3_0 : cJ10_append_3.data.toList.drop 0 = dktJ10_append_3_0 := by decide +kernel
theorem dksJ10_append_3_1 : cJ10_append_3.data.toList.drop 24 = dktJ10_append_3_1 := dk_seg dksJ10_append_3_0 24 rfl rfl
theorem dJ10_append_3_0 : decode cJ10_append_3 0 = .ok (.aload_n 1, 1) := dk_43 (dk_at dksJ10_append_3_0 0 rfl rfl)
theorem dJ10_append_3_1 : decode cJ10_append_3 1 = .ok (.ifnonnull 8, 3) := dk_199 0 8 (dk_at dksJ10_append_3_0 1 rfl rfl)
theorem dJ10_append_3_4 : decode cJ10_append_3 4 = .ok (.aload_n 0, 1) := dk_42 (dk_at dksJ10_append_3_0 4 rfl rfl)
theorem dJ10_append_3_5 : decode cJ10_append_3 5 = .ok (.invokevirtual 204, 3) := dk_182 0 204 (dk_at dksJ10_append_3_0 5 rfl rfl)
theorem dJ10_append_3_8 : decode cJ10_append_3 8 = .ok (.areturn, 1) := dk_176 (dk_at dksJ10_append_3_0 8 rfl rfl)
theorem dJ10_append_3_9 : decode cJ10_append_3 9 = .ok (.aload_n 1, 1) := dk_43 (dk_at dksJ10_append_3_0 9 rfl rfl)
theorem dJ10_append_3_10 : decode cJ10_append_3 10 = .ok (.invokevirtual 32, 3) := dk_182 0 32 (dk_at dksJ10_append_3_0 10 rfl rfl)
theorem dJ10_append_3_13 : decode cJ10_append_3 13 = .ok (.istore_n 2, 1) := dk_61 (dk_at dksJ10_append_3_0 13 rfl rfl)
theorem dJ10_append_3_14 : decode cJ10_append_3 14 = .ok (.aload_n 0, 1) := dk_42 (dk_at dksJ10_append_3_0 14 rfl rfl)
theorem dJ10_append_3_15 : decode cJ10_append_3 15 = .ok (.aload_n 0, 1) := dk_42 (dk_at dksJ10_append_3_0 15 rfl rfl)
theorem dJ10_append_3_16 : decode cJ10_append_3 16 = .ok (.getfield 79, 3) := dk_180 0 79 (dk_at dksJ10_append_3_0 16 rfl rfl)
theorem dJ10_append_3_19 : decode cJ10_append_3 19 = .ok (.iload_n 2, 1) := dk_28 (dk_at dksJ10_append_3_0 19 rfl rfl)
theorem dJ10_append_3_20 : decode cJ10_append_3 20 = .ok (.iadd, 1) := dk_96 (dk_at dksJ10_append_3_0 20 rfl rfl)
theorem dJ10_append_3_21 : decode cJ10_append_3 21 = .ok (.invokevirtual 100, 3) := dk_182 0 100 (dk_at dksJ10_append_3_0 21 rfl rfl)
theorem dJ10_append_3_24 : decode cJ10_append_3 24 = .ok (.aload_n 0, 1) := dk_42 (dk_at dksJ10_append_3_1 0 rfl rfl)
theorem dJ10_append_3_25 : decode cJ10_append_3 25 = .ok (.aload_n 0, 1) := dk_42 (dk_at dksJ10_append_3_1 1 rfl rfl)
theorem dJ10_append_3_26 : decode cJ10_append_3 26 = .ok (.getfield 79, 3) := dk_180 0 79 (dk_at dksJ10_append_3_1 2 rfl rfl)
theorem dJ10_append_3_29 : decode cJ10_append_3 29 = .ok (.aload_n 1, 1) := dk_43 (dk_at dksJ10_append_3_1 5 rfl rfl)
theorem dJ10_append_3_30 : decode cJ10_append_3 30 = .ok (.invokevirtual 208, 3) := dk_182 0 208 (dk_at dksJ10_append_3_1 6 rfl rfl)
theorem dJ10_append_3_33 : decode cJ10_append_3 33 = .ok (.aload_n 0, 1) := dk_42 (dk_at dksJ10_append_3_1 9 rfl rfl)
theorem dJ10_append_3_34 : decode cJ10_append_3 34 = .ok (.dup, 1) := dk_89 (dk_at dksJ10_append_3_1 10 rfl rfl)
theorem dJ10_append_3_35 : decode cJ10_append_3 35 = .ok (.getfield 79, 3) := dk_180 0 79 (dk_at dksJ10_append_3_1 11 rfl rfl)
theorem dJ10_append_3_38 : decode cJ10_append_3 38 = .ok (.iload_n 2, 1) := dk_28 (dk_at dksJ10_append_3_1 14 rfl rfl)
theorem dJ10_append_3_39 : decode cJ10_append_3 39 = .ok (.iadd, 1) := dk_96 (dk_at dksJ10_append_3_1 15 rfl rfl)
theorem dJ10_append_3_40 : decode cJ10_append_3 40 = .ok (.putfield 79, 3) := dk_181 0 79 (dk_at dksJ10_append_3_1 16 rfl rfl)
theorem dJ10_append_3_43 : decode cJ10_append_3 43 = .ok (.aload_n 0, 1) := dk_42 (dk_at dksJ10_append_3_1 19 rfl rfl)
theorem dJ10_append_3_44 : decode cJ10_append_3 44 = .ok (.areturn, 1) := dk_176 (dk_at dksJ10_append_3_1 20 rfl rfl)
abbrev cJ10_appendNull : ByteArray := prog_16_method_26_code
def yJ10_appendNull : MethodName := ⟨RJ10, "appendNull", "()Ljava/lang/AbstractStringBuilder;"⟩
def dkwJ10_appendNull_3 : List UInt8 := [184, 0, 226, 60, 42, 27, 181, 0, 79, 42, 176]
abbrev dktJ10_appendNull_3 : List UInt8 := dkwJ10_appendNull_3 ++ []
def dkwJ10_appendNull_2 : List UInt8 := [16, 108, 84, 44, 27, 132, 1, 1, 16, 108, 84, 167, 0, 17, 44, 27, 16, 110, 16, 117, 16, 108, 16, 108]
abbrev dktJ10_appendNull_2 : List UInt8 := dkwJ10_appendNull_2 ++ dktJ10_appendNull_3
def dkwJ10_appendNull_1 : List UInt8 := [153, 0, 38, 44, 27, 132, 1, 1, 16, 110, 84, 44, 27, 132, 1, 1, 16, 117, 84, 44, 27, 132, 1, 1]
abbrev dktJ10_appendNull_1 : List UInt8 := dkwJ10_appendNull_1 ++ dktJ10_appendNull_2
def dkwJ10_appendNull_0 : List UInt8 := [42, 42, 180, 0, 79, 7, 96, 182, 0, 100, 42, 180, 0, 79, 60, 42, 180, 0, 15, 77, 42, 182, 0, 83]
abbrev dktJ10_appendNull_0 : List UInt8 := dkwJ10_appendNull_0 ++ dktJ10_appendNull_1
theorem dksJ10_appendNull_0 : cJ10_appendNull.data.toList.drop 0 = dktJ10_appendNull_0 := by decide +kernel
theorem dksJ10_appendNull_1 : cJ10_appendNull.data.toList.drop 24 = dktJ10_appendNull_1 := dk_seg dksJ10_appendNull_0 24 rfl rfl
theorem dksJ10_appendNull_2 : cJ10_appendNull.data.toList.drop 48 = dktJ10_appendNull_2 := dk_seg dksJ10_appendNull_1 24 rfl rfl
theorem dksJ10_appendNull_3 : cJ10_appendNull.data.toList.drop 72 = dktJ10_appendNull_3 := dk_seg dksJ10_appendNull_2 24 rfl rfl
theorem dJ10_appendNull_0 : decode cJ10_appendNull 0 = .ok (.aload_n 0, 1) := dk_42 (dk_at dksJ10_appendNull_0 0 rfl rfl)
theorem dJ10_appendNull_1 : decode cJ10_appendNull 1 = .ok (.aload_n 0, 1) := dk_42 (dk_at dksJ10_appendNull_0 1 rfl rfl)
theorem dJ10_appendNull_2 : decode cJ10_appendNull 2 = .ok (.getfield 79, 3) := dk_180 0 79 (dk_at dksJ10_appendNull_0 2 rfl rfl)
theorem dJ10_appendNull_5 : decode cJ10_appendNull 5 = .ok (.iconst 4, 1) := dk_7 (dk_at dksJ10_appendNull_0 5 rfl rfl)
theorem dJ10_appendNull_6 : decode cJ10_appendNull 6 = .ok (.iadd, 1) := dk_96 (dk_at dksJ10_appendNull_0 6 rfl rfl)
theorem dJ10_appendNull_7 : decode cJ10_appendNull 7 = .ok (.invokevirtual 100, 3) := dk_182 0 100 (dk_at dksJ10_appendNull_0 7 rfl rfl)
theorem dJ10_appendNull_10 : decode cJ10_appendNull 10 = .ok (.aload_n 0, 1) := dk_42 (dk_at dksJ10_appendNull_0 10 rfl rfl)
theorem dJ10_appendNull_11 : decode cJ10_appendNull 11 = .ok (.getfield 79, 3) := dk_180 0 79 (dk_at dksJ10_appendNull_0 11 rfl rfl)
theorem dJ10_appendNull_14 : decode cJ10_appendNull 14 = .ok (.istore_n 1, 1) := dk_60 (dk_at dksJ10_appendNull_0 14 rfl rfl)
theorem dJ10_appendNull_15 : decode cJ10_appendNull 15 = .ok (.aload_n 0, 1) := dk_42 (dk_at dksJ10_appendNull_0 15 rfl rfl)
theorem dJ10_appendNull_16 : decode cJ10_appendNull 16 = .ok (.getfield 15, 3) := dk_180 0 15 (dk_at dksJ10_appendNull_0 16 rfl rfl)
theorem dJ10_appendNull_19 : decode cJ10_appendNull 19 = .ok (.astore_n 2, 1) := dk_77 (dk_at dksJ10_appendNull_0 19 rfl rfl)
theorem dJ10_appendNull_20 : decode cJ10_appendNull 20 = .ok (.aload_n 0, 1) := dk_42 (dk_at dksJ10_appendNull_0 20 rfl rfl)
theorem dJ10_appendNull_21 : decode cJ10_appendNull 21 = .ok (.invokevirtual 83, 3) := dk_182 0 83 (dk_at dksJ10_appendNull_0 21 rfl rfl)
theorem dJ10_appendNull_24 : decode cJ10_appendNull 24 = .ok (.ifCond .eq 38, 3) := dk_153 0 38 (dk_at dksJ10_appendNull_1 0 rfl rfl)
theorem dJ10_appendNull_27 : decode cJ10_appendNull 27 = .ok (.aload_n 2, 1) := dk_44 (dk_at dksJ10_appendNull_1 3 rfl rfl)
theorem dJ10_appendNull_28 : decode cJ10_appendNull 28 = .ok (.iload_n 1, 1) := dk_27 (dk_at dksJ10_appendNull_1 4 rfl rfl)
theorem dJ10_appendNull_29 : decode cJ10_appendNull 29 = .ok (.iinc 1 1, 3) := dk_132 1 1 (dk_at dksJ10_appendNull_1 5 rfl rfl)
theorem dJ10_appendNull_32 : decode cJ10_appendNull 32 = .ok (.bipush 110, 2) := dk_16 110 (dk_at dksJ10_appendNull_1 8 rfl rfl)
theorem dJ10_appendNull_34 : decode cJ10_appendNull 34 = .ok (.bastore, 1) := dk_84 (dk_at dksJ10_appendNull_1 10 rfl rfl)
theorem dJ10_appendNull_35 : decode cJ10_appendNull 35 = .ok (.aload_n 2, 1) := dk_44 (dk_at dksJ10_appendNull_1 11 rfl rfl)
theorem dJ10_appendNull_36 : decode cJ10_appendNull 36 = .ok (.iload_n 1, 1) := dk_27 (dk_at dksJ10_appendNull_1 12 rfl rfl)
theorem dJ10_appendNull_37 : decode cJ10_appendNull 37 = .ok (.iinc 1 1, 3) := dk_132 1 1 (dk_at dksJ10_appendNull_1 13 rfl rfl)
theorem dJ10_appendNull_40 : decode cJ10_appendNull 40 = .ok (.bipush 117, 2) := dk_16 117 (dk_at dksJ10_appendNull_1 16 rfl rfl)
theorem dJ10_appendNull_42 : decode cJ10_appendNull 42 = .ok (.bastore, 1) := dk_84 (dk_at dksJ10_appendNull_1 18 rfl rfl)
theorem dJ10_appendNull_43 : decode cJ10_appendNull 43 = .ok (.aload_n 2, 1) := dk_44 (dk_at dksJ10_appendNull_1 19 rfl rfl)
theorem dJ10_appendNull_44 : decode cJ10_appendNull 44 = .ok (.iload_n 1, 1) := dk_27 (dk_at dksJ10_appendNull_1 20 rfl rfl)
theorem dJ10_appendNull_45 : decode cJ10_appendNull 45 = .ok (.iinc 1 1, 3) := dk_132 1 1 (dk_at dksJ10_appendNull_1 21 rfl rfl)
theorem dJ10_appendNull_48 : decode cJ10_appendNull 48 = .ok (.bipush 108, 2) := dk_16 108 (dk_at dksJ10_appendNull_2 0 rfl rfl)
theorem dJ10_appendNull_50 : decode cJ10_appendNull 50 = .ok (.bastore, 1) := dk_84 (dk_at dksJ10_appendNull_2 2 rfl rfl)
theorem dJ10_appendNull_51 : decode cJ10_appendNull 51 = .ok (.aload_n 2, 1) := dk_44 (dk_at dksJ10_appendNull_2 3 rfl rfl)
theorem dJ10_appendNull_52 : decode cJ10_appendNull 52 = .ok (.iload_n 1, 1) := dk_27 (dk_at dksJ10_appendNull_2 4 rfl rfl)
theorem dJ10_appendNull_53 : decode cJ10_appendNull 53 = .ok (.iinc 1 1, 3) := dk_132 1 1 (dk_at dksJ10_appendNull_2 5 rfl rfl)
theorem dJ10_appendNull_56 : decode cJ10_appendNull 56 = .ok (.bipush 108, 2) := dk_16 108 (dk_at dksJ10_appendNull_2 8 rfl rfl)
theorem dJ10_appendNull_58 : decode cJ10_appendNull 58 = .ok (.bastore, 1) := dk_84 (dk_at dksJ10_appendNull_2 10 rfl rfl)
theorem dJ10_appendNull_59 : decode cJ10_appendNull 59 = .ok (.goto 17, 3) := dk_167 0 17 (dk_at dksJ10_appendNull_2 11 rfl rfl)
theorem dJ10_appendNull_62 : decode cJ10_appendNull 62 = .ok (.aload_n 2, 1) := dk_44 (dk_at dksJ10_appendNull_2 14 rfl rfl)
theorem dJ10_appendNull_63 : decode cJ10_appendNull 63 = .ok (.iload_n 1, 1) := dk_27 (dk_at dksJ10_appendNull_2 15 rfl rfl)
theorem dJ10_appendNull_64 : decode cJ10_appendNull 64 = .ok (.bipush 110, 2) := dk_16 110 (dk_at dksJ10_appendNull_2 16 rfl rfl)
theorem dJ10_appendNull_66 : decode cJ10_appendNull 66 = .ok (.bipush 117, 2) := dk_16 117 (dk_at dksJ10_appendNull_2 18 rfl rfl)
theorem dJ10_appendNull_68 : decode cJ10_appendNull 68 = .ok (.bipush 108, 2) := dk_16 108 (dk_at dksJ10_appendNull_2 20 rfl rfl)
theorem dJ10_appendNull_70 : decode cJ10_appendNull 70 = .ok (.bipush 108, 2) := dk_16 108 (dk_at dksJ10_appendNull_2 22 rfl rfl)
theorem dJ10_appendNull_72 : decode cJ10_appendNull 72 = .ok (.invokestatic 226, 3) := dk_184 0 226 (dk_at dksJ10_appendNull_3 0 rfl rfl)
theorem dJ10_appendNull_75 : decode cJ10_appendNull 75 = .ok (.istore_n 1, 1) := dk_60 (dk_at dksJ10_appendNull_3 3 rfl rfl)
theorem dJ10_appendNull_76 : decode cJ10_appendNull 76 = .ok (.aload_n 0, 1) := dk_42 (dk_at dksJ10_appendNull_3 4 rfl rfl)
theorem dJ10_appendNull_77 : decode cJ10_appendNull 77 = .ok (.iload_n 1, 1) := dk_27 (dk_at dksJ10_appendNull_3 5 rfl rfl)
theorem dJ10_appendNull_78 : decode cJ10_appendNull 78 = .ok (.putfield 79, 3) := dk_181 0 79 (dk_at dksJ10_appendNull_3 6 rfl rfl)
theorem dJ10_appendNull_81 : decode cJ10_appendNull 81 = .ok (.aload_n 0, 1) := dk_42 (dk_at dksJ10_appendNull_3 9 rfl rfl)
theorem dJ10_appendNull_82 : decode cJ10_appendNull 82 = .ok (.areturn, 1) := dk_176 (dk_at dksJ10_appendNull_3 10 rfl rfl)
abbrev cJ10_putStringAt : ByteArray := prog_16_method_73_code
def yJ10_putStringAt : MethodName := ⟨RJ10, "putStringAt", "(ILjava/lang/String;)V"⟩
def dkwJ10_putStringAt_0 : List UInt8 := [42, 44, 182, 1, 141, 44, 42, 180, 0, 15, 27, 42, 180, 0, 22, 182, 1, 143, 177]
abbrev dktJ10_putStringAt_0 : List UInt8 := dkwJ10_putStringAt_0 ++ []
theorem dksJ10_putStringAt_0 : cJ10_putStringAt.data.toList.drop 0 = dktJ10_putStringAt_0 := by decide +kernel
theorem dJ10_putStringAt_0 : decode cJ10_putStringAt 0 = .ok (.aload_n 0, 1) := dk_42 (dk_at dksJ10_putStringAt_0 0 rfl rfl)
theorem dJ10_putStringAt_1 : decode cJ10_putStringAt 1 = .ok (.aload_n 2, 1) := dk_44 (dk_at dksJ10_putStringAt_0 1 rfl rfl)
theorem dJ10_putStringAt_2 : decode cJ10_putStringAt 2 = .ok (.invokevirtual 397, 3) := dk_182 1 141 (dk_at dksJ10_putStringAt_0 2 rfl rfl)
theorem dJ10_putStringAt_5 : decode cJ10_putStringAt 5 = .ok (.aload_n 2, 1) := dk_44 (dk_at dksJ10_putStringAt_0 5 rfl rfl)
theorem dJ10_putStringAt_6 : decode cJ10_putStringAt 6 = .ok (.aload_n 0, 1) := dk_42 (dk_at dksJ10_putStringAt_0 6 rfl rfl)
theorem dJ10_putStringAt_7 : decode cJ10_putStringAt 7 = .ok (.getfield 15, 3) := dk_180 0 15 (dk_at dksJ10_putStringAt_0 7 rfl rfl)
theorem dJ10_putStringAt_10 : decode cJ10_putStringAt 10 = .ok (.iload_n 1, 1) := dk_27 (dk_at dksJ10_putStringAt_0 10 rfl rfl)
theorem dJ10_putStringAt_11 : decode cJ10_putStringAt 11 = .ok (.aload_n 0, 1) := dk_42 (dk_at dksJ10_putStringAt_0 11 rfl rfl)
theorem dJ10_putStringAt_12 : decode cJ10_putStringAt 12 = .ok (.getfield 22, 3) := dk_180 0 22 (dk_at dksJ10_putStringAt_0 12 rfl rfl)
theorem dJ10_putStringAt_15 : decode cJ10_putStringAt 15 = .ok (.invokevirtual 399, 3) := dk_182 1 143 (dk_at dksJ10_putStringAt_0 15 rfl rfl)
theorem dJ10_putStringAt_18 : decode cJ10_putStringAt 18 = .ok (.return_, 1) := dk_177 (dk_at dksJ10_putStringAt_0 18 rfl rfl)
abbrev cJ10_inflateIfNeededFor : ByteArray := prog_16_method_71_code
def yJ10_inflateIfNeededFor : MethodName := ⟨RJ10, "inflateIfNeededFor", "(Ljava/lang/String;)V"⟩
def dkwJ10_inflateIfNeededFor_0 : List UInt8 := [178, 0, 18, 153, 0, 18, 42, 180, 0, 22, 43, 182, 0, 40, 159, 0, 7, 42, 182, 0, 195, 177]
abbrev dktJ10_inflateIfNeededFor_0 : List UInt8 := dkwJ10_inflateIfNeededFor_0 ++ []
theorem dksJ10_inflateIfNeededFor_0 : cJ10_inflateIfNeededFor.data.toList.drop 0 = dktJ10_inflateIfNeededFor_0 := by decide +kernel
theorem dJ10_inflateIfNeededFor_0 : decode cJ10_inflateIfNeededFor 0 = .ok (.getstatic 18, 3) := dk_178 0 18 (dk_at dksJ10_inflateIfNeededFor_0 0 rfl rfl)
theorem dJ10_inflateIfNeededFor_3 : decode cJ10_inflateIfNeededFor 3 = .ok (.ifCond .eq 18, 3) := dk_153 0 18 (dk_at dksJ10_inflateIfNeededFor_0 3 rfl rfl)
theorem dJ10_inflateIfNeededFor_6 : decode cJ10_inflateIfNeededFor 6 = .ok (.aload_n 0, 1) := dk_42 (dk_at dksJ10_inflateIfNeededFor_0 6 rfl rfl)
theorem dJ10_inflateIfNeededFor_7 : decode cJ10_inflateIfNeededFor 7 = .ok (.getfield 22, 3) := dk_180 0 22 (dk_at dksJ10_inflateIfNeededFor_0 7 rfl rfl)
theorem dJ10_inflateIfNeededFor_10 : decode cJ10_inflateIfNeededFor 10 = .ok (.aload_n 1, 1) := dk_43 (dk_at dksJ10_inflateIfNeededFor_0 10 rfl rfl)
theorem dJ10_inflateIfNeededFor_11 : decode cJ10_inflateIfNeededFor 11 = .ok (.invokevirtual 40, 3) := dk_182 0 40 (dk_at dksJ10_inflateIfNeededFor_0 11 rfl rfl)
theorem dJ10_inflateIfNeededFor_14 : decode cJ10_inflateIfNeededFor 14 = .ok (.if_icmp .eq 7, 3) := dk_159 0 7 (dk_at dksJ10_inflateIfNeededFor_0 14 rfl rfl)
theorem dJ10_inflateIfNeededFor_17 : decode cJ10_inflateIfNeededFor 17 = .ok (.aload_n 0, 1) := dk_42 (dk_at dksJ10_inflateIfNeededFor_0 17 rfl rfl)
theorem dJ10_inflateIfNeededFor_18 : decode cJ10_inflateIfNeededFor 18 = .ok (.invokevirtual 195, 3) := dk_182 0 195 (dk_at dksJ10_inflateIfNeededFor_0 18 rfl rfl)
theorem dJ10_inflateIfNeededFor_21 : decode cJ10_inflateIfNeededFor 21 = .ok (.return_, 1) := dk_177 (dk_at dksJ10_inflateIfNeededFor_0 21 rfl rfl)
theorem q127 : (Jvm.Cond.initialized "java/lang/AbstractStringBuilder") ∈ lw_all := lw_g (lw_at lw_m1 16 rfl) rfl
theorem q460 : (Jvm.Cond.instanceMethod ({ cls := "java/lang/AbstractStringBuilder", name := "<init>", desc := "(I)V" } : Jvm.MethodName)) ∈ lw_all := lw_g (lw_at lw_m2 109 rfl) rfl
theorem q461 : (Jvm.Cond.code ({ cls := "java/lang/AbstractStringBuilder", name := "<init>", desc := "(I)V" } : Jvm.MethodName) prog_16_method_2_code (2 : Nat) (Option.none : Option Jvm.ClassFile.FieldType)) ∈ lw_all := lw_g (lw_at lw_m2 110 rfl) rfl
theorem q462 : (Jvm.Cond.methodLink "java/lang/AbstractStringBuilder" (3 : Nat) ({ cls := "java/lang/Object", name := "<init>", desc := "()V" } : Jvm.MethodName)) ∈ lw_all := lw_g (lw_at lw_m2 111 rfl) rfl
theorem q463 : (Jvm.Cond.fieldLink "java/lang/AbstractStringBuilder" (18 : Nat) "java/lang/String" "COMPACT_STRINGS" "Z") ∈ lw_all := lw_g (lw_at lw_m2 112 rfl) rfl
theorem q465 : (Jvm.Cond.methodLink "java/lang/AbstractStringBuilder" (26 : Nat) ({ cls := "java/lang/StringUTF16", name := "newBytesFor", desc := "(I)[B" } : Jvm.MethodName)) ∈ lw_all := lw_g (lw_at lw_m2 114 rfl) rfl
theorem q472 : (Jvm.Cond.fieldLink "java/lang/AbstractStringBuilder" (15 : Nat) "java/lang/AbstractStringBuilder" "value" "[B") ∈ lw_all := lw_g (lw_at lw_m2 121 rfl) rfl
theorem q473 : (Jvm.Cond.fieldLink "java/lang/AbstractStringBuilder" (22 : Nat) "java/lang/AbstractStringBuilder" "coder" "B") ∈ lw_all := lw_g (lw_at lw_m2 122 rfl) rfl
theorem q475 : (Jvm.Cond.fieldLink "java/lang/AbstractStringBuilder" (79 : Nat) "java/lang/AbstractStringBuilder" "count" "I") ∈ lw_all := lw_g (lw_at lw_m2 124 rfl) rfl
theorem q477 : (Jvm.Cond.soleField "java/lang/AbstractStringBuilder" "value") ∈ lw_all := lw_g (lw_at lw_m2 126 rfl) rfl
theorem q479 : (Jvm.Cond.soleField "java/lang/AbstractStringBuilder" "coder") ∈ lw_all := lw_g (lw_at lw_m2 128 rfl) rfl
theorem q481 : (Jvm.Cond.soleField "java/lang/AbstractStringBuilder" "maybeLatin1") ∈ lw_all := lw_g (lw_at lw_m2 130 rfl) rfl
theorem q483 : (Jvm.Cond.soleField "java/lang/AbstractStringBuilder" "count") ∈ lw_all := lw_g (lw_at lw_m2 132 rfl) rfl
theorem q490 : (Jvm.Cond.instanceMethod ({ cls := "java/lang/AbstractStringBuilder", name := "append", desc := "(C)Ljava/lang/AbstractStringBuilder;" } : Jvm.MethodName)) ∈ lw_all := lw_g (lw_at lw_m2 139 rfl) rfl
theorem q491 : (Jvm.Cond.code ({ cls := "java/lang/AbstractStringBuilder", name := "append", desc := "(C)Ljava/lang/AbstractStringBuilder;" } : Jvm.MethodName) prog_16_method_31_code (2 : Nat) (Option.some (Jvm.ClassFile.FieldType.object "java/lang/AbstractStringBuilder"))) ∈ lw_all := lw_g (lw_at lw_m2 140 rfl) rfl
theorem q492 : (Jvm.Cond.methodLink "java/lang/AbstractStringBuilder" (100 : Nat) ({ cls := "java/lang/AbstractStringBuilder", name := "ensureCapacityInternal", desc := "(I)V" } : Jvm.MethodName)) ∈ lw_all := lw_g (lw_at lw_m2 141 rfl) rfl
theorem q493 : (Jvm.Cond.privateMethod ({ cls := "java/lang/AbstractStringBuilder", name := "ensureCapacityInternal", desc := "(I)V" } : Jvm.MethodName)) ∈ lw_tbl := lw_at lw_m2 142 rfl
theorem q494 : (Jvm.Cond.instanceMethod ({ cls := "java/lang/AbstractStringBuilder", name := "ensureCapacityInternal", desc := "(I)V" } : Jvm.MethodName)) ∈ lw_all := lw_g (lw_at lw_m2 143 rfl) rfl
theorem q495 : (Jvm.Cond.code ({ cls := "java/lang/AbstractStringBuilder", name := "ensureCapacityInternal", desc := "(I)V" } : Jvm.MethodName) prog_16_method_9_code (3 : Nat) (Option.none : Option Jvm.ClassFile.FieldType)) ∈ lw_all := lw_g (lw_at lw_m2 144 rfl) rfl
theorem q496 : (Jvm.Cond.methodLink "java/lang/AbstractStringBuilder" (104 : Nat) ({ cls := "java/lang/AbstractStringBuilder", name := "newCapacity", desc := "(I)I" } : Jvm.MethodName)) ∈ lw_all := lw_g (lw_at lw_m2 145 rfl) rfl
theorem q497 : (Jvm.Cond.privateMethod ({ cls := "java/lang/AbstractStringBuilder", name := "newCapacity", desc := "(I)I" } : Jvm.MethodName)) ∈ lw_tbl := lw_at lw_m2 146 rfl
theorem q498 : (Jvm.Cond.instanceMethod ({ cls := "java/lang/AbstractStringBuilder", name := "newCapacity", desc := "(I)I" } : Jvm.MethodName)) ∈ lw_all := lw_g (lw_at lw_m2 147 rfl) rfl
theorem q499 : (Jvm.Cond.code ({ cls := "java/lang/AbstractStringBuilder", name := "newCapacity", desc := "(I)I" } : Jvm.MethodName) prog_16_method_10_code (6 : Nat) (Option.some Jvm.ClassFile.FieldType.int)) ∈ lw_all := lw_g (lw_at lw_m2 148 rfl) rfl
theorem q500 : (Jvm.Cond.methodLink "java/lang/AbstractStringBuilder" (114 : Nat) ({ cls := "jdk/internal/util/ArraysSupport", name := "newLength", desc := "(III)I" } : Jvm.MethodName)) ∈ lw_all := lw_g (lw_at lw_m2 149 rfl) rfl
theorem q510 : (Jvm.Cond.constant "java/lang/AbstractStringBuilder" (39 : Nat) (2147483647 : Int32)) ∈ lw_all := lw_g (lw_at lw_m2 159 rfl) rfl
theorem q511 : (Jvm.Cond.methodLink "java/lang/AbstractStringBuilder" (108 : Nat) ({ cls := "java/util/Arrays", name := "copyOf", desc := "([BI)[B" } : Jvm.MethodName)) ∈ lw_all := lw_g (lw_at lw_m2 160 rfl) rfl
theorem q527 : (Jvm.Cond.methodLink "java/lang/AbstractStringBuilder" (83 : Nat) ({ cls := "java/lang/AbstractStringBuilder", name := "isLatin1", desc := "()Z" } : Jvm.MethodName)) ∈ lw_all := lw_g (lw_at lw_m2 176 rfl) rfl
theorem q528 : (Jvm.Cond.instanceMethod ({ cls := "java/lang/AbstractStringBuilder", name := "isLatin1", desc := "()Z" } : Jvm.MethodName)) ∈ lw_all := lw_g (lw_at lw_m2 177 rfl) rfl
theorem q529 : (Jvm.Cond.sameMethod "java/lang/AbstractStringBuilder" "java/lang/AbstractStringBuilder" "isLatin1" "()Z") ∈ lw_all := lw_g (lw_at lw_m2 178 rfl) rfl
theorem q531 : (Jvm.Cond.code ({ cls := "java/lang/AbstractStringBuilder", name := "isLatin1", desc := "()Z" } : Jvm.MethodName) prog_16_method_68_code (1 : Nat) (Option.some Jvm.ClassFile.FieldType.boolean)) ∈ lw_all := lw_g (lw_at lw_m2 180 rfl) rfl
theorem q532 : (Jvm.Cond.methodLink "java/lang/AbstractStringBuilder" (191 : Nat) ({ cls := "java/lang/StringLatin1", name := "canEncode", desc := "(C)Z" } : Jvm.MethodName)) ∈ lw_all := lw_g (lw_at lw_m2 181 rfl) rfl
theorem q535 : (Jvm.Cond.methodLink "java/lang/AbstractStringBuilder" (195 : Nat) ({ cls := "java/lang/AbstractStringBuilder", name := "inflate", desc := "()V" } : Jvm.MethodName)) ∈ lw_all := lw_g (lw_at lw_m2 184 rfl) rfl
theorem q536 : (Jvm.Cond.privateMethod ({ cls := "java/lang/AbstractStringBuilder", name := "inflate", desc := "()V" } : Jvm.MethodName)) ∈ lw_tbl := lw_at lw_m2 185 rfl
theorem q537 : (Jvm.Cond.instanceMethod ({ cls := "java/lang/AbstractStringBuilder", name := "inflate", desc := "()V" } : Jvm.MethodName)) ∈ lw_all := lw_g (lw_at lw_m2 186 rfl) rfl
theorem q538 : (Jvm.Cond.code ({ cls := "java/lang/AbstractStringBuilder", name := "inflate", desc := "()V" } : Jvm.MethodName) prog_16_method_11_code (2 : Nat) (Option.none : Option Jvm.ClassFile.FieldType)) ∈ lw_all := lw_g (lw_at lw_m2 187 rfl) rfl
theorem q539 : (Jvm.Cond.methodLink "java/lang/AbstractStringBuilder" (125 : Nat) ({ cls := "java/lang/StringLatin1", name := "inflate", desc := "([BI[BII)V" } : Jvm.MethodName)) ∈ lw_all := lw_g (lw_at lw_m2 188 rfl) rfl
theorem q568 : (Jvm.Cond.methodLink "java/lang/AbstractStringBuilder" (197 : Nat) ({ cls := "java/lang/StringUTF16", name := "putCharSB", desc := "([BII)V" } : Jvm.MethodName)) ∈ lw_all := lw_g (lw_at lw_m2 217 rfl) rfl
theorem q591 : (Jvm.Cond.instanceMethod ({ cls := "java/lang/AbstractStringBuilder", name := "getValue", desc := "()[B" } : Jvm.MethodName)) ∈ lw_all := lw_g (lw_at lw_m3 0 rfl) rfl
theorem q592 : (Jvm.Cond.sameMethod "java/lang/AbstractStringBuilder" "java/lang/AbstractStringBuilder" "getValue" "()[B") ∈ lw_all := lw_g (lw_at lw_m3 1 rfl) rfl
theorem q594 : (Jvm.Cond.code ({ cls := "java/lang/AbstractStringBuilder", name := "getValue", desc := "()[B" } : Jvm.MethodName) prog_16_method_64_code (1 : Nat) (Option.some (Jvm.ClassFile.FieldType.array Jvm.ClassFile.FieldType.byte))) ∈ lw_all := lw_g (lw_at lw_m3 3 rfl) rfl
theorem q596 : (Jvm.Cond.instanceMethod ({ cls := "java/lang/AbstractStringBuilder", name := "length", desc := "()I" } : Jvm.MethodName)) ∈ lw_all := lw_g (lw_at lw_m3 5 rfl) rfl
theorem q597 : (Jvm.Cond.sameMethod "java/lang/AbstractStringBuilder" "java/lang/AbstractStringBuilder" "length" "()I") ∈ lw_all := lw_g (lw_at lw_m3 6 rfl) rfl
theorem q602 : (Jvm.Cond.code ({ cls := "java/lang/AbstractStringBuilder", name := "length", desc := "()I" } : Jvm.MethodName) prog_16_method_6_code (1 : Nat) (Option.some Jvm.ClassFile.FieldType.int)) ∈ lw_all := lw_g (lw_at lw_m3 11 rfl) rfl
theorem q631 : (Jvm.Cond.instanceMethod ({ cls := "java/lang/AbstractStringBuilder", name := "append", desc := "(I)Ljava/lang/AbstractStringBuilder;" } : Jvm.MethodName)) ∈ lw_all := lw_g (lw_at lw_m3 40 rfl) rfl
theorem q632 : (Jvm.Cond.code ({ cls := "java/lang/AbstractStringBuilder", name := "append", desc := "(I)Ljava/lang/AbstractStringBuilder;" } : Jvm.MethodName) prog_16_method_32_code (4 : Nat) (Option.some (Jvm.ClassFile.FieldType.object "java/lang/AbstractStringBuilder"))) ∈ lw_all := lw_g (lw_at lw_m3 41 rfl) rfl
theorem q633 : (Jvm.Cond.methodLink "java/lang/AbstractStringBuilder" (245 : Nat) ({ cls := "java/lang/Integer", name := "stringSize", desc := "(I)I" } : Jvm.MethodName)) ∈ lw_all := lw_g (lw_at lw_m3 42 rfl) rfl
theorem q636 : (Jvm.Cond.methodLink "java/lang/AbstractStringBuilder" (248 : Nat) ({ cls := "java/lang/Integer", name := "getChars", desc := "(II[B)I" } : Jvm.MethodName)) ∈ lw_all := lw_g (lw_at lw_m3 45 rfl) rfl
theorem q643 : (Jvm.Cond.methodLink "java/lang/AbstractStringBuilder" (251 : Nat) ({ cls := "java/lang/StringUTF16", name := "getChars", desc := "(III[B)I" } : Jvm.MethodName)) ∈ lw_all := lw_g (lw_at lw_m3 52 rfl) rfl
theorem q666 : (Jvm.Cond.instanceMethod ({ cls := "java/lang/AbstractStringBuilder", name := "append", desc := "(Ljava/lang/String;)Ljava/lang/AbstractStringBuilder;" } : Jvm.MethodName)) ∈ lw_all := lw_g (lw_at lw_m3 75 rfl) rfl
theorem q667 : (Jvm.Cond.code ({ cls := "java/lang/AbstractStringBuilder", name := "append", desc := "(Ljava/lang/String;)Ljava/lang/AbstractStringBuilder;" } : Jvm.MethodName) prog_16_method_22_code (3 : Nat) (Option.some (Jvm.ClassFile.FieldType.object "java/lang/AbstractStringBuilder"))) ∈ lw_all := lw_g (lw_at lw_m3 76 rfl) rfl
theorem q668 : (Jvm.Cond.methodLink "java/lang/AbstractStringBuilder" (204 : Nat) ({ cls := "java/lang/AbstractStringBuilder", name := "appendNull", desc := "()Ljava/lang/AbstractStringBuilder;" } : Jvm.MethodName)) ∈ lw_all := lw_g (lw_at lw_m3 77 rfl) rfl
theorem q669 : (Jvm.Cond.privateMethod ({ cls := "java/lang/AbstractStringBuilder", name := "appendNull", desc := "()Ljava/lang/AbstractStringBuilder;" } : Jvm.MethodName)) ∈ lw_tbl := lw_at lw_m3 78 rfl
theorem q670 : (Jvm.Cond.instanceMethod ({ cls := "java/lang/AbstractStringBuilder", name := "appendNull", desc := "()Ljava/lang/AbstractStringBuilder;" } : Jvm.MethodName)) ∈ lw_all := lw_g (lw_at lw_m3 79 rfl) rfl
theorem q671 : (Jvm.Cond.code ({ cls := "java/lang/AbstractStringBuilder", name := "appendNull", desc := "()Ljava/lang/AbstractStringBuilder;" } : Jvm.MethodName) prog_16_method_26_code (3 : Nat) (Option.some (Jvm.ClassFile.FieldType.object "java/lang/AbstractStringBuilder"))) ∈ lw_all := lw_g (lw_at lw_m3 80 rfl) rfl
theorem q672 : (Jvm.Cond.methodLink "java/lang/AbstractStringBuilder" (226 : Nat) ({ cls := "java/lang/StringUTF16", name := "putCharsAt", desc := "([BICCCC)I" } : Jvm.MethodName)) ∈ lw_all := lw_g (lw_at lw_m3 81 rfl) rfl
theorem q675 : (Jvm.Cond.methodLink "java/lang/AbstractStringBuilder" (32 : Nat) ({ cls := "java/lang/String", name := "length", desc := "()I" } : Jvm.MethodName)) ∈ lw_all := lw_g (lw_at lw_m3 84 rfl) rfl
theorem q684 : (Jvm.Cond.methodLink "java/lang/AbstractStringBuilder" (208 : Nat) ({ cls := "java/lang/AbstractStringBuilder", name := "putStringAt", desc := "(ILjava/lang/String;)V" } : Jvm.MethodName)) ∈ lw_all := lw_g (lw_at lw_m3 93 rfl) rfl
theorem q685 : (Jvm.Cond.privateMethod ({ cls := "java/lang/AbstractStringBuilder", name := "putStringAt", desc := "(ILjava/lang/String;)V" } : Jvm.MethodName)) ∈ lw_tbl := lw_at lw_m3 94 rfl
theorem q686 : (Jvm.Cond.instanceMethod ({ cls := "java/lang/AbstractStringBuilder", name := "putStringAt", desc := "(ILjava/lang/String;)V" } : Jvm.MethodName)) ∈ lw_all := lw_g (lw_at lw_m3 95 rfl) rfl
theorem q687 : (Jvm.Cond.code ({ cls := "java/lang/AbstractStringBuilder", name := "putStringAt", desc := "(ILjava/lang/String;)V" } : Jvm.MethodName) prog_16_method_73_code (3 : Nat) (Option.none : Option Jvm.ClassFile.FieldType)) ∈ lw_all := lw_g (lw_at lw_m3 96 rfl) rfl
theorem q688 : (Jvm.Cond.methodLink "java/lang/AbstractStringBuilder" (397 : Nat) ({ cls := "java/lang/AbstractStringBuilder", name := "inflateIfNeededFor", desc := "(Ljava/lang/String;)V" } : Jvm.MethodName)) ∈ lw_all := lw_g (lw_at lw_m3 97 rfl) rfl
theorem q689 : (Jvm.Cond.privateMethod ({ cls := "java/lang/AbstractStringBuilder", name := "inflateIfNeededFor", desc := "(Ljava/lang/String;)V" } : Jvm.MethodName)) ∈ lw_tbl := lw_at lw_m3 98 rfl
theorem q690 : (Jvm.Cond.instanceMethod ({ cls := "java/lang/AbstractStringBuilder", name := "inflateIfNeededFor", desc := "(Ljava/lang/String;)V" } : Jvm.MethodName)) ∈ lw_all := lw_g (lw_at lw_m3 99 rfl) rfl
theorem q691 : (Jvm.Cond.code ({ cls := "java/lang/AbstractStringBuilder", name := "inflateIfNeededFor", desc := "(Ljava/lang/String;)V" } : Jvm.MethodName) prog_16_method_71_code (2 : Nat) (Option.none : Option Jvm.ClassFile.FieldType)) ∈ lw_all := lw_g (lw_at lw_m3 100 rfl) rfl
theorem q692 : (Jvm.Cond.methodLink "java/lang/AbstractStringBuilder" (40 : Nat) ({ cls := "java/lang/String", name := "coder", desc := "()B" } : Jvm.MethodName)) ∈ lw_all := lw_g (lw_at lw_m3 101 rfl) rfl
theorem q693 : (Jvm.Cond.methodLink "java/lang/AbstractStringBuilder" (399 : Nat) ({ cls := "java/lang/String", name := "getBytes", desc := "([BIB)V" } : Jvm.MethodName)) ∈ lw_all := lw_g (lw_at lw_m3 102 rfl) rfl
theorem q2560 : (Jvm.Cond.sameMethod "java/lang/AbstractStringBuilder" "java/lang/AbstractStringBuilder" "append" "(C)Ljava/lang/AbstractStringBuilder;") ∈ lw_all := lw_g (lw_at lw_m11 49 rfl) rfl
theorem q2561 : (Jvm.Cond.sameMethod "java/lang/AbstractStringBuilder" "java/lang/AbstractStringBuilder" "ensureCapacityInternal" "(I)V") ∈ lw_all := lw_g (lw_at lw_m11 50 rfl) rfl
theorem q2562 : (Jvm.Cond.sameMethod "java/lang/AbstractStringBuilder" "java/lang/AbstractStringBuilder" "newCapacity" "(I)I") ∈ lw_all := lw_g (lw_at lw_m11 51 rfl) rfl
theorem q2563 : (Jvm.Cond.sameMethod "java/lang/AbstractStringBuilder" "java/lang/AbstractStringBuilder" "inflate" "()V") ∈ lw_all := lw_g (lw_at lw_m11 52 rfl) rfl
theorem q2564 : (Jvm.Cond.sameMethod "java/lang/AbstractStringBuilder" "java/lang/AbstractStringBuilder" "append" "(I)Ljava/lang/AbstractStringBuilder;") ∈ lw_all := lw_g (lw_at lw_m11 53 rfl) rfl
theorem q2565 : (Jvm.Cond.sameMethod "java/lang/AbstractStringBuilder" "java/lang/AbstractStringBuilder" "append" "(Ljava/lang/String;)Ljava/lang/AbstractStringBuilder;") ∈ lw_all := lw_g (lw_at lw_m11 54 rfl) rfl
theorem q2566 : (Jvm.Cond.sameMethod "java/lang/AbstractStringBuilder" "java/lang/AbstractStringBuilder" "appendNull" "()Ljava/lang/AbstractStringBuilder;") ∈ lw_all := lw_g (lw_at lw_m11 55 rfl) rfl
theorem q2567 : (Jvm.Cond.sameMethod "java/lang/AbstractStringBuilder" "java/lang/AbstractStringBuilder" "putStringAt" "(ILjava/lang/String;)V") ∈ lw_all := lw_g (lw_at lw_m11 56 rfl) rfl
theorem q2568 : (Jvm.Cond.sameMethod "java/lang/AbstractStringBuilder" "java/lang/AbstractStringBuilder" "inflateIfNeededFor" "(Ljava/lang/String;)V") ∈ lw_all := lw_g (lw_at lw_m11 57 rfl) rfl
/-! java/lang/StringBuilder -/
set_option maxRecDepth 100000
def RJ11 : String := "java/lang/StringBuilder"
def TJ11 : u_T := fun k => match k with
  | 0 => ("java/lang/AbstractStringBuilder", "value", "[B", false)
  | 1 => ("java/lang/AbstractStringBuilder", "coder", "B", false)
  | 2 => ("java/lang/AbstractStringBuilder", "maybeLatin1", "Z", false)
  | _ => ("java/lang/AbstractStringBuilder", "count", "I", false)
def tyJ11 : Nat → FieldType := fun k => match k with
  | 0 => .array .byte
  | 1 => .byte
  | 2 => .boolean
  | _ => .int
abbrev wsJ110 : List Cond := u_ws RJ11 TJ11 4
theorem nmJ11 : ∀ a, a < 4 → ∀ b, b < 4 → a ≠ b → (TJ11 a).2.1 ≠ (TJ11 b).2.1 := by decide +kernel
theorem tyJ11_ok : ∀ k, k < 4 → parseFieldDescriptor (TJ11 k).2.2.1 = some (tyJ11 k) := by decide +kernel
abbrev cJ11_init : ByteArray := prog_34_method_2_code
def yJ11_init : MethodName := ⟨RJ11, "<init>", "(I)V"⟩
def dkwJ11_init_0 : List UInt8 := [42, 27, 183, 0, 1, 177]
abbrev dktJ11_init_0 : List UInt8 := dkwJ11_init_0 ++ []
theorem dksJ11_init_0 : cJ11_init.data.toList.drop 0 = dktJ11_init_0 := by decide +kernel
theorem dJ11_init_0 : decode cJ11_init 0 = .ok (.aload_n 0, 1) := dk_42 (dk_at dksJ11_init_0 0 rfl rfl)
theorem dJ11_init_1 : decode cJ11_init 1 = .ok (.iload_n 1, 1) := dk_27 (dk_at dksJ11_init_0 1 rfl rfl)
theorem dJ11_init_2 : decode cJ11_init 2 = .ok (.invokespecial 1, 3) := dk_183 0 1 (dk_at dksJ11_init_0 2 rfl rfl)
theorem dJ11_init_5 : decode cJ11_init 5 = .ok (.return_, 1) := dk_177 (dk_at dksJ11_init_0 5 rfl rfl)
abbrev cJ11_append : ByteArray := prog_34_method_14_code
def yJ11_append : MethodName := ⟨RJ11, "append", "(C)Ljava/lang/StringBuilder;"⟩
def dkwJ11_append_0 : List UInt8 := [42, 27, 183, 0, 50, 87, 42, 176]
abbrev dktJ11_append_0 : List UInt8 := dkwJ11_append_0 ++ []
theorem dksJ11_append_0 : cJ11_append.data.toList.drop 0 = dktJ11_append_0 := by decide +kernel
theorem dJ11_append_0 : decode cJ11_append 0 = .ok (.aload_n 0, 1) := dk_42 (dk_at dksJ11_append_0 0 rfl rfl)
theorem dJ11_append_1 : decode cJ11_append 1 = .ok (.iload_n 1, 1) := dk_27 (dk_at dksJ11_append_0 1 rfl rfl)
theorem dJ11_append_2 : decode cJ11_append 2 = .ok (.invokespecial 50, 3) := dk_183 0 50 (dk_at dksJ11_append_0 2 rfl rfl)
theorem dJ11_append_5 : decode cJ11_append 5 = .ok (.pop, 1) := dk_87 (dk_at dksJ11_append_0 5 rfl rfl)
theorem dJ11_append_6 : decode cJ11_append 6 = .ok (.aload_n 0, 1) := dk_42 (dk_at dksJ11_append_0 6 rfl rfl)
theorem dJ11_append_7 : decode cJ11_append 7 = .ok (.areturn, 1) := dk_176 (dk_at dksJ11_append_0 7 rfl rfl)
abbrev cJ11_toString : ByteArray := prog_34_method_42_code
def yJ11_toString : MethodName := ⟨RJ11, "toString", "()Ljava/lang/String;"⟩
def dkwJ11_toString_0 : List UInt8 := [187, 0, 18, 89, 42, 183, 0, 137, 176]
abbrev dktJ11_toString_0 : List UInt8 := dkwJ11_toString_0 ++ []
theorem dksJ11_toString_0 : cJ11_toString.data.toList.drop 0 = dktJ11_toString_0 := by decide +kernel
theorem dJ11_toString_0 : decode cJ11_toString 0 = .ok (.new 18, 3) := dk_187 0 18 (dk_at dksJ11_toString_0 0 rfl rfl)
theorem dJ11_toString_3 : decode cJ11_toString 3 = .ok (.dup, 1) := dk_89 (dk_at dksJ11_toString_0 3 rfl rfl)
theorem dJ11_toString_4 : decode cJ11_toString 4 = .ok (.aload_n 0, 1) := dk_42 (dk_at dksJ11_toString_0 4 rfl rfl)
theorem dJ11_toString_5 : decode cJ11_toString 5 = .ok (.invokespecial 137, 3) := dk_183 0 137 (dk_at dksJ11_toString_0 5 rfl rfl)
theorem dJ11_toString_8 : decode cJ11_toString 8 = .ok (.areturn, 1) := dk_176 (dk_at dksJ11_toString_0 8 rfl rfl)
abbrev cJ11_length : ByteArray := prog_34_method_93_code
def yJ11_length : MethodName := ⟨RJ11, "length", "()I"⟩
theorem dJ11_length_0 : decode cJ11_length 0 = .ok (.aload_n 0, 1) := by decide +kernel
theorem dJ11_length_1 : decode cJ11_length 1 = .ok (.invokespecial 343, 3) := by decide +kernel
theorem dJ11_length_4 : decode cJ11_length 4 = .ok (.ireturn, 1) := by decide +kernel
abbrev cJ11_init_2 : ByteArray := prog_34_method_1_code
def yJ11_init_2 : MethodName := ⟨RJ11, "<init>", "()V"⟩
def dkwJ11_init_2_0 : List UInt8 := [42, 16, 16, 183, 0, 1, 177]
abbrev dktJ11_init_2_0 : List UInt8 := dkwJ11_init_2_0 ++ []
theorem dksJ11_init_2_0 : cJ11_init_2.data.toList.drop 0 = dktJ11_init_2_0 := by decide +kernel
theorem dJ11_init_2_0 : decode cJ11_init_2 0 = .ok (.aload_n 0, 1) := dk_42 (dk_at dksJ11_init_2_0 0 rfl rfl)
theorem dJ11_init_2_1 : decode cJ11_init_2 1 = .ok (.bipush 16, 2) := dk_16 16 (dk_at dksJ11_init_2_0 1 rfl rfl)
theorem dJ11_init_2_3 : decode cJ11_init_2 3 = .ok (.invokespecial 1, 3) := dk_183 0 1 (dk_at dksJ11_init_2_0 3 rfl rfl)
theorem dJ11_init_2_6 : decode cJ11_init_2 6 = .ok (.return_, 1) := dk_177 (dk_at dksJ11_init_2_0 6 rfl rfl)
abbrev cJ11_append_2 : ByteArray := prog_34_method_15_code
def yJ11_append_2 : MethodName := ⟨RJ11, "append", "(I)Ljava/lang/StringBuilder;"⟩
def dkwJ11_append_2_0 : List UInt8 := [42, 27, 183, 0, 53, 87, 42, 176]
abbrev dktJ11_append_2_0 : List UInt8 := dkwJ11_append_2_0 ++ []
theorem dksJ11_append_2_0 : cJ11_append_2.data.toList.drop 0 = dktJ11_append_2_0 := by decide +kernel
theorem dJ11_append_2_0 : decode cJ11_append_2 0 = .ok (.aload_n 0, 1) := dk_42 (dk_at dksJ11_append_2_0 0 rfl rfl)
theorem dJ11_append_2_1 : decode cJ11_append_2 1 = .ok (.iload_n 1, 1) := dk_27 (dk_at dksJ11_append_2_0 1 rfl rfl)
theorem dJ11_append_2_2 : decode cJ11_append_2 2 = .ok (.invokespecial 53, 3) := dk_183 0 53 (dk_at dksJ11_append_2_0 2 rfl rfl)
theorem dJ11_append_2_5 : decode cJ11_append_2 5 = .ok (.pop, 1) := dk_87 (dk_at dksJ11_append_2_0 5 rfl rfl)
theorem dJ11_append_2_6 : decode cJ11_append_2 6 = .ok (.aload_n 0, 1) := dk_42 (dk_at dksJ11_append_2_0 6 rfl rfl)
theorem dJ11_append_2_7 : decode cJ11_append_2 7 = .ok (.areturn, 1) := dk_176 (dk_at dksJ11_append_2_0 7 rfl rfl)
abbrev cJ11_append_3 : ByteArray := prog_34_method_7_code
def yJ11_append_3 : MethodName := ⟨RJ11, "append", "(Ljava/lang/String;)Ljava/lang/StringBuilder;"⟩
def dkwJ11_append_3_0 : List UInt8 := [42, 43, 183, 0, 29, 87, 42, 176]
abbrev dktJ11_append_3_0 : List UInt8 := dkwJ11_append_3_0 ++ []
theorem dksJ11_append_3_0 : cJ11_append_3.data.toList.drop 0 = dktJ11_append_3_0 := by decide +kernel
theorem dJ11_append_3_0 : decode cJ11_append_3 0 = .ok (.aload_n 0, 1) := dk_42 (dk_at dksJ11_append_3_0 0 rfl rfl)
theorem dJ11_append_3_1 : decode cJ11_append_3 1 = .ok (.aload_n 1, 1) := dk_43 (dk_at dksJ11_append_3_0 1 rfl rfl)
theorem dJ11_append_3_2 : decode cJ11_append_3 2 = .ok (.invokespecial 29, 3) := dk_183 0 29 (dk_at dksJ11_append_3_0 2 rfl rfl)
theorem dJ11_append_3_5 : decode cJ11_append_3 5 = .ok (.pop, 1) := dk_87 (dk_at dksJ11_append_3_0 5 rfl rfl)
theorem dJ11_append_3_6 : decode cJ11_append_3 6 = .ok (.aload_n 0, 1) := dk_42 (dk_at dksJ11_append_3_0 6 rfl rfl)
theorem dJ11_append_3_7 : decode cJ11_append_3 7 = .ok (.areturn, 1) := dk_176 (dk_at dksJ11_append_3_0 7 rfl rfl)
theorem q128 : (Jvm.Cond.initialized "java/lang/StringBuilder") ∈ lw_all := lw_g (lw_at lw_m1 17 rfl) rfl
theorem q455 : (Jvm.Cond.instantiable "java/lang/StringBuilder" (4 : Nat)) ∈ lw_all := lw_g (lw_at lw_m2 104 rfl) rfl
theorem q457 : (Jvm.Cond.instanceMethod ({ cls := "java/lang/StringBuilder", name := "<init>", desc := "(I)V" } : Jvm.MethodName)) ∈ lw_all := lw_g (lw_at lw_m2 106 rfl) rfl
theorem q458 : (Jvm.Cond.code ({ cls := "java/lang/StringBuilder", name := "<init>", desc := "(I)V" } : Jvm.MethodName) prog_34_method_2_code (2 : Nat) (Option.none : Option Jvm.ClassFile.FieldType)) ∈ lw_all := lw_g (lw_at lw_m2 107 rfl) rfl
theorem q459 : (Jvm.Cond.methodLink "java/lang/StringBuilder" (1 : Nat) ({ cls := "java/lang/AbstractStringBuilder", name := "<init>", desc := "(I)V" } : Jvm.MethodName)) ∈ lw_all := lw_g (lw_at lw_m2 108 rfl) rfl
theorem q476 : (Jvm.Cond.lays "java/lang/StringBuilder" "java/lang/AbstractStringBuilder" "value" "[B") ∈ lw_all := lw_g (lw_at lw_m2 125 rfl) rfl
theorem q478 : (Jvm.Cond.lays "java/lang/StringBuilder" "java/lang/AbstractStringBuilder" "coder" "B") ∈ lw_all := lw_g (lw_at lw_m2 127 rfl) rfl
theorem q480 : (Jvm.Cond.lays "java/lang/StringBuilder" "java/lang/AbstractStringBuilder" "maybeLatin1" "Z") ∈ lw_all := lw_g (lw_at lw_m2 129 rfl) rfl
theorem q482 : (Jvm.Cond.lays "java/lang/StringBuilder" "java/lang/AbstractStringBuilder" "count" "I") ∈ lw_all := lw_g (lw_at lw_m2 131 rfl) rfl
theorem q484 : (Jvm.Cond.superclass "java/lang/StringBuilder" "java/lang/AbstractStringBuilder") ∈ lw_all := lw_g (lw_at lw_m2 133 rfl) rfl
theorem q486 : (Jvm.Cond.instanceMethod ({ cls := "java/lang/StringBuilder", name := "append", desc := "(C)Ljava/lang/StringBuilder;" } : Jvm.MethodName)) ∈ lw_all := lw_g (lw_at lw_m2 135 rfl) rfl
theorem q487 : (Jvm.Cond.selects "java/lang/StringBuilder" ({ cls := "java/lang/StringBuilder", name := "append", desc := "(C)Ljava/lang/StringBuilder;" } : Jvm.MethodName) ({ cls := "java/lang/StringBuilder", name := "append", desc := "(C)Ljava/lang/StringBuilder;" } : Jvm.MethodName)) ∈ lw_all := lw_g (lw_at lw_m2 136 rfl) rfl
theorem q488 : (Jvm.Cond.code ({ cls := "java/lang/StringBuilder", name := "append", desc := "(C)Ljava/lang/StringBuilder;" } : Jvm.MethodName) prog_34_method_14_code (2 : Nat) (Option.some (Jvm.ClassFile.FieldType.object "java/lang/StringBuilder"))) ∈ lw_all := lw_g (lw_at lw_m2 137 rfl) rfl
theorem q489 : (Jvm.Cond.methodLink "java/lang/StringBuilder" (50 : Nat) ({ cls := "java/lang/AbstractStringBuilder", name := "append", desc := "(C)Ljava/lang/AbstractStringBuilder;" } : Jvm.MethodName)) ∈ lw_all := lw_g (lw_at lw_m2 138 rfl) rfl
theorem q530 : (Jvm.Cond.selects "java/lang/StringBuilder" ({ cls := "java/lang/AbstractStringBuilder", name := "isLatin1", desc := "()Z" } : Jvm.MethodName) ({ cls := "java/lang/AbstractStringBuilder", name := "isLatin1", desc := "()Z" } : Jvm.MethodName)) ∈ lw_all := lw_g (lw_at lw_m2 179 rfl) rfl
theorem q579 : (Jvm.Cond.instanceMethod ({ cls := "java/lang/StringBuilder", name := "toString", desc := "()Ljava/lang/String;" } : Jvm.MethodName)) ∈ lw_all := lw_g (lw_at lw_m2 228 rfl) rfl
theorem q580 : (Jvm.Cond.selects "java/lang/StringBuilder" ({ cls := "java/lang/StringBuilder", name := "toString", desc := "()Ljava/lang/String;" } : Jvm.MethodName) ({ cls := "java/lang/StringBuilder", name := "toString", desc := "()Ljava/lang/String;" } : Jvm.MethodName)) ∈ lw_all := lw_g (lw_at lw_m2 229 rfl) rfl
theorem q581 : (Jvm.Cond.code ({ cls := "java/lang/StringBuilder", name := "toString", desc := "()Ljava/lang/String;" } : Jvm.MethodName) prog_34_method_42_code (1 : Nat) (Option.some (Jvm.ClassFile.FieldType.object "java/lang/String"))) ∈ lw_all := lw_g (lw_at lw_m2 230 rfl) rfl
theorem q582 : (Jvm.Cond.classLink "java/lang/StringBuilder" (18 : Nat) "java/lang/String") ∈ lw_all := lw_g (lw_at lw_m2 231 rfl) rfl
theorem q583 : (Jvm.Cond.methodLink "java/lang/StringBuilder" (137 : Nat) ({ cls := "java/lang/String", name := "<init>", desc := "(Ljava/lang/StringBuilder;)V" } : Jvm.MethodName)) ∈ lw_all := lw_g (lw_at lw_m2 232 rfl) rfl
theorem q593 : (Jvm.Cond.selects "java/lang/StringBuilder" ({ cls := "java/lang/AbstractStringBuilder", name := "getValue", desc := "()[B" } : Jvm.MethodName) ({ cls := "java/lang/AbstractStringBuilder", name := "getValue", desc := "()[B" } : Jvm.MethodName)) ∈ lw_all := lw_g (lw_at lw_m3 2 rfl) rfl
theorem q598 : (Jvm.Cond.selects "java/lang/StringBuilder" ({ cls := "java/lang/AbstractStringBuilder", name := "length", desc := "()I" } : Jvm.MethodName) ({ cls := "java/lang/StringBuilder", name := "length", desc := "()I" } : Jvm.MethodName)) ∈ lw_all := lw_g (lw_at lw_m3 7 rfl) rfl
theorem q599 : (Jvm.Cond.instanceMethod ({ cls := "java/lang/StringBuilder", name := "length", desc := "()I" } : Jvm.MethodName)) ∈ lw_all := lw_g (lw_at lw_m3 8 rfl) rfl
theorem q600 : (Jvm.Cond.code ({ cls := "java/lang/StringBuilder", name := "length", desc := "()I" } : Jvm.MethodName) prog_34_method_93_code (1 : Nat) (Option.some Jvm.ClassFile.FieldType.int)) ∈ lw_all := lw_g (lw_at lw_m3 9 rfl) rfl
theorem q601 : (Jvm.Cond.methodLink "java/lang/StringBuilder" (343 : Nat) ({ cls := "java/lang/AbstractStringBuilder", name := "length", desc := "()I" } : Jvm.MethodName)) ∈ lw_all := lw_g (lw_at lw_m3 10 rfl) rfl
theorem q624 : (Jvm.Cond.instanceMethod ({ cls := "java/lang/StringBuilder", name := "<init>", desc := "()V" } : Jvm.MethodName)) ∈ lw_all := lw_g (lw_at lw_m3 33 rfl) rfl
theorem q625 : (Jvm.Cond.code ({ cls := "java/lang/StringBuilder", name := "<init>", desc := "()V" } : Jvm.MethodName) prog_34_method_1_code (1 : Nat) (Option.none : Option Jvm.ClassFile.FieldType)) ∈ lw_all := lw_g (lw_at lw_m3 34 rfl) rfl
theorem q627 : (Jvm.Cond.instanceMethod ({ cls := "java/lang/StringBuilder", name := "append", desc := "(I)Ljava/lang/StringBuilder;" } : Jvm.MethodName)) ∈ lw_all := lw_g (lw_at lw_m3 36 rfl) rfl
theorem q628 : (Jvm.Cond.selects "java/lang/StringBuilder" ({ cls := "java/lang/StringBuilder", name := "append", desc := "(I)Ljava/lang/StringBuilder;" } : Jvm.MethodName) ({ cls := "java/lang/StringBuilder", name := "append", desc := "(I)Ljava/lang/StringBuilder;" } : Jvm.MethodName)) ∈ lw_all := lw_g (lw_at lw_m3 37 rfl) rfl
theorem q629 : (Jvm.Cond.code ({ cls := "java/lang/StringBuilder", name := "append", desc := "(I)Ljava/lang/StringBuilder;" } : Jvm.MethodName) prog_34_method_15_code (2 : Nat) (Option.some (Jvm.ClassFile.FieldType.object "java/lang/StringBuilder"))) ∈ lw_all := lw_g (lw_at lw_m3 38 rfl) rfl
theorem q630 : (Jvm.Cond.methodLink "java/lang/StringBuilder" (53 : Nat) ({ cls := "java/lang/AbstractStringBuilder", name := "append", desc := "(I)Ljava/lang/AbstractStringBuilder;" } : Jvm.MethodName)) ∈ lw_all := lw_g (lw_at lw_m3 39 rfl) rfl
theorem q662 : (Jvm.Cond.instanceMethod ({ cls := "java/lang/StringBuilder", name := "append", desc := "(Ljava/lang/String;)Ljava/lang/StringBuilder;" } : Jvm.MethodName)) ∈ lw_all := lw_g (lw_at lw_m3 71 rfl) rfl
theorem q663 : (Jvm.Cond.selects "java/lang/StringBuilder" ({ cls := "java/lang/StringBuilder", name := "append", desc := "(Ljava/lang/String;)Ljava/lang/StringBuilder;" } : Jvm.MethodName) ({ cls := "java/lang/StringBuilder", name := "append", desc := "(Ljava/lang/String;)Ljava/lang/StringBuilder;" } : Jvm.MethodName)) ∈ lw_all := lw_g (lw_at lw_m3 72 rfl) rfl
theorem q664 : (Jvm.Cond.code ({ cls := "java/lang/StringBuilder", name := "append", desc := "(Ljava/lang/String;)Ljava/lang/StringBuilder;" } : Jvm.MethodName) prog_34_method_7_code (2 : Nat) (Option.some (Jvm.ClassFile.FieldType.object "java/lang/StringBuilder"))) ∈ lw_all := lw_g (lw_at lw_m3 73 rfl) rfl
theorem q665 : (Jvm.Cond.methodLink "java/lang/StringBuilder" (29 : Nat) ({ cls := "java/lang/AbstractStringBuilder", name := "append", desc := "(Ljava/lang/String;)Ljava/lang/AbstractStringBuilder;" } : Jvm.MethodName)) ∈ lw_all := lw_g (lw_at lw_m3 74 rfl) rfl
theorem q1048 : (Jvm.Cond.selects "java/lang/StringBuilder" ({ cls := "java/lang/Object", name := "getClass", desc := "()Ljava/lang/Class;" } : Jvm.MethodName) ({ cls := "java/lang/Object", name := "getClass", desc := "()Ljava/lang/Class;" } : Jvm.MethodName)) ∈ lw_all := lw_g (lw_at lw_m4 217 rfl) rfl
theorem q2569 : (Jvm.Cond.selects "java/lang/StringBuilder" ({ cls := "java/lang/StringBuilder", name := "length", desc := "()I" } : Jvm.MethodName) ({ cls := "java/lang/StringBuilder", name := "length", desc := "()I" } : Jvm.MethodName)) ∈ lw_all := lw_g (lw_at lw_m11 58 rfl) rfl
theorem q2581 : (Jvm.Cond.castable "java/lang/StringBuilder" "java/lang/Object") ∈ lw_tbl := lw_at lw_m11 70 rfl
theorem in_J11 : ∀ w ∈ wsJ110, w ∈ lw_all := lw_in wsJ110 [476, 478, 480, 482] (by decide +kernel) (by decide +kernel)
/-! java/lang/StringUTF16 -/
set_option maxRecDepth 100000
def RJ12 : String := "java/lang/StringUTF16"
abbrev cJ12_newBytesFor : ByteArray := prog_36_method_2_code
def yJ12_newBytesFor : MethodName := ⟨RJ12, "newBytesFor", "(I)[B"⟩
def dkwJ12_newBytesFor_0 : List UInt8 := [26, 184, 0, 11, 188, 8, 176]
abbrev dktJ12_newBytesFor_0 : List UInt8 := dkwJ12_newBytesFor_0 ++ []
theorem dksJ12_newBytesFor_0 : cJ12_newBytesFor.data.toList.drop 0 = dktJ12_newBytesFor_0 := by decide +kernel
theorem dJ12_newBytesFor_0 : decode cJ12_newBytesFor 0 = .ok (.iload_n 0, 1) := dk_26 (dk_at dksJ12_newBytesFor_0 0 rfl rfl)
theorem dJ12_newBytesFor_1 : decode cJ12_newBytesFor 1 = .ok (.invokestatic 11, 3) := dk_184 0 11 (dk_at dksJ12_newBytesFor_0 1 rfl rfl)
theorem dJ12_newBytesFor_4 : decode cJ12_newBytesFor 4 = .ok (.newarray .byte, 2) := dk_188_8 (dk_at dksJ12_newBytesFor_0 4 rfl rfl)
theorem dJ12_newBytesFor_6 : decode cJ12_newBytesFor 6 = .ok (.areturn, 1) := dk_176 (dk_at dksJ12_newBytesFor_0 6 rfl rfl)
abbrev cJ12_newBytesLength : ByteArray := prog_36_method_3_code
def yJ12_newBytesLength : MethodName := ⟨RJ12, "newBytesLength", "(I)I"⟩
def dkwJ12_newBytesLength_2 : List UInt8 := [182, 0, 32, 182, 0, 37, 183, 0, 41, 191, 26, 4, 120, 172]
abbrev dktJ12_newBytesLength_2 : List UInt8 := dkwJ12_newBytesLength_2 ++ []
def dkwJ12_newBytesLength_1 : List UInt8 := [187, 0, 23, 89, 183, 0, 25, 18, 26, 182, 0, 28, 26, 182, 0, 32, 18, 35, 182, 0, 28, 18, 20]
abbrev dktJ12_newBytesLength_1 : List UInt8 := dkwJ12_newBytesLength_1 ++ dktJ12_newBytesLength_2
def dkwJ12_newBytesLength_0 : List UInt8 := [26, 156, 0, 11, 187, 0, 17, 89, 183, 0, 19, 191, 26, 18, 20, 161, 0, 40, 187, 0, 21, 89]
abbrev dktJ12_newBytesLength_0 : List UInt8 := dkwJ12_newBytesLength_0 ++ dktJ12_newBytesLength_1
theorem dksJ12_newBytesLength_0 : cJ12_newBytesLength.data.toList.drop 0 = dktJ12_newBytesLength_0 := by decide +kernel
theorem dksJ12_newBytesLength_1 : cJ12_newBytesLength.data.toList.drop 22 = dktJ12_newBytesLength_1 := dk_seg dksJ12_newBytesLength_0 22 rfl rfl
theorem dksJ12_newBytesLength_2 : cJ12_newBytesLength.data.toList.drop 45 = dktJ12_newBytesLength_2 := dk_seg dksJ12_newBytesLength_1 23 rfl rfl
theorem dJ12_newBytesLength_0 : decode cJ12_newBytesLength 0 = .ok (.iload_n 0, 1) := dk_26 (dk_at dksJ12_newBytesLength_0 0 rfl rfl)
theorem dJ12_newBytesLength_1 : decode cJ12_newBytesLength 1 = .ok (.ifCond .ge 11, 3) := dk_156 0 11 (dk_at dksJ12_newBytesLength_0 1 rfl rfl)
theorem dJ12_newBytesLength_4 : decode cJ12_newBytesLength 4 = .ok (.new 17, 3) := dk_187 0 17 (dk_at dksJ12_newBytesLength_0 4 rfl rfl)
theorem dJ12_newBytesLength_7 : decode cJ12_newBytesLength 7 = .ok (.dup, 1) := dk_89 (dk_at dksJ12_newBytesLength_0 7 rfl rfl)
theorem dJ12_newBytesLength_8 : decode cJ12_newBytesLength 8 = .ok (.invokespecial 19, 3) := dk_183 0 19 (dk_at dksJ12_newBytesLength_0 8 rfl rfl)
theorem dJ12_newBytesLength_11 : decode cJ12_newBytesLength 11 = .ok (.athrow, 1) := dk_191 (dk_at dksJ12_newBytesLength_0 11 rfl rfl)
theorem dJ12_newBytesLength_12 : decode cJ12_newBytesLength 12 = .ok (.iload_n 0, 1) := dk_26 (dk_at dksJ12_newBytesLength_0 12 rfl rfl)
theorem dJ12_newBytesLength_13 : decode cJ12_newBytesLength 13 = .ok (.ldc 20, 2) := dk_18 20 (dk_at dksJ12_newBytesLength_0 13 rfl rfl)
theorem dJ12_newBytesLength_15 : decode cJ12_newBytesLength 15 = .ok (.if_icmp .lt 40, 3) := dk_161 0 40 (dk_at dksJ12_newBytesLength_0 15 rfl rfl)
theorem dJ12_newBytesLength_18 : decode cJ12_newBytesLength 18 = .ok (.new 21, 3) := dk_187 0 21 (dk_at dksJ12_newBytesLength_0 18 rfl rfl)
theorem dJ12_newBytesLength_21 : decode cJ12_newBytesLength 21 = .ok (.dup, 1) := dk_89 (dk_at dksJ12_newBytesLength_0 21 rfl rfl)
theorem dJ12_newBytesLength_22 : decode cJ12_newBytesLength 22 = .ok (.new 23, 3) := dk_187 0 23 (dk_at dksJ12_newBytesLength_1 0 rfl rfl)
theorem dJ12_newBytesLength_25 : decode cJ12_newBytesLength 25 = .ok (.dup, 1) := dk_89 (dk_at dksJ12_newBytesLength_1 3 rfl rfl)
theorem dJ12_newBytesLength_26 : decode cJ12_newBytesLength 26 = .ok (.invokespecial 25, 3) := dk_183 0 25 (dk_at dksJ12_newBytesLength_1 4 rfl rfl)
theorem dJ12_newBytesLength_29 : decode cJ12_newBytesLength 29 = .ok (.ldc 26, 2) := dk_18 26 (dk_at dksJ12_newBytesLength_1 7 rfl rfl)
theorem dJ12_newBytesLength_31 : decode cJ12_newBytesLength 31 = .ok (.invokevirtual 28, 3) := dk_182 0 28 (dk_at dksJ12_newBytesLength_1 9 rfl rfl)
theorem dJ12_newBytesLength_34 : decode cJ12_newBytesLength 34 = .ok (.iload_n 0, 1) := dk_26 (dk_at dksJ12_newBytesLength_1 12 rfl rfl)
theorem dJ12_newBytesLength_35 : decode cJ12_newBytesLength 35 = .ok (.invokevirtual 32, 3) := dk_182 0 32 (dk_at dksJ12_newBytesLength_1 13 rfl rfl)
theorem dJ12_newBytesLength_38 : decode cJ12_newBytesLength 38 = .ok (.ldc 35, 2) := dk_18 35 (dk_at dksJ12_newBytesLength_1 16 rfl rfl)
theorem dJ12_newBytesLength_40 : decode cJ12_newBytesLength 40 = .ok (.invokevirtual 28, 3) := dk_182 0 28 (dk_at dksJ12_newBytesLength_1 18 rfl rfl)
theorem dJ12_newBytesLength_43 : decode cJ12_newBytesLength 43 = .ok (.ldc 20, 2) := dk_18 20 (dk_at dksJ12_newBytesLength_1 21 rfl rfl)
theorem dJ12_newBytesLength_45 : decode cJ12_newBytesLength 45 = .ok (.invokevirtual 32, 3) := dk_182 0 32 (dk_at dksJ12_newBytesLength_2 0 rfl rfl)
theorem dJ12_newBytesLength_48 : decode cJ12_newBytesLength 48 = .ok (.invokevirtual 37, 3) := dk_182 0 37 (dk_at dksJ12_newBytesLength_2 3 rfl rfl)
theorem dJ12_newBytesLength_51 : decode cJ12_newBytesLength 51 = .ok (.invokespecial 41, 3) := dk_183 0 41 (dk_at dksJ12_newBytesLength_2 6 rfl rfl)
theorem dJ12_newBytesLength_54 : decode cJ12_newBytesLength 54 = .ok (.athrow, 1) := dk_191 (dk_at dksJ12_newBytesLength_2 9 rfl rfl)
theorem dJ12_newBytesLength_55 : decode cJ12_newBytesLength 55 = .ok (.iload_n 0, 1) := dk_26 (dk_at dksJ12_newBytesLength_2 10 rfl rfl)
theorem dJ12_newBytesLength_56 : decode cJ12_newBytesLength 56 = .ok (.iconst 1, 1) := dk_4 (dk_at dksJ12_newBytesLength_2 11 rfl rfl)
theorem dJ12_newBytesLength_57 : decode cJ12_newBytesLength 57 = .ok (.ishl, 1) := dk_120 (dk_at dksJ12_newBytesLength_2 12 rfl rfl)
theorem dJ12_newBytesLength_58 : decode cJ12_newBytesLength 58 = .ok (.ireturn, 1) := dk_172 (dk_at dksJ12_newBytesLength_2 13 rfl rfl)
abbrev cJ12_inflate : ByteArray := prog_36_method_86_code
def yJ12_inflate : MethodName := ⟨RJ12, "inflate", "([BI[BII)V"⟩
def dkwJ12_inflate_1 : List UInt8 := [132, 1, 1, 51, 17, 0, 255, 126, 184, 0, 111, 132, 5, 1, 167, 255, 228, 177]
abbrev dktJ12_inflate_1 : List UInt8 := dkwJ12_inflate_1 ++ []
def dkwJ12_inflate_0 : List UInt8 := [29, 21, 4, 44, 184, 0, 173, 3, 54, 5, 21, 5, 21, 4, 162, 0, 27, 44, 29, 132, 3, 1, 42, 27]
abbrev dktJ12_inflate_0 : List UInt8 := dkwJ12_inflate_0 ++ dktJ12_inflate_1
theorem dksJ12_inflate_0 : cJ12_inflate.data.toList.drop 0 = dktJ12_inflate_0 := by decide +kernel
theorem dksJ12_inflate_1 : cJ12_inflate.data.toList.drop 24 = dktJ12_inflate_1 := dk_seg dksJ12_inflate_0 24 rfl rfl
theorem dJ12_inflate_0 : decode cJ12_inflate 0 = .ok (.iload_n 3, 1) := dk_29 (dk_at dksJ12_inflate_0 0 rfl rfl)
theorem dJ12_inflate_1 : decode cJ12_inflate 1 = .ok (.iload 4, 2) := dk_21 4 (dk_at dksJ12_inflate_0 1 rfl rfl)
theorem dJ12_inflate_3 : decode cJ12_inflate 3 = .ok (.aload_n 2, 1) := dk_44 (dk_at dksJ12_inflate_0 3 rfl rfl)
theorem dJ12_inflate_4 : decode cJ12_inflate 4 = .ok (.invokestatic 173, 3) := dk_184 0 173 (dk_at dksJ12_inflate_0 4 rfl rfl)
theorem dJ12_inflate_7 : decode cJ12_inflate 7 = .ok (.iconst 0, 1) := dk_3 (dk_at dksJ12_inflate_0 7 rfl rfl)
theorem dJ12_inflate_8 : decode cJ12_inflate 8 = .ok (.istore 5, 2) := dk_54 5 (dk_at dksJ12_inflate_0 8 rfl rfl)
theorem dJ12_inflate_10 : decode cJ12_inflate 10 = .ok (.iload 5, 2) := dk_21 5 (dk_at dksJ12_inflate_0 10 rfl rfl)
theorem dJ12_inflate_12 : decode cJ12_inflate 12 = .ok (.iload 4, 2) := dk_21 4 (dk_at dksJ12_inflate_0 12 rfl rfl)
theorem dJ12_inflate_14 : decode cJ12_inflate 14 = .ok (.if_icmp .ge 27, 3) := dk_162 0 27 (dk_at dksJ12_inflate_0 14 rfl rfl)
theorem dJ12_inflate_17 : decode cJ12_inflate 17 = .ok (.aload_n 2, 1) := dk_44 (dk_at dksJ12_inflate_0 17 rfl rfl)
theorem dJ12_inflate_18 : decode cJ12_inflate 18 = .ok (.iload_n 3, 1) := dk_29 (dk_at dksJ12_inflate_0 18 rfl rfl)
theorem dJ12_inflate_19 : decode cJ12_inflate 19 = .ok (.iinc 3 1, 3) := dk_132 3 1 (dk_at dksJ12_inflate_0 19 rfl rfl)
theorem dJ12_inflate_22 : decode cJ12_inflate 22 = .ok (.aload_n 0, 1) := dk_42 (dk_at dksJ12_inflate_0 22 rfl rfl)
theorem dJ12_inflate_23 : decode cJ12_inflate 23 = .ok (.iload_n 1, 1) := dk_27 (dk_at dksJ12_inflate_0 23 rfl rfl)
theorem dJ12_inflate_24 : decode cJ12_inflate 24 = .ok (.iinc 1 1, 3) := dk_132 1 1 (dk_at dksJ12_inflate_1 0 rfl rfl)
theorem dJ12_inflate_27 : decode cJ12_inflate 27 = .ok (.baload, 1) := dk_51 (dk_at dksJ12_inflate_1 3 rfl rfl)
theorem dJ12_inflate_28 : decode cJ12_inflate 28 = .ok (.sipush 255, 3) := dk_17 0 255 (dk_at dksJ12_inflate_1 4 rfl rfl)
theorem dJ12_inflate_31 : decode cJ12_inflate 31 = .ok (.iand, 1) := dk_126 (dk_at dksJ12_inflate_1 7 rfl rfl)
theorem dJ12_inflate_32 : decode cJ12_inflate 32 = .ok (.invokestatic 111, 3) := dk_184 0 111 (dk_at dksJ12_inflate_1 8 rfl rfl)
theorem dJ12_inflate_35 : decode cJ12_inflate 35 = .ok (.iinc 5 1, 3) := dk_132 5 1 (dk_at dksJ12_inflate_1 11 rfl rfl)
theorem dJ12_inflate_38 : decode cJ12_inflate 38 = .ok (.goto (-28), 3) := dk_167 255 228 (dk_at dksJ12_inflate_1 14 rfl rfl)
theorem dJ12_inflate_41 : decode cJ12_inflate 41 = .ok (.return_, 1) := dk_177 (dk_at dksJ12_inflate_1 17 rfl rfl)
abbrev cJ12_checkBoundsOffCount : ByteArray := prog_36_method_94_code
def yJ12_checkBoundsOffCount : MethodName := ⟨RJ12, "checkBoundsOffCount", "(II[B)V"⟩
def dkwJ12_checkBoundsOffCount_0 : List UInt8 := [26, 27, 44, 184, 0, 48, 184, 1, 163, 87, 177]
abbrev dktJ12_checkBoundsOffCount_0 : List UInt8 := dkwJ12_checkBoundsOffCount_0 ++ []
theorem dksJ12_checkBoundsOffCount_0 : cJ12_checkBoundsOffCount.data.toList.drop 0 = dktJ12_checkBoundsOffCount_0 := by decide +kernel
theorem dJ12_checkBoundsOffCount_0 : decode cJ12_checkBoundsOffCount 0 = .ok (.iload_n 0, 1) := dk_26 (dk_at dksJ12_checkBoundsOffCount_0 0 rfl rfl)
theorem dJ12_checkBoundsOffCount_1 : decode cJ12_checkBoundsOffCount 1 = .ok (.iload_n 1, 1) := dk_27 (dk_at dksJ12_checkBoundsOffCount_0 1 rfl rfl)
theorem dJ12_checkBoundsOffCount_2 : decode cJ12_checkBoundsOffCount 2 = .ok (.aload_n 2, 1) := dk_44 (dk_at dksJ12_checkBoundsOffCount_0 2 rfl rfl)
theorem dJ12_checkBoundsOffCount_3 : decode cJ12_checkBoundsOffCount 3 = .ok (.invokestatic 48, 3) := dk_184 0 48 (dk_at dksJ12_checkBoundsOffCount_0 3 rfl rfl)
theorem dJ12_checkBoundsOffCount_6 : decode cJ12_checkBoundsOffCount 6 = .ok (.invokestatic 419, 3) := dk_184 1 163 (dk_at dksJ12_checkBoundsOffCount_0 6 rfl rfl)
theorem dJ12_checkBoundsOffCount_9 : decode cJ12_checkBoundsOffCount 9 = .ok (.pop, 1) := dk_87 (dk_at dksJ12_checkBoundsOffCount_0 9 rfl rfl)
theorem dJ12_checkBoundsOffCount_10 : decode cJ12_checkBoundsOffCount 10 = .ok (.return_, 1) := dk_177 (dk_at dksJ12_checkBoundsOffCount_0 10 rfl rfl)
abbrev cJ12_length : ByteArray := prog_36_method_6_code
def yJ12_length : MethodName := ⟨RJ12, "length", "([B)I"⟩
def dkwJ12_length_0 : List UInt8 := [42, 190, 4, 122, 172]
abbrev dktJ12_length_0 : List UInt8 := dkwJ12_length_0 ++ []
theorem dksJ12_length_0 : cJ12_length.data.toList.drop 0 = dktJ12_length_0 := by decide +kernel
theorem dJ12_length_0 : decode cJ12_length 0 = .ok (.aload_n 0, 1) := dk_42 (dk_at dksJ12_length_0 0 rfl rfl)
theorem dJ12_length_1 : decode cJ12_length 1 = .ok (.arraylength, 1) := dk_190 (dk_at dksJ12_length_0 1 rfl rfl)
theorem dJ12_length_2 : decode cJ12_length 2 = .ok (.iconst 1, 1) := dk_4 (dk_at dksJ12_length_0 2 rfl rfl)
theorem dJ12_length_3 : decode cJ12_length 3 = .ok (.ishr, 1) := dk_122 (dk_at dksJ12_length_0 3 rfl rfl)
theorem dJ12_length_4 : decode cJ12_length 4 = .ok (.ireturn, 1) := dk_172 (dk_at dksJ12_length_0 4 rfl rfl)
abbrev cJ12_putChar : ByteArray := prog_36_method_4_code
def yJ12_putChar : MethodName := ⟨RJ12, "putChar", "([BII)V"⟩
def dkwJ12_putChar_2 : List UInt8 := [178, 0, 63, 122, 145, 84, 177]
abbrev dktJ12_putChar_2 : List UInt8 := dkwJ12_putChar_2 ++ []
def dkwJ12_putChar_1 : List UInt8 := [183, 0, 56, 191, 27, 4, 120, 60, 42, 27, 132, 1, 1, 28, 178, 0, 59, 122, 145, 84, 42, 27, 28]
abbrev dktJ12_putChar_1 : List UInt8 := dkwJ12_putChar_1 ++ dktJ12_putChar_2
def dkwJ12_putChar_0 : List UInt8 := [178, 0, 44, 154, 0, 25, 27, 155, 0, 11, 27, 42, 184, 0, 48, 161, 0, 13, 187, 0, 52, 89, 18, 54]
abbrev dktJ12_putChar_0 : List UInt8 := dkwJ12_putChar_0 ++ dktJ12_putChar_1
theorem dksJ12_putChar_0 : cJ12_putChar.data.toList.drop 0 = dktJ12_putChar_0 := by decide +kernel
theorem dksJ12_putChar_1 : cJ12_putChar.data.toList.drop 24 = dktJ12_putChar_1 := dk_seg dksJ12_putChar_0 24 rfl rfl
theorem dksJ12_putChar_2 : cJ12_putChar.data.toList.drop 47 = dktJ12_putChar_2 := dk_seg dksJ12_putChar_1 23 rfl rfl
theorem dJ12_putChar_0 : decode cJ12_putChar 0 = .ok (.getstatic 44, 3) := dk_178 0 44 (dk_at dksJ12_putChar_0 0 rfl rfl)
theorem dJ12_putChar_3 : decode cJ12_putChar 3 = .ok (.ifCond .ne 25, 3) := dk_154 0 25 (dk_at dksJ12_putChar_0 3 rfl rfl)
theorem dJ12_putChar_6 : decode cJ12_putChar 6 = .ok (.iload_n 1, 1) := dk_27 (dk_at dksJ12_putChar_0 6 rfl rfl)
theorem dJ12_putChar_7 : decode cJ12_putChar 7 = .ok (.ifCond .lt 11, 3) := dk_155 0 11 (dk_at dksJ12_putChar_0 7 rfl rfl)
theorem dJ12_putChar_10 : decode cJ12_putChar 10 = .ok (.iload_n 1, 1) := dk_27 (dk_at dksJ12_putChar_0 10 rfl rfl)
theorem dJ12_putChar_11 : decode cJ12_putChar 11 = .ok (.aload_n 0, 1) := dk_42 (dk_at dksJ12_putChar_0 11 rfl rfl)
theorem dJ12_putChar_12 : decode cJ12_putChar 12 = .ok (.invokestatic 48, 3) := dk_184 0 48 (dk_at dksJ12_putChar_0 12 rfl rfl)
theorem dJ12_putChar_15 : decode cJ12_putChar 15 = .ok (.if_icmp .lt 13, 3) := dk_161 0 13 (dk_at dksJ12_putChar_0 15 rfl rfl)
theorem dJ12_putChar_18 : decode cJ12_putChar 18 = .ok (.new 52, 3) := dk_187 0 52 (dk_at dksJ12_putChar_0 18 rfl rfl)
theorem dJ12_putChar_21 : decode cJ12_putChar 21 = .ok (.dup, 1) := dk_89 (dk_at dksJ12_putChar_0 21 rfl rfl)
theorem dJ12_putChar_22 : decode cJ12_putChar 22 = .ok (.ldc 54, 2) := dk_18 54 (dk_at dksJ12_putChar_0 22 rfl rfl)
theorem dJ12_putChar_24 : decode cJ12_putChar 24 = .ok (.invokespecial 56, 3) := dk_183 0 56 (dk_at dksJ12_putChar_1 0 rfl rfl)
theorem dJ12_putChar_27 : decode cJ12_putChar 27 = .ok (.athrow, 1) := dk_191 (dk_at dksJ12_putChar_1 3 rfl rfl)
theorem dJ12_putChar_28 : decode cJ12_putChar 28 = .ok (.iload_n 1, 1) := dk_27 (dk_at dksJ12_putChar_1 4 rfl rfl)
theorem dJ12_putChar_29 : decode cJ12_putChar 29 = .ok (.iconst 1, 1) := dk_4 (dk_at dksJ12_putChar_1 5 rfl rfl)
theorem dJ12_putChar_30 : decode cJ12_putChar 30 = .ok (.ishl, 1) := dk_120 (dk_at dksJ12_putChar_1 6 rfl rfl)
theorem dJ12_putChar_31 : decode cJ12_putChar 31 = .ok (.istore_n 1, 1) := dk_60 (dk_at dksJ12_putChar_1 7 rfl rfl)
theorem dJ12_putChar_32 : decode cJ12_putChar 32 = .ok (.aload_n 0, 1) := dk_42 (dk_at dksJ12_putChar_1 8 rfl rfl)
theorem dJ12_putChar_33 : decode cJ12_putChar 33 = .ok (.iload_n 1, 1) := dk_27 (dk_at dksJ12_putChar_1 9 rfl rfl)
theorem dJ12_putChar_34 : decode cJ12_putChar 34 = .ok (.iinc 1 1, 3) := dk_132 1 1 (dk_at dksJ12_putChar_1 10 rfl rfl)
theorem dJ12_putChar_37 : decode cJ12_putChar 37 = .ok (.iload_n 2, 1) := dk_28 (dk_at dksJ12_putChar_1 13 rfl rfl)
theorem dJ12_putChar_38 : decode cJ12_putChar 38 = .ok (.getstatic 59, 3) := dk_178 0 59 (dk_at dksJ12_putChar_1 14 rfl rfl)
theorem dJ12_putChar_41 : decode cJ12_putChar 41 = .ok (.ishr, 1) := dk_122 (dk_at dksJ12_putChar_1 17 rfl rfl)
theorem dJ12_putChar_42 : decode cJ12_putChar 42 = .ok (.i2b, 1) := dk_145 (dk_at dksJ12_putChar_1 18 rfl rfl)
theorem dJ12_putChar_43 : decode cJ12_putChar 43 = .ok (.bastore, 1) := dk_84 (dk_at dksJ12_putChar_1 19 rfl rfl)
theorem dJ12_putChar_44 : decode cJ12_putChar 44 = .ok (.aload_n 0, 1) := dk_42 (dk_at dksJ12_putChar_1 20 rfl rfl)
theorem dJ12_putChar_45 : decode cJ12_putChar 45 = .ok (.iload_n 1, 1) := dk_27 (dk_at dksJ12_putChar_1 21 rfl rfl)
theorem dJ12_putChar_46 : decode cJ12_putChar 46 = .ok (.iload_n 2, 1) := dk_28 (dk_at dksJ12_putChar_1 22 rfl rfl)
theorem dJ12_putChar_47 : decode cJ12_putChar 47 = .ok (.getstatic 63, 3) := dk_178 0 63 (dk_at dksJ12_putChar_2 0 rfl rfl)
theorem dJ12_putChar_50 : decode cJ12_putChar 50 = .ok (.ishr, 1) := dk_122 (dk_at dksJ12_putChar_2 3 rfl rfl)
theorem dJ12_putChar_51 : decode cJ12_putChar 51 = .ok (.i2b, 1) := dk_145 (dk_at dksJ12_putChar_2 4 rfl rfl)
theorem dJ12_putChar_52 : decode cJ12_putChar 52 = .ok (.bastore, 1) := dk_84 (dk_at dksJ12_putChar_2 5 rfl rfl)
theorem dJ12_putChar_53 : decode cJ12_putChar 53 = .ok (.return_, 1) := dk_177 (dk_at dksJ12_putChar_2 6 rfl rfl)
abbrev cJ12_putCharSB : ByteArray := prog_36_method_71_code
def yJ12_putCharSB : MethodName := ⟨RJ12, "putCharSB", "([BII)V"⟩
def dkwJ12_putCharSB_0 : List UInt8 := [27, 42, 184, 0, 67, 42, 27, 28, 184, 0, 111, 177]
abbrev dktJ12_putCharSB_0 : List UInt8 := dkwJ12_putCharSB_0 ++ []
theorem dksJ12_putCharSB_0 : cJ12_putCharSB.data.toList.drop 0 = dktJ12_putCharSB_0 := by decide +kernel
theorem dJ12_putCharSB_0 : decode cJ12_putCharSB 0 = .ok (.iload_n 1, 1) := dk_27 (dk_at dksJ12_putCharSB_0 0 rfl rfl)
theorem dJ12_putCharSB_1 : decode cJ12_putCharSB 1 = .ok (.aload_n 0, 1) := dk_42 (dk_at dksJ12_putCharSB_0 1 rfl rfl)
theorem dJ12_putCharSB_2 : decode cJ12_putCharSB 2 = .ok (.invokestatic 67, 3) := dk_184 0 67 (dk_at dksJ12_putCharSB_0 2 rfl rfl)
theorem dJ12_putCharSB_5 : decode cJ12_putCharSB 5 = .ok (.aload_n 0, 1) := dk_42 (dk_at dksJ12_putCharSB_0 5 rfl rfl)
theorem dJ12_putCharSB_6 : decode cJ12_putCharSB 6 = .ok (.iload_n 1, 1) := dk_27 (dk_at dksJ12_putCharSB_0 6 rfl rfl)
theorem dJ12_putCharSB_7 : decode cJ12_putCharSB 7 = .ok (.iload_n 2, 1) := dk_28 (dk_at dksJ12_putCharSB_0 7 rfl rfl)
theorem dJ12_putCharSB_8 : decode cJ12_putCharSB 8 = .ok (.invokestatic 111, 3) := dk_184 0 111 (dk_at dksJ12_putCharSB_0 8 rfl rfl)
theorem dJ12_putCharSB_11 : decode cJ12_putCharSB 11 = .ok (.return_, 1) := dk_177 (dk_at dksJ12_putCharSB_0 11 rfl rfl)
abbrev cJ12_checkIndex : ByteArray := prog_36_method_91_code
def yJ12_checkIndex : MethodName := ⟨RJ12, "checkIndex", "(I[B)V"⟩
def dkwJ12_checkIndex_0 : List UInt8 := [26, 43, 184, 0, 48, 184, 1, 158, 177]
abbrev dktJ12_checkIndex_0 : List UInt8 := dkwJ12_checkIndex_0 ++ []
theorem dksJ12_checkIndex_0 : cJ12_checkIndex.data.toList.drop 0 = dktJ12_checkIndex_0 := by decide +kernel
theorem dJ12_checkIndex_0 : decode cJ12_checkIndex 0 = .ok (.iload_n 0, 1) := dk_26 (dk_at dksJ12_checkIndex_0 0 rfl rfl)
theorem dJ12_checkIndex_1 : decode cJ12_checkIndex 1 = .ok (.aload_n 1, 1) := dk_43 (dk_at dksJ12_checkIndex_0 1 rfl rfl)
theorem dJ12_checkIndex_2 : decode cJ12_checkIndex 2 = .ok (.invokestatic 48, 3) := dk_184 0 48 (dk_at dksJ12_checkIndex_0 2 rfl rfl)
theorem dJ12_checkIndex_5 : decode cJ12_checkIndex 5 = .ok (.invokestatic 414, 3) := dk_184 1 158 (dk_at dksJ12_checkIndex_0 5 rfl rfl)
theorem dJ12_checkIndex_8 : decode cJ12_checkIndex 8 = .ok (.return_, 1) := dk_177 (dk_at dksJ12_checkIndex_0 8 rfl rfl)
abbrev cJ12_getChars : ByteArray := prog_36_method_77_code
def yJ12_getChars : MethodName := ⟨RJ12, "getChars", "(III[B)I"⟩
def dkwJ12_getChars_1 : List UInt8 := [159, 0, 11, 187, 0, 52, 89, 183, 0, 66, 191, 21, 4, 172]
abbrev dktJ12_getChars_1 : List UInt8 := dkwJ12_getChars_1 ++ []
def dkwJ12_getChars_0 : List UInt8 := [27, 28, 45, 184, 0, 96, 26, 28, 45, 184, 1, 137, 54, 4, 178, 0, 44, 154, 0, 17, 27, 21, 4]
abbrev dktJ12_getChars_0 : List UInt8 := dkwJ12_getChars_0 ++ dktJ12_getChars_1
theorem dksJ12_getChars_0 : cJ12_getChars.data.toList.drop 0 = dktJ12_getChars_0 := by decide +kernel
theorem dksJ12_getChars_1 : cJ12_getChars.data.toList.drop 23 = dktJ12_getChars_1 := dk_seg dksJ12_getChars_0 23 rfl rfl
theorem dJ12_getChars_0 : decode cJ12_getChars 0 = .ok (.iload_n 1, 1) := dk_27 (dk_at dksJ12_getChars_0 0 rfl rfl)
theorem dJ12_getChars_1 : decode cJ12_getChars 1 = .ok (.iload_n 2, 1) := dk_28 (dk_at dksJ12_getChars_0 1 rfl rfl)
theorem dJ12_getChars_2 : decode cJ12_getChars 2 = .ok (.aload_n 3, 1) := dk_45 (dk_at dksJ12_getChars_0 2 rfl rfl)
theorem dJ12_getChars_3 : decode cJ12_getChars 3 = .ok (.invokestatic 96, 3) := dk_184 0 96 (dk_at dksJ12_getChars_0 3 rfl rfl)
theorem dJ12_getChars_6 : decode cJ12_getChars 6 = .ok (.iload_n 0, 1) := dk_26 (dk_at dksJ12_getChars_0 6 rfl rfl)
theorem dJ12_getChars_7 : decode cJ12_getChars 7 = .ok (.iload_n 2, 1) := dk_28 (dk_at dksJ12_getChars_0 7 rfl rfl)
theorem dJ12_getChars_8 : decode cJ12_getChars 8 = .ok (.aload_n 3, 1) := dk_45 (dk_at dksJ12_getChars_0 8 rfl rfl)
theorem dJ12_getChars_9 : decode cJ12_getChars 9 = .ok (.invokestatic 393, 3) := dk_184 1 137 (dk_at dksJ12_getChars_0 9 rfl rfl)
theorem dJ12_getChars_12 : decode cJ12_getChars 12 = .ok (.istore 4, 2) := dk_54 4 (dk_at dksJ12_getChars_0 12 rfl rfl)
theorem dJ12_getChars_14 : decode cJ12_getChars 14 = .ok (.getstatic 44, 3) := dk_178 0 44 (dk_at dksJ12_getChars_0 14 rfl rfl)
theorem dJ12_getChars_17 : decode cJ12_getChars 17 = .ok (.ifCond .ne 17, 3) := dk_154 0 17 (dk_at dksJ12_getChars_0 17 rfl rfl)
theorem dJ12_getChars_20 : decode cJ12_getChars 20 = .ok (.iload_n 1, 1) := dk_27 (dk_at dksJ12_getChars_0 20 rfl rfl)
theorem dJ12_getChars_21 : decode cJ12_getChars 21 = .ok (.iload 4, 2) := dk_21 4 (dk_at dksJ12_getChars_0 21 rfl rfl)
theorem dJ12_getChars_23 : decode cJ12_getChars 23 = .ok (.if_icmp .eq 11, 3) := dk_159 0 11 (dk_at dksJ12_getChars_1 0 rfl rfl)
theorem dJ12_getChars_26 : decode cJ12_getChars 26 = .ok (.new 52, 3) := dk_187 0 52 (dk_at dksJ12_getChars_1 3 rfl rfl)
theorem dJ12_getChars_29 : decode cJ12_getChars 29 = .ok (.dup, 1) := dk_89 (dk_at dksJ12_getChars_1 6 rfl rfl)
theorem dJ12_getChars_30 : decode cJ12_getChars 30 = .ok (.invokespecial 66, 3) := dk_183 0 66 (dk_at dksJ12_getChars_1 7 rfl rfl)
theorem dJ12_getChars_33 : decode cJ12_getChars 33 = .ok (.athrow, 1) := dk_191 (dk_at dksJ12_getChars_1 10 rfl rfl)
theorem dJ12_getChars_34 : decode cJ12_getChars 34 = .ok (.iload 4, 2) := dk_21 4 (dk_at dksJ12_getChars_1 11 rfl rfl)
theorem dJ12_getChars_36 : decode cJ12_getChars 36 = .ok (.ireturn, 1) := dk_172 (dk_at dksJ12_getChars_1 13 rfl rfl)
abbrev cJ12_checkBoundsBeginEnd : ByteArray := prog_36_method_93_code
def yJ12_checkBoundsBeginEnd : MethodName := ⟨RJ12, "checkBoundsBeginEnd", "(II[B)V"⟩
def dkwJ12_checkBoundsBeginEnd_0 : List UInt8 := [26, 27, 44, 184, 0, 48, 184, 0, 241, 177]
abbrev dktJ12_checkBoundsBeginEnd_0 : List UInt8 := dkwJ12_checkBoundsBeginEnd_0 ++ []
theorem dksJ12_checkBoundsBeginEnd_0 : cJ12_checkBoundsBeginEnd.data.toList.drop 0 = dktJ12_checkBoundsBeginEnd_0 := by decide +kernel
theorem dJ12_checkBoundsBeginEnd_0 : decode cJ12_checkBoundsBeginEnd 0 = .ok (.iload_n 0, 1) := dk_26 (dk_at dksJ12_checkBoundsBeginEnd_0 0 rfl rfl)
theorem dJ12_checkBoundsBeginEnd_1 : decode cJ12_checkBoundsBeginEnd 1 = .ok (.iload_n 1, 1) := dk_27 (dk_at dksJ12_checkBoundsBeginEnd_0 1 rfl rfl)
theorem dJ12_checkBoundsBeginEnd_2 : decode cJ12_checkBoundsBeginEnd 2 = .ok (.aload_n 2, 1) := dk_44 (dk_at dksJ12_checkBoundsBeginEnd_0 2 rfl rfl)
theorem dJ12_checkBoundsBeginEnd_3 : decode cJ12_checkBoundsBeginEnd 3 = .ok (.invokestatic 48, 3) := dk_184 0 48 (dk_at dksJ12_checkBoundsBeginEnd_0 3 rfl rfl)
theorem dJ12_checkBoundsBeginEnd_6 : decode cJ12_checkBoundsBeginEnd 6 = .ok (.invokestatic 241, 3) := dk_184 0 241 (dk_at dksJ12_checkBoundsBeginEnd_0 6 rfl rfl)
theorem dJ12_checkBoundsBeginEnd_9 : decode cJ12_checkBoundsBeginEnd 9 = .ok (.return_, 1) := dk_177 (dk_at dksJ12_checkBoundsBeginEnd_0 9 rfl rfl)
abbrev cJ12_getChars_2 : ByteArray := prog_36_method_89_code
def yJ12_getChars_2 : MethodName := ⟨RJ12, "getChars", "(II[B)I"⟩
def dkwJ12_getChars_2_5 : List UInt8 := [132, 5, 255, 21, 5, 16, 45, 184, 0, 111, 21, 5, 172]
abbrev dktJ12_getChars_2_5 : List UInt8 := dkwJ12_getChars_2_5 ++ []
def dkwJ12_getChars_2_4 : List UInt8 := [162, 0, 18, 44, 132, 5, 255, 21, 5, 178, 1, 151, 26, 116, 51, 184, 0, 111, 21, 6, 153, 0, 14, 44]
abbrev dktJ12_getChars_2_4 : List UInt8 := dkwJ12_getChars_2_4 ++ dktJ12_getChars_2_5
def dkwJ12_getChars_2_3 : List UInt8 := [184, 0, 111, 167, 255, 205, 44, 132, 5, 255, 21, 5, 178, 1, 147, 26, 116, 51, 184, 0, 111, 26, 16, 247]
abbrev dktJ12_getChars_2_3 : List UInt8 := dkwJ12_getChars_2_3 ++ dktJ12_getChars_2_4
def dkwJ12_getChars_2_2 : List UInt8 := [21, 5, 178, 1, 147, 21, 4, 51, 184, 0, 111, 44, 132, 5, 255, 21, 5, 178, 1, 151, 21, 4, 51]
abbrev dktJ12_getChars_2_2 : List UInt8 := dkwJ12_getChars_2_2 ++ dktJ12_getChars_2_3
def dkwJ12_getChars_2_1 : List UInt8 := [16, 156, 163, 0, 51, 26, 16, 100, 108, 62, 29, 16, 100, 104, 26, 100, 54, 4, 29, 59, 44, 132, 5, 255]
abbrev dktJ12_getChars_2_1 : List UInt8 := dkwJ12_getChars_2_1 ++ dktJ12_getChars_2_2
def dkwJ12_getChars_2_0 : List UInt8 := [27, 54, 5, 26, 156, 0, 7, 4, 167, 0, 4, 3, 54, 6, 21, 6, 154, 0, 6, 26, 116, 59, 26]
abbrev dktJ12_getChars_2_0 : List UInt8 := dkwJ12_getChars_2_0 ++ dktJ12_getChars_2_1
theorem dksJ12_getChars_2_0 : cJ12_getChars_2.data.toList.drop 0 = dktJ12_getChars_2_0 := by decide +kernel
theorem dksJ12_getChars_2_1 : cJ12_getChars_2.data.toList.drop 23 = dktJ12_getChars_2_1 := dk_seg dksJ12_getChars_2_0 23 rfl rfl
theorem dksJ12_getChars_2_2 : cJ12_getChars_2.data.toList.drop 47 = dktJ12_getChars_2_2 := dk_seg dksJ12_getChars_2_1 24 rfl rfl
theorem dksJ12_getChars_2_3 : cJ12_getChars_2.data.toList.drop 70 = dktJ12_getChars_2_3 := dk_seg dksJ12_getChars_2_2 23 rfl rfl
theorem dksJ12_getChars_2_4 : cJ12_getChars_2.data.toList.drop 94 = dktJ12_getChars_2_4 := dk_seg dksJ12_getChars_2_3 24 rfl rfl
theorem dksJ12_getChars_2_5 : cJ12_getChars_2.data.toList.drop 118 = dktJ12_getChars_2_5 := dk_seg dksJ12_getChars_2_4 24 rfl rfl
theorem dJ12_getChars_2_0 : decode cJ12_getChars_2 0 = .ok (.iload_n 1, 1) := dk_27 (dk_at dksJ12_getChars_2_0 0 rfl rfl)
theorem dJ12_getChars_2_1 : decode cJ12_getChars_2 1 = .ok (.istore 5, 2) := dk_54 5 (dk_at dksJ12_getChars_2_0 1 rfl rfl)
theorem dJ12_getChars_2_3 : decode cJ12_getChars_2 3 = .ok (.iload_n 0, 1) := dk_26 (dk_at dksJ12_getChars_2_0 3 rfl rfl)
theorem dJ12_getChars_2_4 : decode cJ12_getChars_2 4 = .ok (.ifCond .ge 7, 3) := dk_156 0 7 (dk_at dksJ12_getChars_2_0 4 rfl rfl)
theorem dJ12_getChars_2_7 : decode cJ12_getChars_2 7 = .ok (.iconst 1, 1) := dk_4 (dk_at dksJ12_getChars_2_0 7 rfl rfl)
theorem dJ12_getChars_2_8 : decode cJ12_getChars_2 8 = .ok (.goto 4, 3) := dk_167 0 4 (dk_at dksJ12_getChars_2_0 8 rfl rfl)
theorem dJ12_getChars_2_11 : decode cJ12_getChars_2 11 = .ok (.iconst 0, 1) := dk_3 (dk_at dksJ12_getChars_2_0 11 rfl rfl)
theorem dJ12_getChars_2_12 : decode cJ12_getChars_2 12 = .ok (.istore 6, 2) := dk_54 6 (dk_at dksJ12_getChars_2_0 12 rfl rfl)
theorem dJ12_getChars_2_14 : decode cJ12_getChars_2 14 = .ok (.iload 6, 2) := dk_21 6 (dk_at dksJ12_getChars_2_0 14 rfl rfl)
theorem dJ12_getChars_2_16 : decode cJ12_getChars_2 16 = .ok (.ifCond .ne 6, 3) := dk_154 0 6 (dk_at dksJ12_getChars_2_0 16 rfl rfl)
theorem dJ12_getChars_2_19 : decode cJ12_getChars_2 19 = .ok (.iload_n 0, 1) := dk_26 (dk_at dksJ12_getChars_2_0 19 rfl rfl)
theorem dJ12_getChars_2_20 : decode cJ12_getChars_2 20 = .ok (.ineg, 1) := dk_116 (dk_at dksJ12_getChars_2_0 20 rfl rfl)
theorem dJ12_getChars_2_21 : decode cJ12_getChars_2 21 = .ok (.istore_n 0, 1) := dk_59 (dk_at dksJ12_getChars_2_0 21 rfl rfl)
theorem dJ12_getChars_2_22 : decode cJ12_getChars_2 22 = .ok (.iload_n 0, 1) := dk_26 (dk_at dksJ12_getChars_2_0 22 rfl rfl)
theorem dJ12_getChars_2_23 : decode cJ12_getChars_2 23 = .ok (.bipush (-100), 2) := dk_16 156 (dk_at dksJ12_getChars_2_1 0 rfl rfl)
theorem dJ12_getChars_2_25 : decode cJ12_getChars_2 25 = .ok (.if_icmp .gt 51, 3) := dk_163 0 51 (dk_at dksJ12_getChars_2_1 2 rfl rfl)
theorem dJ12_getChars_2_28 : decode cJ12_getChars_2 28 = .ok (.iload_n 0, 1) := dk_26 (dk_at dksJ12_getChars_2_1 5 rfl rfl)
theorem dJ12_getChars_2_29 : decode cJ12_getChars_2 29 = .ok (.bipush 100, 2) := dk_16 100 (dk_at dksJ12_getChars_2_1 6 rfl rfl)
theorem dJ12_getChars_2_31 : decode cJ12_getChars_2 31 = .ok (.idiv, 1) := dk_108 (dk_at dksJ12_getChars_2_1 8 rfl rfl)
theorem dJ12_getChars_2_32 : decode cJ12_getChars_2 32 = .ok (.istore_n 3, 1) := dk_62 (dk_at dksJ12_getChars_2_1 9 rfl rfl)
theorem dJ12_getChars_2_33 : decode cJ12_getChars_2 33 = .ok (.iload_n 3, 1) := dk_29 (dk_at dksJ12_getChars_2_1 10 rfl rfl)
theorem dJ12_getChars_2_34 : decode cJ12_getChars_2 34 = .ok (.bipush 100, 2) := dk_16 100 (dk_at dksJ12_getChars_2_1 11 rfl rfl)
theorem dJ12_getChars_2_36 : decode cJ12_getChars_2 36 = .ok (.imul, 1) := dk_104 (dk_at dksJ12_getChars_2_1 13 rfl rfl)
theorem dJ12_getChars_2_37 : decode cJ12_getChars_2 37 = .ok (.iload_n 0, 1) := dk_26 (dk_at dksJ12_getChars_2_1 14 rfl rfl)
theorem dJ12_getChars_2_38 : decode cJ12_getChars_2 38 = .ok (.isub, 1) := dk_100 (dk_at dksJ12_getChars_2_1 15 rfl rfl)
theorem dJ12_getChars_2_39 : decode cJ12_getChars_2 39 = .ok (.istore 4, 2) := dk_54 4 (dk_at dksJ12_getChars_2_1 16 rfl rfl)
theorem dJ12_getChars_2_41 : decode cJ12_getChars_2 41 = .ok (.iload_n 3, 1) := dk_29 (dk_at dksJ12_getChars_2_1 18 rfl rfl)
theorem dJ12_getChars_2_42 : decode cJ12_getChars_2 42 = .ok (.istore_n 0, 1) := dk_59 (dk_at dksJ12_getChars_2_1 19 rfl rfl)
theorem dJ12_getChars_2_43 : decode cJ12_getChars_2 43 = .ok (.aload_n 2, 1) := dk_44 (dk_at dksJ12_getChars_2_1 20 rfl rfl)
theorem dJ12_getChars_2_44 : decode cJ12_getChars_2 44 = .ok (.iinc 5 (-1), 3) := dk_132 5 255 (dk_at dksJ12_getChars_2_1 21 rfl rfl)
theorem dJ12_getChars_2_47 : decode cJ12_getChars_2 47 = .ok (.iload 5, 2) := dk_21 5 (dk_at dksJ12_getChars_2_2 0 rfl rfl)
theorem dJ12_getChars_2_49 : decode cJ12_getChars_2 49 = .ok (.getstatic 403, 3) := dk_178 1 147 (dk_at dksJ12_getChars_2_2 2 rfl rfl)
theorem dJ12_getChars_2_52 : decode cJ12_getChars_2 52 = .ok (.iload 4, 2) := dk_21 4 (dk_at dksJ12_getChars_2_2 5 rfl rfl)
theorem dJ12_getChars_2_54 : decode cJ12_getChars_2 54 = .ok (.baload, 1) := dk_51 (dk_at dksJ12_getChars_2_2 7 rfl rfl)
theorem dJ12_getChars_2_55 : decode cJ12_getChars_2 55 = .ok (.invokestatic 111, 3) := dk_184 0 111 (dk_at dksJ12_getChars_2_2 8 rfl rfl)
theorem dJ12_getChars_2_58 : decode cJ12_getChars_2 58 = .ok (.aload_n 2, 1) := dk_44 (dk_at dksJ12_getChars_2_2 11 rfl rfl)
theorem dJ12_getChars_2_59 : decode cJ12_getChars_2 59 = .ok (.iinc 5 (-1), 3) := dk_132 5 255 (dk_at dksJ12_getChars_2_2 12 rfl rfl)
theorem dJ12_getChars_2_62 : decode cJ12_getChars_2 62 = .ok (.iload 5, 2) := dk_21 5 (dk_at dksJ12_getChars_2_2 15 rfl rfl)
theorem dJ12_getChars_2_64 : decode cJ12_getChars_2 64 = .ok (.getstatic 407, 3) := dk_178 1 151 (dk_at dksJ12_getChars_2_2 17 rfl rfl)
theorem dJ12_getChars_2_67 : decode cJ12_getChars_2 67 = .ok (.iload 4, 2) := dk_21 4 (dk_at dksJ12_getChars_2_2 20 rfl rfl)
theorem dJ12_getChars_2_69 : decode cJ12_getChars_2 69 = .ok (.baload, 1) := dk_51 (dk_at dksJ12_getChars_2_2 22 rfl rfl)
theorem dJ12_getChars_2_70 : decode cJ12_getChars_2 70 = .ok (.invokestatic 111, 3) := dk_184 0 111 (dk_at dksJ12_getChars_2_3 0 rfl rfl)
theorem dJ12_getChars_2_73 : decode cJ12_getChars_2 73 = .ok (.goto (-51), 3) := dk_167 255 205 (dk_at dksJ12_getChars_2_3 3 rfl rfl)
theorem dJ12_getChars_2_76 : decode cJ12_getChars_2 76 = .ok (.aload_n 2, 1) := dk_44 (dk_at dksJ12_getChars_2_3 6 rfl rfl)
theorem dJ12_getChars_2_77 : decode cJ12_getChars_2 77 = .ok (.iinc 5 (-1), 3) := dk_132 5 255 (dk_at dksJ12_getChars_2_3 7 rfl rfl)
theorem dJ12_getChars_2_80 : decode cJ12_getChars_2 80 = .ok (.iload 5, 2) := dk_21 5 (dk_at dksJ12_getChars_2_3 10 rfl rfl)
theorem dJ12_getChars_2_82 : decode cJ12_getChars_2 82 = .ok (.getstatic 403, 3) := dk_178 1 147 (dk_at dksJ12_getChars_2_3 12 rfl rfl)
theorem dJ12_getChars_2_85 : decode cJ12_getChars_2 85 = .ok (.iload_n 0, 1) := dk_26 (dk_at dksJ12_getChars_2_3 15 rfl rfl)
theorem dJ12_getChars_2_86 : decode cJ12_getChars_2 86 = .ok (.ineg, 1) := dk_116 (dk_at dksJ12_getChars_2_3 16 rfl rfl)
theorem dJ12_getChars_2_87 : decode cJ12_getChars_2 87 = .ok (.baload, 1) := dk_51 (dk_at dksJ12_getChars_2_3 17 rfl rfl)
theorem dJ12_getChars_2_88 : decode cJ12_getChars_2 88 = .ok (.invokestatic 111, 3) := dk_184 0 111 (dk_at dksJ12_getChars_2_3 18 rfl rfl)
theorem dJ12_getChars_2_91 : decode cJ12_getChars_2 91 = .ok (.iload_n 0, 1) := dk_26 (dk_at dksJ12_getChars_2_3 21 rfl rfl)
theorem dJ12_getChars_2_92 : decode cJ12_getChars_2 92 = .ok (.bipush (-9), 2) := dk_16 247 (dk_at dksJ12_getChars_2_3 22 rfl rfl)
theorem dJ12_getChars_2_94 : decode cJ12_getChars_2 94 = .ok (.if_icmp .ge 18, 3) := dk_162 0 18 (dk_at dksJ12_getChars_2_4 0 rfl rfl)
theorem dJ12_getChars_2_97 : decode cJ12_getChars_2 97 = .ok (.aload_n 2, 1) := dk_44 (dk_at dksJ12_getChars_2_4 3 rfl rfl)
theorem dJ12_getChars_2_98 : decode cJ12_getChars_2 98 = .ok (.iinc 5 (-1), 3) := dk_132 5 255 (dk_at dksJ12_getChars_2_4 4 rfl rfl)
theorem dJ12_getChars_2_101 : decode cJ12_getChars_2 101 = .ok (.iload 5, 2) := dk_21 5 (dk_at dksJ12_getChars_2_4 7 rfl rfl)
theorem dJ12_getChars_2_103 : decode cJ12_getChars_2 103 = .ok (.getstatic 407, 3) := dk_178 1 151 (dk_at dksJ12_getChars_2_4 9 rfl rfl)
theorem dJ12_getChars_2_106 : decode cJ12_getChars_2 106 = .ok (.iload_n 0, 1) := dk_26 (dk_at dksJ12_getChars_2_4 12 rfl rfl)
theorem dJ12_getChars_2_107 : decode cJ12_getChars_2 107 = .ok (.ineg, 1) := dk_116 (dk_at dksJ12_getChars_2_4 13 rfl rfl)
theorem dJ12_getChars_2_108 : decode cJ12_getChars_2 108 = .ok (.baload, 1) := dk_51 (dk_at dksJ12_getChars_2_4 14 rfl rfl)
theorem dJ12_getChars_2_109 : decode cJ12_getChars_2 109 = .ok (.invokestatic 111, 3) := dk_184 0 111 (dk_at dksJ12_getChars_2_4 15 rfl rfl)
theorem dJ12_getChars_2_112 : decode cJ12_getChars_2 112 = .ok (.iload 6, 2) := dk_21 6 (dk_at dksJ12_getChars_2_4 18 rfl rfl)
theorem dJ12_getChars_2_114 : decode cJ12_getChars_2 114 = .ok (.ifCond .eq 14, 3) := dk_153 0 14 (dk_at dksJ12_getChars_2_4 20 rfl rfl)
theorem dJ12_getChars_2_117 : decode cJ12_getChars_2 117 = .ok (.aload_n 2, 1) := dk_44 (dk_at dksJ12_getChars_2_4 23 rfl rfl)
theorem dJ12_getChars_2_118 : decode cJ12_getChars_2 118 = .ok (.iinc 5 (-1), 3) := dk_132 5 255 (dk_at dksJ12_getChars_2_5 0 rfl rfl)
theorem dJ12_getChars_2_121 : decode cJ12_getChars_2 121 = .ok (.iload 5, 2) := dk_21 5 (dk_at dksJ12_getChars_2_5 3 rfl rfl)
theorem dJ12_getChars_2_123 : decode cJ12_getChars_2 123 = .ok (.bipush 45, 2) := dk_16 45 (dk_at dksJ12_getChars_2_5 5 rfl rfl)
theorem dJ12_getChars_2_125 : decode cJ12_getChars_2 125 = .ok (.invokestatic 111, 3) := dk_184 0 111 (dk_at dksJ12_getChars_2_5 7 rfl rfl)
theorem dJ12_getChars_2_128 : decode cJ12_getChars_2 128 = .ok (.iload 5, 2) := dk_21 5 (dk_at dksJ12_getChars_2_5 10 rfl rfl)
theorem dJ12_getChars_2_130 : decode cJ12_getChars_2 130 = .ok (.ireturn, 1) := dk_172 (dk_at dksJ12_getChars_2_5 12 rfl rfl)
abbrev cJ12_putCharsAt : ByteArray := prog_36_method_81_code
def yJ12_putCharsAt : MethodName := ⟨RJ12, "putCharsAt", "([BICCCC)I"⟩
def dkwJ12_putCharsAt_3 : List UInt8 := [21, 6, 172]
abbrev dktJ12_putCharsAt_3 : List UInt8 := dkwJ12_putCharsAt_3 ++ []
def dkwJ12_putCharsAt_2 : List UInt8 := [184, 0, 111, 178, 0, 44, 154, 0, 17, 27, 21, 6, 159, 0, 11, 187, 0, 52, 89, 183, 0, 66, 191]
abbrev dktJ12_putCharsAt_2 : List UInt8 := dkwJ12_putCharsAt_2 ++ dktJ12_putCharsAt_3
def dkwJ12_putCharsAt_1 : List UInt8 := [132, 1, 1, 29, 184, 0, 111, 42, 27, 132, 1, 1, 21, 4, 184, 0, 111, 42, 27, 132, 1, 1, 21, 5]
abbrev dktJ12_putCharsAt_1 : List UInt8 := dkwJ12_putCharsAt_1 ++ dktJ12_putCharsAt_2
def dkwJ12_putCharsAt_0 : List UInt8 := [27, 7, 96, 54, 6, 27, 21, 6, 42, 184, 0, 96, 42, 27, 132, 1, 1, 28, 184, 0, 111, 42, 27]
abbrev dktJ12_putCharsAt_0 : List UInt8 := dkwJ12_putCharsAt_0 ++ dktJ12_putCharsAt_1
theorem dksJ12_putCharsAt_0 : cJ12_putCharsAt.data.toList.drop 0 = dktJ12_putCharsAt_0 := by decide +kernel
theorem dksJ12_putCharsAt_1 : cJ12_putCharsAt.data.toList.drop 23 = dktJ12_putCharsAt_1 := dk_seg dksJ12_putCharsAt_0 23 rfl rfl
theorem dksJ12_putCharsAt_2 : cJ12_putCharsAt.data.toList.drop 47 = dktJ12_putCharsAt_2 := dk_seg dksJ12_putCharsAt_1 24 rfl rfl
theorem dksJ12_putCharsAt_3 : cJ12_putCharsAt.data.toList.drop 70 = dktJ12_putCharsAt_3 := dk_seg dksJ12_putCharsAt_2 23 rfl rfl
theorem dJ12_putCharsAt_0 : decode cJ12_putCharsAt 0 = .ok (.iload_n 1, 1) := dk_27 (dk_at dksJ12_putCharsAt_0 0 rfl rfl)
theorem dJ12_putCharsAt_1 : decode cJ12_putCharsAt 1 = .ok (.iconst 4, 1) := dk_7 (dk_at dksJ12_putCharsAt_0 1 rfl rfl)
theorem dJ12_putCharsAt_2 : decode cJ12_putCharsAt 2 = .ok (.iadd, 1) := dk_96 (dk_at dksJ12_putCharsAt_0 2 rfl rfl)
theorem dJ12_putCharsAt_3 : decode cJ12_putCharsAt 3 = .ok (.istore 6, 2) := dk_54 6 (dk_at dksJ12_putCharsAt_0 3 rfl rfl)
theorem dJ12_putCharsAt_5 : decode cJ12_putCharsAt 5 = .ok (.iload_n 1, 1) := dk_27 (dk_at dksJ12_putCharsAt_0 5 rfl rfl)
theorem dJ12_putCharsAt_6 : decode cJ12_putCharsAt 6 = .ok (.iload 6, 2) := dk_21 6 (dk_at dksJ12_putCharsAt_0 6 rfl rfl)
theorem dJ12_putCharsAt_8 : decode cJ12_putCharsAt 8 = .ok (.aload_n 0, 1) := dk_42 (dk_at dksJ12_putCharsAt_0 8 rfl rfl)
theorem dJ12_putCharsAt_9 : decode cJ12_putCharsAt 9 = .ok (.invokestatic 96, 3) := dk_184 0 96 (dk_at dksJ12_putCharsAt_0 9 rfl rfl)
theorem dJ12_putCharsAt_12 : decode cJ12_putCharsAt 12 = .ok (.aload_n 0, 1) := dk_42 (dk_at dksJ12_putCharsAt_0 12 rfl rfl)
theorem dJ12_putCharsAt_13 : decode cJ12_putCharsAt 13 = .ok (.iload_n 1, 1) := dk_27 (dk_at dksJ12_putCharsAt_0 13 rfl rfl)
theorem dJ12_putCharsAt_14 : decode cJ12_putCharsAt 14 = .ok (.iinc 1 1, 3) := dk_132 1 1 (dk_at dksJ12_putCharsAt_0 14 rfl rfl)
theorem dJ12_putCharsAt_17 : decode cJ12_putCharsAt 17 = .ok (.iload_n 2, 1) := dk_28 (dk_at dksJ12_putCharsAt_0 17 rfl rfl)
theorem dJ12_putCharsAt_18 : decode cJ12_putCharsAt 18 = .ok (.invokestatic 111, 3) := dk_184 0 111 (dk_at dksJ12_putCharsAt_0 18 rfl rfl)
theorem dJ12_putCharsAt_21 : decode cJ12_putCharsAt 21 = .ok (.aload_n 0, 1) := dk_42 (dk_at dksJ12_putCharsAt_0 21 rfl rfl)
theorem dJ12_putCharsAt_22 : decode cJ12_putCharsAt 22 = .ok (.iload_n 1, 1) := dk_27 (dk_at dksJ12_putCharsAt_0 22 rfl rfl)
theorem dJ12_putCharsAt_23 : decode cJ12_putCharsAt 23 = .ok (.iinc 1 1, 3) := dk_132 1 1 (dk_at dksJ12_putCharsAt_1 0 rfl rfl)
theorem dJ12_putCharsAt_26 : decode cJ12_putCharsAt 26 = .ok (.iload_n 3, 1) := dk_29 (dk_at dksJ12_putCharsAt_1 3 rfl rfl)
theorem dJ12_putCharsAt_27 : decode cJ12_putCharsAt 27 = .ok (.invokestatic 111, 3) := dk_184 0 111 (dk_at dksJ12_putCharsAt_1 4 rfl rfl)
theorem dJ12_putCharsAt_30 : decode cJ12_putCharsAt 30 = .ok (.aload_n 0, 1) := dk_42 (dk_at dksJ12_putCharsAt_1 7 rfl rfl)
theorem dJ12_putCharsAt_31 : decode cJ12_putCharsAt 31 = .ok (.iload_n 1, 1) := dk_27 (dk_at dksJ12_putCharsAt_1 8 rfl rfl)
theorem dJ12_putCharsAt_32 : decode cJ12_putCharsAt 32 = .ok (.iinc 1 1, 3) := dk_132 1 1 (dk_at dksJ12_putCharsAt_1 9 rfl rfl)
theorem dJ12_putCharsAt_35 : decode cJ12_putCharsAt 35 = .ok (.iload 4, 2) := dk_21 4 (dk_at dksJ12_putCharsAt_1 12 rfl rfl)
theorem dJ12_putCharsAt_37 : decode cJ12_putCharsAt 37 = .ok (.invokestatic 111, 3) := dk_184 0 111 (dk_at dksJ12_putCharsAt_1 14 rfl rfl)
theorem dJ12_putCharsAt_40 : decode cJ12_putCharsAt 40 = .ok (.aload_n 0, 1) := dk_42 (dk_at dksJ12_putCharsAt_1 17 rfl rfl)
theorem dJ12_putCharsAt_41 : decode cJ12_putCharsAt 41 = .ok (.iload_n 1, 1) := dk_27 (dk_at dksJ12_putCharsAt_1 18 rfl rfl)
theorem dJ12_putCharsAt_42 : decode cJ12_putCharsAt 42 = .ok (.iinc 1 1, 3) := dk_132 1 1 (dk_at dksJ12_putCharsAt_1 19 rfl rfl)
theorem dJ12_putCharsAt_45 : decode cJ12_putCharsAt 45 = .ok (.iload 5, 2) := dk_21 5 (dk_at dksJ12_putCharsAt_1 22 rfl rfl)
theorem dJ12_putCharsAt_47 : decode cJ12_putCharsAt 47 = .ok (.invokestatic 111, 3) := dk_184 0 111 (dk_at dksJ12_putCharsAt_2 0 rfl rfl)
theorem dJ12_putCharsAt_50 : decode cJ12_putCharsAt 50 = .ok (.getstatic 44, 3) := dk_178 0 44 (dk_at dksJ12_putCharsAt_2 3 rfl rfl)
theorem dJ12_putCharsAt_53 : decode cJ12_putCharsAt 53 = .ok (.ifCond .ne 17, 3) := dk_154 0 17 (dk_at dksJ12_putCharsAt_2 6 rfl rfl)
theorem dJ12_putCharsAt_56 : decode cJ12_putCharsAt 56 = .ok (.iload_n 1, 1) := dk_27 (dk_at dksJ12_putCharsAt_2 9 rfl rfl)
theorem dJ12_putCharsAt_57 : decode cJ12_putCharsAt 57 = .ok (.iload 6, 2) := dk_21 6 (dk_at dksJ12_putCharsAt_2 10 rfl rfl)
theorem dJ12_putCharsAt_59 : decode cJ12_putCharsAt 59 = .ok (.if_icmp .eq 11, 3) := dk_159 0 11 (dk_at dksJ12_putCharsAt_2 12 rfl rfl)
theorem dJ12_putCharsAt_62 : decode cJ12_putCharsAt 62 = .ok (.new 52, 3) := dk_187 0 52 (dk_at dksJ12_putCharsAt_2 15 rfl rfl)
theorem dJ12_putCharsAt_65 : decode cJ12_putCharsAt 65 = .ok (.dup, 1) := dk_89 (dk_at dksJ12_putCharsAt_2 18 rfl rfl)
theorem dJ12_putCharsAt_66 : decode cJ12_putCharsAt 66 = .ok (.invokespecial 66, 3) := dk_183 0 66 (dk_at dksJ12_putCharsAt_2 19 rfl rfl)
theorem dJ12_putCharsAt_69 : decode cJ12_putCharsAt 69 = .ok (.athrow, 1) := dk_191 (dk_at dksJ12_putCharsAt_2 22 rfl rfl)
theorem dJ12_putCharsAt_70 : decode cJ12_putCharsAt 70 = .ok (.iload 6, 2) := dk_21 6 (dk_at dksJ12_putCharsAt_3 0 rfl rfl)
theorem dJ12_putCharsAt_72 : decode cJ12_putCharsAt 72 = .ok (.ireturn, 1) := dk_172 (dk_at dksJ12_putCharsAt_3 2 rfl rfl)
abbrev cJ12_compress : ByteArray := prog_36_method_17_code
def yJ12_compress : MethodName := ⟨RJ12, "compress", "([BII)[B"⟩
def dkwJ12_compress_2 : List UInt8 := [25, 5, 3, 45, 3, 28, 184, 0, 123, 28, 159, 0, 6, 25, 5, 176, 45, 176]
abbrev dktJ12_compress_2 : List UInt8 := dkwJ12_compress_2 ++ []
def dkwJ12_compress_1 : List UInt8 := [27, 28, 96, 184, 0, 11, 184, 0, 126, 58, 5, 25, 5, 21, 4, 184, 0, 71, 17, 0, 255, 163, 0, 16]
abbrev dktJ12_compress_1 : List UInt8 := dkwJ12_compress_1 ++ dktJ12_compress_2
def dkwJ12_compress_0 : List UInt8 := [28, 188, 8, 78, 42, 27, 45, 3, 28, 184, 0, 123, 54, 4, 21, 4, 28, 159, 0, 47, 42, 27, 4, 120]
abbrev dktJ12_compress_0 : List UInt8 := dkwJ12_compress_0 ++ dktJ12_compress_1
theorem dksJ12_compress_0 : cJ12_compress.data.toList.drop 0 = dktJ12_compress_0 := by decide +kernel
theorem dksJ12_compress_1 : cJ12_compress.data.toList.drop 24 = dktJ12_compress_1 := dk_seg dksJ12_compress_0 24 rfl rfl
theorem dksJ12_compress_2 : cJ12_compress.data.toList.drop 48 = dktJ12_compress_2 := dk_seg dksJ12_compress_1 24 rfl rfl
theorem dJ12_compress_0 : decode cJ12_compress 0 = .ok (.iload_n 2, 1) := dk_28 (dk_at dksJ12_compress_0 0 rfl rfl)
theorem dJ12_compress_1 : decode cJ12_compress 1 = .ok (.newarray .byte, 2) := dk_188_8 (dk_at dksJ12_compress_0 1 rfl rfl)
theorem dJ12_compress_3 : decode cJ12_compress 3 = .ok (.astore_n 3, 1) := dk_78 (dk_at dksJ12_compress_0 3 rfl rfl)
theorem dJ12_compress_4 : decode cJ12_compress 4 = .ok (.aload_n 0, 1) := dk_42 (dk_at dksJ12_compress_0 4 rfl rfl)
theorem dJ12_compress_5 : decode cJ12_compress 5 = .ok (.iload_n 1, 1) := dk_27 (dk_at dksJ12_compress_0 5 rfl rfl)
theorem dJ12_compress_6 : decode cJ12_compress 6 = .ok (.aload_n 3, 1) := dk_45 (dk_at dksJ12_compress_0 6 rfl rfl)
theorem dJ12_compress_7 : decode cJ12_compress 7 = .ok (.iconst 0, 1) := dk_3 (dk_at dksJ12_compress_0 7 rfl rfl)
theorem dJ12_compress_8 : decode cJ12_compress 8 = .ok (.iload_n 2, 1) := dk_28 (dk_at dksJ12_compress_0 8 rfl rfl)
theorem dJ12_compress_9 : decode cJ12_compress 9 = .ok (.invokestatic 123, 3) := dk_184 0 123 (dk_at dksJ12_compress_0 9 rfl rfl)
theorem dJ12_compress_12 : decode cJ12_compress 12 = .ok (.istore 4, 2) := dk_54 4 (dk_at dksJ12_compress_0 12 rfl rfl)
theorem dJ12_compress_14 : decode cJ12_compress 14 = .ok (.iload 4, 2) := dk_21 4 (dk_at dksJ12_compress_0 14 rfl rfl)
theorem dJ12_compress_16 : decode cJ12_compress 16 = .ok (.iload_n 2, 1) := dk_28 (dk_at dksJ12_compress_0 16 rfl rfl)
theorem dJ12_compress_17 : decode cJ12_compress 17 = .ok (.if_icmp .eq 47, 3) := dk_159 0 47 (dk_at dksJ12_compress_0 17 rfl rfl)
theorem dJ12_compress_20 : decode cJ12_compress 20 = .ok (.aload_n 0, 1) := dk_42 (dk_at dksJ12_compress_0 20 rfl rfl)
theorem dJ12_compress_21 : decode cJ12_compress 21 = .ok (.iload_n 1, 1) := dk_27 (dk_at dksJ12_compress_0 21 rfl rfl)
theorem dJ12_compress_22 : decode cJ12_compress 22 = .ok (.iconst 1, 1) := dk_4 (dk_at dksJ12_compress_0 22 rfl rfl)
theorem dJ12_compress_23 : decode cJ12_compress 23 = .ok (.ishl, 1) := dk_120 (dk_at dksJ12_compress_0 23 rfl rfl)
theorem dJ12_compress_24 : decode cJ12_compress 24 = .ok (.iload_n 1, 1) := dk_27 (dk_at dksJ12_compress_1 0 rfl rfl)
theorem dJ12_compress_25 : decode cJ12_compress 25 = .ok (.iload_n 2, 1) := dk_28 (dk_at dksJ12_compress_1 1 rfl rfl)
theorem dJ12_compress_26 : decode cJ12_compress 26 = .ok (.iadd, 1) := dk_96 (dk_at dksJ12_compress_1 2 rfl rfl)
theorem dJ12_compress_27 : decode cJ12_compress 27 = .ok (.invokestatic 11, 3) := dk_184 0 11 (dk_at dksJ12_compress_1 3 rfl rfl)
theorem dJ12_compress_30 : decode cJ12_compress 30 = .ok (.invokestatic 126, 3) := dk_184 0 126 (dk_at dksJ12_compress_1 6 rfl rfl)
theorem dJ12_compress_33 : decode cJ12_compress 33 = .ok (.astore 5, 2) := dk_58 5 (dk_at dksJ12_compress_1 9 rfl rfl)
theorem dJ12_compress_35 : decode cJ12_compress 35 = .ok (.aload 5, 2) := dk_25 5 (dk_at dksJ12_compress_1 11 rfl rfl)
theorem dJ12_compress_37 : decode cJ12_compress 37 = .ok (.iload 4, 2) := dk_21 4 (dk_at dksJ12_compress_1 13 rfl rfl)
theorem dJ12_compress_39 : decode cJ12_compress 39 = .ok (.invokestatic 71, 3) := dk_184 0 71 (dk_at dksJ12_compress_1 15 rfl rfl)
theorem dJ12_compress_42 : decode cJ12_compress 42 = .ok (.sipush 255, 3) := dk_17 0 255 (dk_at dksJ12_compress_1 18 rfl rfl)
theorem dJ12_compress_45 : decode cJ12_compress 45 = .ok (.if_icmp .gt 16, 3) := dk_163 0 16 (dk_at dksJ12_compress_1 21 rfl rfl)
theorem dJ12_compress_48 : decode cJ12_compress 48 = .ok (.aload 5, 2) := dk_25 5 (dk_at dksJ12_compress_2 0 rfl rfl)
theorem dJ12_compress_50 : decode cJ12_compress 50 = .ok (.iconst 0, 1) := dk_3 (dk_at dksJ12_compress_2 2 rfl rfl)
theorem dJ12_compress_51 : decode cJ12_compress 51 = .ok (.aload_n 3, 1) := dk_45 (dk_at dksJ12_compress_2 3 rfl rfl)
theorem dJ12_compress_52 : decode cJ12_compress 52 = .ok (.iconst 0, 1) := dk_3 (dk_at dksJ12_compress_2 4 rfl rfl)
theorem dJ12_compress_53 : decode cJ12_compress 53 = .ok (.iload_n 2, 1) := dk_28 (dk_at dksJ12_compress_2 5 rfl rfl)
theorem dJ12_compress_54 : decode cJ12_compress 54 = .ok (.invokestatic 123, 3) := dk_184 0 123 (dk_at dksJ12_compress_2 6 rfl rfl)
theorem dJ12_compress_57 : decode cJ12_compress 57 = .ok (.iload_n 2, 1) := dk_28 (dk_at dksJ12_compress_2 9 rfl rfl)
theorem dJ12_compress_58 : decode cJ12_compress 58 = .ok (.if_icmp .eq 6, 3) := dk_159 0 6 (dk_at dksJ12_compress_2 10 rfl rfl)
theorem dJ12_compress_61 : decode cJ12_compress 61 = .ok (.aload 5, 2) := dk_25 5 (dk_at dksJ12_compress_2 13 rfl rfl)
theorem dJ12_compress_63 : decode cJ12_compress 63 = .ok (.areturn, 1) := dk_176 (dk_at dksJ12_compress_2 15 rfl rfl)
theorem dJ12_compress_64 : decode cJ12_compress 64 = .ok (.aload_n 3, 1) := dk_45 (dk_at dksJ12_compress_2 16 rfl rfl)
theorem dJ12_compress_65 : decode cJ12_compress 65 = .ok (.areturn, 1) := dk_176 (dk_at dksJ12_compress_2 17 rfl rfl)
abbrev cJ12_compress_2 : ByteArray := prog_36_method_22_code
def yJ12_compress_2 : MethodName := ⟨RJ12, "compress", "([BI[BII)I"⟩
def dkwJ12_compress_2_2 : List UInt8 := [132, 5, 1, 167, 255, 216, 21, 4, 172]
abbrev dktJ12_compress_2_2 : List UInt8 := dkwJ12_compress_2_2 ++ []
def dkwJ12_compress_2_1 : List UInt8 := [21, 6, 17, 0, 255, 164, 0, 6, 21, 5, 172, 44, 29, 21, 6, 145, 84, 132, 1, 1, 132, 3, 1]
abbrev dktJ12_compress_2_1 : List UInt8 := dkwJ12_compress_2_1 ++ dktJ12_compress_2_2
def dkwJ12_compress_2_0 : List UInt8 := [27, 21, 4, 42, 184, 0, 173, 3, 54, 5, 21, 5, 21, 4, 162, 0, 39, 42, 27, 184, 0, 71, 54, 6]
abbrev dktJ12_compress_2_0 : List UInt8 := dkwJ12_compress_2_0 ++ dktJ12_compress_2_1
theorem dksJ12_compress_2_0 : cJ12_compress_2.data.toList.drop 0 = dktJ12_compress_2_0 := by decide +kernel
theorem dksJ12_compress_2_1 : cJ12_compress_2.data.toList.drop 24 = dktJ12_compress_2_1 := dk_seg dksJ12_compress_2_0 24 rfl rfl
theorem dksJ12_compress_2_2 : cJ12_compress_2.data.toList.drop 47 = dktJ12_compress_2_2 := dk_seg dksJ12_compress_2_1 23 rfl rfl
theorem dJ12_compress_2_0 : decode cJ12_compress_2 0 = .ok (.iload_n 1, 1) := dk_27 (dk_at dksJ12_compress_2_0 0 rfl rfl)
theorem dJ12_compress_2_1 : decode cJ12_compress_2 1 = .ok (.iload 4, 2) := dk_21 4 (dk_at dksJ12_compress_2_0 1 rfl rfl)
theorem dJ12_compress_2_3 : decode cJ12_compress_2 3 = .ok (.aload_n 0, 1) := dk_42 (dk_at dksJ12_compress_2_0 3 rfl rfl)
theorem dJ12_compress_2_4 : decode cJ12_compress_2 4 = .ok (.invokestatic 173, 3) := dk_184 0 173 (dk_at dksJ12_compress_2_0 4 rfl rfl)
theorem dJ12_compress_2_7 : decode cJ12_compress_2 7 = .ok (.iconst 0, 1) := dk_3 (dk_at dksJ12_compress_2_0 7 rfl rfl)
theorem dJ12_compress_2_8 : decode cJ12_compress_2 8 = .ok (.istore 5, 2) := dk_54 5 (dk_at dksJ12_compress_2_0 8 rfl rfl)
theorem dJ12_compress_2_10 : decode cJ12_compress_2 10 = .ok (.iload 5, 2) := dk_21 5 (dk_at dksJ12_compress_2_0 10 rfl rfl)
theorem dJ12_compress_2_12 : decode cJ12_compress_2 12 = .ok (.iload 4, 2) := dk_21 4 (dk_at dksJ12_compress_2_0 12 rfl rfl)
theorem dJ12_compress_2_14 : decode cJ12_compress_2 14 = .ok (.if_icmp .ge 39, 3) := dk_162 0 39 (dk_at dksJ12_compress_2_0 14 rfl rfl)
theorem dJ12_compress_2_17 : decode cJ12_compress_2 17 = .ok (.aload_n 0, 1) := dk_42 (dk_at dksJ12_compress_2_0 17 rfl rfl)
theorem dJ12_compress_2_18 : decode cJ12_compress_2 18 = .ok (.iload_n 1, 1) := dk_27 (dk_at dksJ12_compress_2_0 18 rfl rfl)
theorem dJ12_compress_2_19 : decode cJ12_compress_2 19 = .ok (.invokestatic 71, 3) := dk_184 0 71 (dk_at dksJ12_compress_2_0 19 rfl rfl)
theorem dJ12_compress_2_22 : decode cJ12_compress_2 22 = .ok (.istore 6, 2) := dk_54 6 (dk_at dksJ12_compress_2_0 22 rfl rfl)
theorem dJ12_compress_2_24 : decode cJ12_compress_2 24 = .ok (.iload 6, 2) := dk_21 6 (dk_at dksJ12_compress_2_1 0 rfl rfl)
theorem dJ12_compress_2_26 : decode cJ12_compress_2 26 = .ok (.sipush 255, 3) := dk_17 0 255 (dk_at dksJ12_compress_2_1 2 rfl rfl)
theorem dJ12_compress_2_29 : decode cJ12_compress_2 29 = .ok (.if_icmp .le 6, 3) := dk_164 0 6 (dk_at dksJ12_compress_2_1 5 rfl rfl)
theorem dJ12_compress_2_32 : decode cJ12_compress_2 32 = .ok (.iload 5, 2) := dk_21 5 (dk_at dksJ12_compress_2_1 8 rfl rfl)
theorem dJ12_compress_2_34 : decode cJ12_compress_2 34 = .ok (.ireturn, 1) := dk_172 (dk_at dksJ12_compress_2_1 10 rfl rfl)
theorem dJ12_compress_2_35 : decode cJ12_compress_2 35 = .ok (.aload_n 2, 1) := dk_44 (dk_at dksJ12_compress_2_1 11 rfl rfl)
theorem dJ12_compress_2_36 : decode cJ12_compress_2 36 = .ok (.iload_n 3, 1) := dk_29 (dk_at dksJ12_compress_2_1 12 rfl rfl)
theorem dJ12_compress_2_37 : decode cJ12_compress_2 37 = .ok (.iload 6, 2) := dk_21 6 (dk_at dksJ12_compress_2_1 13 rfl rfl)
theorem dJ12_compress_2_39 : decode cJ12_compress_2 39 = .ok (.i2b, 1) := dk_145 (dk_at dksJ12_compress_2_1 15 rfl rfl)
theorem dJ12_compress_2_40 : decode cJ12_compress_2 40 = .ok (.bastore, 1) := dk_84 (dk_at dksJ12_compress_2_1 16 rfl rfl)
theorem dJ12_compress_2_41 : decode cJ12_compress_2 41 = .ok (.iinc 1 1, 3) := dk_132 1 1 (dk_at dksJ12_compress_2_1 17 rfl rfl)
theorem dJ12_compress_2_44 : decode cJ12_compress_2 44 = .ok (.iinc 3 1, 3) := dk_132 3 1 (dk_at dksJ12_compress_2_1 20 rfl rfl)
theorem dJ12_compress_2_47 : decode cJ12_compress_2 47 = .ok (.iinc 5 1, 3) := dk_132 5 1 (dk_at dksJ12_compress_2_2 0 rfl rfl)
theorem dJ12_compress_2_50 : decode cJ12_compress_2 50 = .ok (.goto (-40), 3) := dk_167 255 216 (dk_at dksJ12_compress_2_2 3 rfl rfl)
theorem dJ12_compress_2_53 : decode cJ12_compress_2 53 = .ok (.iload 4, 2) := dk_21 4 (dk_at dksJ12_compress_2_2 6 rfl rfl)
theorem dJ12_compress_2_55 : decode cJ12_compress_2 55 = .ok (.ireturn, 1) := dk_172 (dk_at dksJ12_compress_2_2 8 rfl rfl)
abbrev cJ12_getChar : ByteArray := prog_36_method_5_code
def yJ12_getChar : MethodName := ⟨RJ12, "getChar", "([BI)C"⟩
def dkwJ12_getChar_2 : List UInt8 := [51, 17, 0, 255, 126, 178, 0, 63, 120, 128, 146, 172]
abbrev dktJ12_getChar_2 : List UInt8 := dkwJ12_getChar_2 ++ []
def dkwJ12_getChar_1 : List UInt8 := [183, 0, 56, 191, 27, 4, 120, 60, 42, 27, 132, 1, 1, 51, 17, 0, 255, 126, 178, 0, 59, 120, 42, 27]
abbrev dktJ12_getChar_1 : List UInt8 := dkwJ12_getChar_1 ++ dktJ12_getChar_2
def dkwJ12_getChar_0 : List UInt8 := [178, 0, 44, 154, 0, 25, 27, 155, 0, 11, 27, 42, 184, 0, 48, 161, 0, 13, 187, 0, 52, 89, 18, 54]
abbrev dktJ12_getChar_0 : List UInt8 := dkwJ12_getChar_0 ++ dktJ12_getChar_1
theorem dksJ12_getChar_0 : cJ12_getChar.data.toList.drop 0 = dktJ12_getChar_0 := by decide +kernel
theorem dksJ12_getChar_1 : cJ12_getChar.data.toList.drop 24 = dktJ12_getChar_1 := dk_seg dksJ12_getChar_0 24 rfl rfl
theorem dksJ12_getChar_2 : cJ12_getChar.data.toList.drop 48 = dktJ12_getChar_2 := dk_seg dksJ12_getChar_1 24 rfl rfl
theorem dJ12_getChar_0 : decode cJ12_getChar 0 = .ok (.getstatic 44, 3) := dk_178 0 44 (dk_at dksJ12_getChar_0 0 rfl rfl)
theorem dJ12_getChar_3 : decode cJ12_getChar 3 = .ok (.ifCond .ne 25, 3) := dk_154 0 25 (dk_at dksJ12_getChar_0 3 rfl rfl)
theorem dJ12_getChar_6 : decode cJ12_getChar 6 = .ok (.iload_n 1, 1) := dk_27 (dk_at dksJ12_getChar_0 6 rfl rfl)
theorem dJ12_getChar_7 : decode cJ12_getChar 7 = .ok (.ifCond .lt 11, 3) := dk_155 0 11 (dk_at dksJ12_getChar_0 7 rfl rfl)
theorem dJ12_getChar_10 : decode cJ12_getChar 10 = .ok (.iload_n 1, 1) := dk_27 (dk_at dksJ12_getChar_0 10 rfl rfl)
theorem dJ12_getChar_11 : decode cJ12_getChar 11 = .ok (.aload_n 0, 1) := dk_42 (dk_at dksJ12_getChar_0 11 rfl rfl)
theorem dJ12_getChar_12 : decode cJ12_getChar 12 = .ok (.invokestatic 48, 3) := dk_184 0 48 (dk_at dksJ12_getChar_0 12 rfl rfl)
theorem dJ12_getChar_15 : decode cJ12_getChar 15 = .ok (.if_icmp .lt 13, 3) := dk_161 0 13 (dk_at dksJ12_getChar_0 15 rfl rfl)
theorem dJ12_getChar_18 : decode cJ12_getChar 18 = .ok (.new 52, 3) := dk_187 0 52 (dk_at dksJ12_getChar_0 18 rfl rfl)
theorem dJ12_getChar_21 : decode cJ12_getChar 21 = .ok (.dup, 1) := dk_89 (dk_at dksJ12_getChar_0 21 rfl rfl)
theorem dJ12_getChar_22 : decode cJ12_getChar 22 = .ok (.ldc 54, 2) := dk_18 54 (dk_at dksJ12_getChar_0 22 rfl rfl)
theorem dJ12_getChar_24 : decode cJ12_getChar 24 = .ok (.invokespecial 56, 3) := dk_183 0 56 (dk_at dksJ12_getChar_1 0 rfl rfl)
theorem dJ12_getChar_27 : decode cJ12_getChar 27 = .ok (.athrow, 1) := dk_191 (dk_at dksJ12_getChar_1 3 rfl rfl)
theorem dJ12_getChar_28 : decode cJ12_getChar 28 = .ok (.iload_n 1, 1) := dk_27 (dk_at dksJ12_getChar_1 4 rfl rfl)
theorem dJ12_getChar_29 : decode cJ12_getChar 29 = .ok (.iconst 1, 1) := dk_4 (dk_at dksJ12_getChar_1 5 rfl rfl)
theorem dJ12_getChar_30 : decode cJ12_getChar 30 = .ok (.ishl, 1) := dk_120 (dk_at dksJ12_getChar_1 6 rfl rfl)
theorem dJ12_getChar_31 : decode cJ12_getChar 31 = .ok (.istore_n 1, 1) := dk_60 (dk_at dksJ12_getChar_1 7 rfl rfl)
theorem dJ12_getChar_32 : decode cJ12_getChar 32 = .ok (.aload_n 0, 1) := dk_42 (dk_at dksJ12_getChar_1 8 rfl rfl)
theorem dJ12_getChar_33 : decode cJ12_getChar 33 = .ok (.iload_n 1, 1) := dk_27 (dk_at dksJ12_getChar_1 9 rfl rfl)
theorem dJ12_getChar_34 : decode cJ12_getChar 34 = .ok (.iinc 1 1, 3) := dk_132 1 1 (dk_at dksJ12_getChar_1 10 rfl rfl)
theorem dJ12_getChar_37 : decode cJ12_getChar 37 = .ok (.baload, 1) := dk_51 (dk_at dksJ12_getChar_1 13 rfl rfl)
theorem dJ12_getChar_38 : decode cJ12_getChar 38 = .ok (.sipush 255, 3) := dk_17 0 255 (dk_at dksJ12_getChar_1 14 rfl rfl)
theorem dJ12_getChar_41 : decode cJ12_getChar 41 = .ok (.iand, 1) := dk_126 (dk_at dksJ12_getChar_1 17 rfl rfl)
theorem dJ12_getChar_42 : decode cJ12_getChar 42 = .ok (.getstatic 59, 3) := dk_178 0 59 (dk_at dksJ12_getChar_1 18 rfl rfl)
theorem dJ12_getChar_45 : decode cJ12_getChar 45 = .ok (.ishl, 1) := dk_120 (dk_at dksJ12_getChar_1 21 rfl rfl)
theorem dJ12_getChar_46 : decode cJ12_getChar 46 = .ok (.aload_n 0, 1) := dk_42 (dk_at dksJ12_getChar_1 22 rfl rfl)
theorem dJ12_getChar_47 : decode cJ12_getChar 47 = .ok (.iload_n 1, 1) := dk_27 (dk_at dksJ12_getChar_1 23 rfl rfl)
theorem dJ12_getChar_48 : decode cJ12_getChar 48 = .ok (.baload, 1) := dk_51 (dk_at dksJ12_getChar_2 0 rfl rfl)
theorem dJ12_getChar_49 : decode cJ12_getChar 49 = .ok (.sipush 255, 3) := dk_17 0 255 (dk_at dksJ12_getChar_2 1 rfl rfl)
theorem dJ12_getChar_52 : decode cJ12_getChar 52 = .ok (.iand, 1) := dk_126 (dk_at dksJ12_getChar_2 4 rfl rfl)
theorem dJ12_getChar_53 : decode cJ12_getChar 53 = .ok (.getstatic 63, 3) := dk_178 0 63 (dk_at dksJ12_getChar_2 5 rfl rfl)
theorem dJ12_getChar_56 : decode cJ12_getChar 56 = .ok (.ishl, 1) := dk_120 (dk_at dksJ12_getChar_2 8 rfl rfl)
theorem dJ12_getChar_57 : decode cJ12_getChar 57 = .ok (.ior, 1) := dk_128 (dk_at dksJ12_getChar_2 9 rfl rfl)
theorem dJ12_getChar_58 : decode cJ12_getChar 58 = .ok (.i2c, 1) := dk_146 (dk_at dksJ12_getChar_2 10 rfl rfl)
theorem dJ12_getChar_59 : decode cJ12_getChar 59 = .ok (.ireturn, 1) := dk_172 (dk_at dksJ12_getChar_2 11 rfl rfl)
abbrev cJ12_coderFromArrayLen : ByteArray := prog_36_method_15_code
def yJ12_coderFromArrayLen : MethodName := ⟨RJ12, "coderFromArrayLen", "([BI)B"⟩
def dkwJ12_coderFromArrayLen_0 : List UInt8 := [27, 42, 190, 100, 16, 31, 124, 145, 172]
abbrev dktJ12_coderFromArrayLen_0 : List UInt8 := dkwJ12_coderFromArrayLen_0 ++ []
theorem dksJ12_coderFromArrayLen_0 : cJ12_coderFromArrayLen.data.toList.drop 0 = dktJ12_coderFromArrayLen_0 := by decide +kernel
theorem dJ12_coderFromArrayLen_0 : decode cJ12_coderFromArrayLen 0 = .ok (.iload_n 1, 1) := dk_27 (dk_at dksJ12_coderFromArrayLen_0 0 rfl rfl)
theorem dJ12_coderFromArrayLen_1 : decode cJ12_coderFromArrayLen 1 = .ok (.aload_n 0, 1) := dk_42 (dk_at dksJ12_coderFromArrayLen_0 1 rfl rfl)
theorem dJ12_coderFromArrayLen_2 : decode cJ12_coderFromArrayLen 2 = .ok (.arraylength, 1) := dk_190 (dk_at dksJ12_coderFromArrayLen_0 2 rfl rfl)
theorem dJ12_coderFromArrayLen_3 : decode cJ12_coderFromArrayLen 3 = .ok (.isub, 1) := dk_100 (dk_at dksJ12_coderFromArrayLen_0 3 rfl rfl)
theorem dJ12_coderFromArrayLen_4 : decode cJ12_coderFromArrayLen 4 = .ok (.bipush 31, 2) := dk_16 31 (dk_at dksJ12_coderFromArrayLen_0 4 rfl rfl)
theorem dJ12_coderFromArrayLen_6 : decode cJ12_coderFromArrayLen 6 = .ok (.iushr, 1) := dk_124 (dk_at dksJ12_coderFromArrayLen_0 6 rfl rfl)
theorem dJ12_coderFromArrayLen_7 : decode cJ12_coderFromArrayLen 7 = .ok (.i2b, 1) := dk_145 (dk_at dksJ12_coderFromArrayLen_0 7 rfl rfl)
theorem dJ12_coderFromArrayLen_8 : decode cJ12_coderFromArrayLen 8 = .ok (.ireturn, 1) := dk_172 (dk_at dksJ12_coderFromArrayLen_0 8 rfl rfl)
abbrev cJ12_hashCode : ByteArray := prog_36_method_39_code
def yJ12_hashCode : MethodName := ⟨RJ12, "hashCode", "([B)I"⟩
def dkwJ12_hashCode_2 : List UInt8 := [3, 167, 0, 22, 42, 3, 184, 0, 71, 167, 0, 14, 42, 3, 42, 190, 4, 122, 3, 8, 184, 0, 220, 172]
abbrev dktJ12_hashCode_2 : List UInt8 := dkwJ12_hashCode_2 ++ []
def dkwJ12_hashCode_1 : List UInt8 := [171, 0, 0, 0, 0, 38, 0, 0, 0, 2, 0, 0, 0, 0, 0, 0, 0, 26, 0, 0, 0, 2, 0, 0, 0, 30]
abbrev dktJ12_hashCode_1 : List UInt8 := dkwJ12_hashCode_1 ++ dktJ12_hashCode_2
def dkwJ12_hashCode_0 : List UInt8 := [42, 190]
abbrev dktJ12_hashCode_0 : List UInt8 := dkwJ12_hashCode_0 ++ dktJ12_hashCode_1
theorem dksJ12_hashCode_0 : cJ12_hashCode.data.toList.drop 0 = dktJ12_hashCode_0 := by decide +kernel
theorem dksJ12_hashCode_1 : cJ12_hashCode.data.toList.drop 2 = dktJ12_hashCode_1 := dk_seg dksJ12_hashCode_0 2 rfl rfl
theorem dksJ12_hashCode_2 : cJ12_hashCode.data.toList.drop 28 = dktJ12_hashCode_2 := dk_seg dksJ12_hashCode_1 26 rfl rfl
theorem dJ12_hashCode_0 : decode cJ12_hashCode 0 = .ok (.aload_n 0, 1) := dk_42 (dk_at dksJ12_hashCode_0 0 rfl rfl)
theorem dJ12_hashCode_1 : decode cJ12_hashCode 1 = .ok (.arraylength, 1) := dk_190 (dk_at dksJ12_hashCode_0 1 rfl rfl)
theorem dJ12_hashCode_2 : decode cJ12_hashCode 2 = .ok (.lookupswitch 38 #[(0, 26), (2, 30)], 26) := by decide +kernel
theorem dJ12_hashCode_28 : decode cJ12_hashCode 28 = .ok (.iconst 0, 1) := dk_3 (dk_at dksJ12_hashCode_2 0 rfl rfl)
theorem dJ12_hashCode_29 : decode cJ12_hashCode 29 = .ok (.goto 22, 3) := dk_167 0 22 (dk_at dksJ12_hashCode_2 1 rfl rfl)
theorem dJ12_hashCode_32 : decode cJ12_hashCode 32 = .ok (.aload_n 0, 1) := dk_42 (dk_at dksJ12_hashCode_2 4 rfl rfl)
theorem dJ12_hashCode_33 : decode cJ12_hashCode 33 = .ok (.iconst 0, 1) := dk_3 (dk_at dksJ12_hashCode_2 5 rfl rfl)
theorem dJ12_hashCode_34 : decode cJ12_hashCode 34 = .ok (.invokestatic 71, 3) := dk_184 0 71 (dk_at dksJ12_hashCode_2 6 rfl rfl)
theorem dJ12_hashCode_37 : decode cJ12_hashCode 37 = .ok (.goto 14, 3) := dk_167 0 14 (dk_at dksJ12_hashCode_2 9 rfl rfl)
theorem dJ12_hashCode_40 : decode cJ12_hashCode 40 = .ok (.aload_n 0, 1) := dk_42 (dk_at dksJ12_hashCode_2 12 rfl rfl)
theorem dJ12_hashCode_41 : decode cJ12_hashCode 41 = .ok (.iconst 0, 1) := dk_3 (dk_at dksJ12_hashCode_2 13 rfl rfl)
theorem dJ12_hashCode_42 : decode cJ12_hashCode 42 = .ok (.aload_n 0, 1) := dk_42 (dk_at dksJ12_hashCode_2 14 rfl rfl)
theorem dJ12_hashCode_43 : decode cJ12_hashCode 43 = .ok (.arraylength, 1) := dk_190 (dk_at dksJ12_hashCode_2 15 rfl rfl)
theorem dJ12_hashCode_44 : decode cJ12_hashCode 44 = .ok (.iconst 1, 1) := dk_4 (dk_at dksJ12_hashCode_2 16 rfl rfl)
theorem dJ12_hashCode_45 : decode cJ12_hashCode 45 = .ok (.ishr, 1) := dk_122 (dk_at dksJ12_hashCode_2 17 rfl rfl)
theorem dJ12_hashCode_46 : decode cJ12_hashCode 46 = .ok (.iconst 0, 1) := dk_3 (dk_at dksJ12_hashCode_2 18 rfl rfl)
theorem dJ12_hashCode_47 : decode cJ12_hashCode 47 = .ok (.iconst 5, 1) := dk_8 (dk_at dksJ12_hashCode_2 19 rfl rfl)
theorem dJ12_hashCode_48 : decode cJ12_hashCode 48 = .ok (.invokestatic 220, 3) := dk_184 0 220 (dk_at dksJ12_hashCode_2 20 rfl rfl)
theorem dJ12_hashCode_51 : decode cJ12_hashCode 51 = .ok (.ireturn, 1) := dk_172 (dk_at dksJ12_hashCode_2 23 rfl rfl)
abbrev cJ12_charAt : ByteArray := prog_36_method_83_code
def yJ12_charAt : MethodName := ⟨RJ12, "charAt", "([BI)C"⟩
def dkwJ12_charAt_0 : List UInt8 := [27, 42, 184, 0, 67, 42, 27, 184, 0, 71, 172]
abbrev dktJ12_charAt_0 : List UInt8 := dkwJ12_charAt_0 ++ []
theorem dksJ12_charAt_0 : cJ12_charAt.data.toList.drop 0 = dktJ12_charAt_0 := by decide +kernel
theorem dJ12_charAt_0 : decode cJ12_charAt 0 = .ok (.iload_n 1, 1) := dk_27 (dk_at dksJ12_charAt_0 0 rfl rfl)
theorem dJ12_charAt_1 : decode cJ12_charAt 1 = .ok (.aload_n 0, 1) := dk_42 (dk_at dksJ12_charAt_0 1 rfl rfl)
theorem dJ12_charAt_2 : decode cJ12_charAt 2 = .ok (.invokestatic 67, 3) := dk_184 0 67 (dk_at dksJ12_charAt_0 2 rfl rfl)
theorem dJ12_charAt_5 : decode cJ12_charAt 5 = .ok (.aload_n 0, 1) := dk_42 (dk_at dksJ12_charAt_0 5 rfl rfl)
theorem dJ12_charAt_6 : decode cJ12_charAt 6 = .ok (.iload_n 1, 1) := dk_27 (dk_at dksJ12_charAt_0 6 rfl rfl)
theorem dJ12_charAt_7 : decode cJ12_charAt 7 = .ok (.invokestatic 71, 3) := dk_184 0 71 (dk_at dksJ12_charAt_0 7 rfl rfl)
theorem dJ12_charAt_10 : decode cJ12_charAt 10 = .ok (.ireturn, 1) := dk_172 (dk_at dksJ12_charAt_0 10 rfl rfl)
theorem q129 : (Jvm.Cond.initialized "java/lang/StringUTF16") ∈ lw_all := lw_g (lw_at lw_m1 18 rfl) rfl
theorem q466 : (Jvm.Cond.static ({ cls := "java/lang/StringUTF16", name := "newBytesFor", desc := "(I)[B" } : Jvm.MethodName)) ∈ lw_all := lw_g (lw_at lw_m2 115 rfl) rfl
theorem q467 : (Jvm.Cond.code ({ cls := "java/lang/StringUTF16", name := "newBytesFor", desc := "(I)[B" } : Jvm.MethodName) prog_36_method_2_code (1 : Nat) (Option.some (Jvm.ClassFile.FieldType.array Jvm.ClassFile.FieldType.byte))) ∈ lw_all := lw_g (lw_at lw_m2 116 rfl) rfl
theorem q468 : (Jvm.Cond.methodLink "java/lang/StringUTF16" (11 : Nat) ({ cls := "java/lang/StringUTF16", name := "newBytesLength", desc := "(I)I" } : Jvm.MethodName)) ∈ lw_all := lw_g (lw_at lw_m2 117 rfl) rfl
theorem q469 : (Jvm.Cond.static ({ cls := "java/lang/StringUTF16", name := "newBytesLength", desc := "(I)I" } : Jvm.MethodName)) ∈ lw_all := lw_g (lw_at lw_m2 118 rfl) rfl
theorem q470 : (Jvm.Cond.code ({ cls := "java/lang/StringUTF16", name := "newBytesLength", desc := "(I)I" } : Jvm.MethodName) prog_36_method_3_code (1 : Nat) (Option.some Jvm.ClassFile.FieldType.int)) ∈ lw_all := lw_g (lw_at lw_m2 119 rfl) rfl
theorem q471 : (Jvm.Cond.constant "java/lang/StringUTF16" (20 : Nat) (1073741823 : Int32)) ∈ lw_all := lw_g (lw_at lw_m2 120 rfl) rfl
theorem q543 : (Jvm.Cond.static ({ cls := "java/lang/StringUTF16", name := "inflate", desc := "([BI[BII)V" } : Jvm.MethodName)) ∈ lw_all := lw_g (lw_at lw_m2 192 rfl) rfl
theorem q544 : (Jvm.Cond.code ({ cls := "java/lang/StringUTF16", name := "inflate", desc := "([BI[BII)V" } : Jvm.MethodName) prog_36_method_86_code (6 : Nat) (Option.none : Option Jvm.ClassFile.FieldType)) ∈ lw_all := lw_g (lw_at lw_m2 193 rfl) rfl
theorem q545 : (Jvm.Cond.methodLink "java/lang/StringUTF16" (173 : Nat) ({ cls := "java/lang/StringUTF16", name := "checkBoundsOffCount", desc := "(II[B)V" } : Jvm.MethodName)) ∈ lw_all := lw_g (lw_at lw_m2 194 rfl) rfl
theorem q546 : (Jvm.Cond.static ({ cls := "java/lang/StringUTF16", name := "checkBoundsOffCount", desc := "(II[B)V" } : Jvm.MethodName)) ∈ lw_all := lw_g (lw_at lw_m2 195 rfl) rfl
theorem q547 : (Jvm.Cond.code ({ cls := "java/lang/StringUTF16", name := "checkBoundsOffCount", desc := "(II[B)V" } : Jvm.MethodName) prog_36_method_94_code (3 : Nat) (Option.none : Option Jvm.ClassFile.FieldType)) ∈ lw_all := lw_g (lw_at lw_m2 196 rfl) rfl
theorem q548 : (Jvm.Cond.methodLink "java/lang/StringUTF16" (48 : Nat) ({ cls := "java/lang/StringUTF16", name := "length", desc := "([B)I" } : Jvm.MethodName)) ∈ lw_all := lw_g (lw_at lw_m2 197 rfl) rfl
theorem q549 : (Jvm.Cond.static ({ cls := "java/lang/StringUTF16", name := "length", desc := "([B)I" } : Jvm.MethodName)) ∈ lw_all := lw_g (lw_at lw_m2 198 rfl) rfl
theorem q550 : (Jvm.Cond.code ({ cls := "java/lang/StringUTF16", name := "length", desc := "([B)I" } : Jvm.MethodName) prog_36_method_6_code (1 : Nat) (Option.some Jvm.ClassFile.FieldType.int)) ∈ lw_all := lw_g (lw_at lw_m2 199 rfl) rfl
theorem q551 : (Jvm.Cond.methodLink "java/lang/StringUTF16" (419 : Nat) ({ cls := "java/lang/String", name := "checkBoundsOffCount", desc := "(III)I" } : Jvm.MethodName)) ∈ lw_all := lw_g (lw_at lw_m2 200 rfl) rfl
theorem q559 : (Jvm.Cond.methodLink "java/lang/StringUTF16" (111 : Nat) ({ cls := "java/lang/StringUTF16", name := "putChar", desc := "([BII)V" } : Jvm.MethodName)) ∈ lw_all := lw_g (lw_at lw_m2 208 rfl) rfl
theorem q560 : (Jvm.Cond.static ({ cls := "java/lang/StringUTF16", name := "putChar", desc := "([BII)V" } : Jvm.MethodName)) ∈ lw_all := lw_g (lw_at lw_m2 209 rfl) rfl
theorem q561 : (Jvm.Cond.code ({ cls := "java/lang/StringUTF16", name := "putChar", desc := "([BII)V" } : Jvm.MethodName) prog_36_method_4_code (3 : Nat) (Option.none : Option Jvm.ClassFile.FieldType)) ∈ lw_all := lw_g (lw_at lw_m2 210 rfl) rfl
theorem q562 : (Jvm.Cond.fieldLink "java/lang/StringUTF16" (44 : Nat) "java/lang/StringUTF16" "$assertionsDisabled" "Z") ∈ lw_all := lw_g (lw_at lw_m2 211 rfl) rfl
theorem q563 : (Jvm.Cond.laysStatic "java/lang/StringUTF16" "$assertionsDisabled" "Z") ∈ lw_tbl := lw_at lw_m2 212 rfl
theorem q564 : (Jvm.Cond.fieldLink "java/lang/StringUTF16" (59 : Nat) "java/lang/StringUTF16" "HI_BYTE_SHIFT" "I") ∈ lw_all := lw_g (lw_at lw_m2 213 rfl) rfl
theorem q565 : (Jvm.Cond.laysStatic "java/lang/StringUTF16" "HI_BYTE_SHIFT" "I") ∈ lw_tbl := lw_at lw_m2 214 rfl
theorem q566 : (Jvm.Cond.fieldLink "java/lang/StringUTF16" (63 : Nat) "java/lang/StringUTF16" "LO_BYTE_SHIFT" "I") ∈ lw_all := lw_g (lw_at lw_m2 215 rfl) rfl
theorem q567 : (Jvm.Cond.laysStatic "java/lang/StringUTF16" "LO_BYTE_SHIFT" "I") ∈ lw_tbl := lw_at lw_m2 216 rfl
theorem q569 : (Jvm.Cond.static ({ cls := "java/lang/StringUTF16", name := "putCharSB", desc := "([BII)V" } : Jvm.MethodName)) ∈ lw_all := lw_g (lw_at lw_m2 218 rfl) rfl
theorem q570 : (Jvm.Cond.code ({ cls := "java/lang/StringUTF16", name := "putCharSB", desc := "([BII)V" } : Jvm.MethodName) prog_36_method_71_code (3 : Nat) (Option.none : Option Jvm.ClassFile.FieldType)) ∈ lw_all := lw_g (lw_at lw_m2 219 rfl) rfl
theorem q571 : (Jvm.Cond.methodLink "java/lang/StringUTF16" (67 : Nat) ({ cls := "java/lang/StringUTF16", name := "checkIndex", desc := "(I[B)V" } : Jvm.MethodName)) ∈ lw_all := lw_g (lw_at lw_m2 220 rfl) rfl
theorem q572 : (Jvm.Cond.static ({ cls := "java/lang/StringUTF16", name := "checkIndex", desc := "(I[B)V" } : Jvm.MethodName)) ∈ lw_all := lw_g (lw_at lw_m2 221 rfl) rfl
theorem q573 : (Jvm.Cond.code ({ cls := "java/lang/StringUTF16", name := "checkIndex", desc := "(I[B)V" } : Jvm.MethodName) prog_36_method_91_code (2 : Nat) (Option.none : Option Jvm.ClassFile.FieldType)) ∈ lw_all := lw_g (lw_at lw_m2 222 rfl) rfl
theorem q574 : (Jvm.Cond.methodLink "java/lang/StringUTF16" (414 : Nat) ({ cls := "java/lang/String", name := "checkIndex", desc := "(II)V" } : Jvm.MethodName)) ∈ lw_all := lw_g (lw_at lw_m2 223 rfl) rfl
theorem q644 : (Jvm.Cond.static ({ cls := "java/lang/StringUTF16", name := "getChars", desc := "(III[B)I" } : Jvm.MethodName)) ∈ lw_all := lw_g (lw_at lw_m3 53 rfl) rfl
theorem q645 : (Jvm.Cond.code ({ cls := "java/lang/StringUTF16", name := "getChars", desc := "(III[B)I" } : Jvm.MethodName) prog_36_method_77_code (5 : Nat) (Option.some Jvm.ClassFile.FieldType.int)) ∈ lw_all := lw_g (lw_at lw_m3 54 rfl) rfl
theorem q646 : (Jvm.Cond.methodLink "java/lang/StringUTF16" (96 : Nat) ({ cls := "java/lang/StringUTF16", name := "checkBoundsBeginEnd", desc := "(II[B)V" } : Jvm.MethodName)) ∈ lw_all := lw_g (lw_at lw_m3 55 rfl) rfl
theorem q647 : (Jvm.Cond.static ({ cls := "java/lang/StringUTF16", name := "checkBoundsBeginEnd", desc := "(II[B)V" } : Jvm.MethodName)) ∈ lw_all := lw_g (lw_at lw_m3 56 rfl) rfl
theorem q648 : (Jvm.Cond.code ({ cls := "java/lang/StringUTF16", name := "checkBoundsBeginEnd", desc := "(II[B)V" } : Jvm.MethodName) prog_36_method_93_code (3 : Nat) (Option.none : Option Jvm.ClassFile.FieldType)) ∈ lw_all := lw_g (lw_at lw_m3 57 rfl) rfl
theorem q649 : (Jvm.Cond.methodLink "java/lang/StringUTF16" (241 : Nat) ({ cls := "java/lang/String", name := "checkBoundsBeginEnd", desc := "(III)V" } : Jvm.MethodName)) ∈ lw_all := lw_g (lw_at lw_m3 58 rfl) rfl
theorem q655 : (Jvm.Cond.methodLink "java/lang/StringUTF16" (393 : Nat) ({ cls := "java/lang/StringUTF16", name := "getChars", desc := "(II[B)I" } : Jvm.MethodName)) ∈ lw_all := lw_g (lw_at lw_m3 64 rfl) rfl
theorem q656 : (Jvm.Cond.static ({ cls := "java/lang/StringUTF16", name := "getChars", desc := "(II[B)I" } : Jvm.MethodName)) ∈ lw_all := lw_g (lw_at lw_m3 65 rfl) rfl
theorem q657 : (Jvm.Cond.code ({ cls := "java/lang/StringUTF16", name := "getChars", desc := "(II[B)I" } : Jvm.MethodName) prog_36_method_89_code (7 : Nat) (Option.some Jvm.ClassFile.FieldType.int)) ∈ lw_all := lw_g (lw_at lw_m3 66 rfl) rfl
theorem q658 : (Jvm.Cond.fieldLink "java/lang/StringUTF16" (403 : Nat) "java/lang/Integer" "DigitOnes" "[B") ∈ lw_all := lw_g (lw_at lw_m3 67 rfl) rfl
theorem q659 : (Jvm.Cond.fieldLink "java/lang/StringUTF16" (407 : Nat) "java/lang/Integer" "DigitTens" "[B") ∈ lw_all := lw_g (lw_at lw_m3 68 rfl) rfl
theorem q673 : (Jvm.Cond.static ({ cls := "java/lang/StringUTF16", name := "putCharsAt", desc := "([BICCCC)I" } : Jvm.MethodName)) ∈ lw_all := lw_g (lw_at lw_m3 82 rfl) rfl
theorem q674 : (Jvm.Cond.code ({ cls := "java/lang/StringUTF16", name := "putCharsAt", desc := "([BICCCC)I" } : Jvm.MethodName) prog_36_method_81_code (7 : Nat) (Option.some Jvm.ClassFile.FieldType.int)) ∈ lw_all := lw_g (lw_at lw_m3 83 rfl) rfl
theorem q707 : (Jvm.Cond.static ({ cls := "java/lang/StringUTF16", name := "compress", desc := "([BII)[B" } : Jvm.MethodName)) ∈ lw_all := lw_g (lw_at lw_m3 116 rfl) rfl
theorem q708 : (Jvm.Cond.code ({ cls := "java/lang/StringUTF16", name := "compress", desc := "([BII)[B" } : Jvm.MethodName) prog_36_method_17_code (6 : Nat) (Option.some (Jvm.ClassFile.FieldType.array Jvm.ClassFile.FieldType.byte))) ∈ lw_all := lw_g (lw_at lw_m3 117 rfl) rfl
theorem q709 : (Jvm.Cond.methodLink "java/lang/StringUTF16" (123 : Nat) ({ cls := "java/lang/StringUTF16", name := "compress", desc := "([BI[BII)I" } : Jvm.MethodName)) ∈ lw_all := lw_g (lw_at lw_m3 118 rfl) rfl
theorem q710 : (Jvm.Cond.static ({ cls := "java/lang/StringUTF16", name := "compress", desc := "([BI[BII)I" } : Jvm.MethodName)) ∈ lw_all := lw_g (lw_at lw_m3 119 rfl) rfl
theorem q711 : (Jvm.Cond.code ({ cls := "java/lang/StringUTF16", name := "compress", desc := "([BI[BII)I" } : Jvm.MethodName) prog_36_method_22_code (7 : Nat) (Option.some Jvm.ClassFile.FieldType.int)) ∈ lw_all := lw_g (lw_at lw_m3 120 rfl) rfl
theorem q712 : (Jvm.Cond.methodLink "java/lang/StringUTF16" (71 : Nat) ({ cls := "java/lang/StringUTF16", name := "getChar", desc := "([BI)C" } : Jvm.MethodName)) ∈ lw_all := lw_g (lw_at lw_m3 121 rfl) rfl
theorem q713 : (Jvm.Cond.static ({ cls := "java/lang/StringUTF16", name := "getChar", desc := "([BI)C" } : Jvm.MethodName)) ∈ lw_all := lw_g (lw_at lw_m3 122 rfl) rfl
theorem q714 : (Jvm.Cond.code ({ cls := "java/lang/StringUTF16", name := "getChar", desc := "([BI)C" } : Jvm.MethodName) prog_36_method_5_code (2 : Nat) (Option.some Jvm.ClassFile.FieldType.char)) ∈ lw_all := lw_g (lw_at lw_m3 123 rfl) rfl
theorem q715 : (Jvm.Cond.methodLink "java/lang/StringUTF16" (126 : Nat) ({ cls := "java/util/Arrays", name := "copyOfRange", desc := "([BII)[B" } : Jvm.MethodName)) ∈ lw_all := lw_g (lw_at lw_m3 124 rfl) rfl
theorem q717 : (Jvm.Cond.static ({ cls := "java/lang/StringUTF16", name := "coderFromArrayLen", desc := "([BI)B" } : Jvm.MethodName)) ∈ lw_all := lw_g (lw_at lw_m3 126 rfl) rfl
theorem q718 : (Jvm.Cond.code ({ cls := "java/lang/StringUTF16", name := "coderFromArrayLen", desc := "([BI)B" } : Jvm.MethodName) prog_36_method_15_code (2 : Nat) (Option.some Jvm.ClassFile.FieldType.byte)) ∈ lw_all := lw_g (lw_at lw_m3 127 rfl) rfl
theorem q938 : (Jvm.Cond.static ({ cls := "java/lang/StringUTF16", name := "hashCode", desc := "([B)I" } : Jvm.MethodName)) ∈ lw_all := lw_g (lw_at lw_m4 107 rfl) rfl
theorem q939 : (Jvm.Cond.code ({ cls := "java/lang/StringUTF16", name := "hashCode", desc := "([B)I" } : Jvm.MethodName) prog_36_method_39_code (1 : Nat) (Option.some Jvm.ClassFile.FieldType.int)) ∈ lw_all := lw_g (lw_at lw_m4 108 rfl) rfl
theorem q940 : (Jvm.Cond.methodLink "java/lang/StringUTF16" (220 : Nat) ({ cls := "jdk/internal/util/ArraysSupport", name := "vectorizedHashCode", desc := "(Ljava/lang/Object;IIII)I" } : Jvm.MethodName)) ∈ lw_all := lw_g (lw_at lw_m4 109 rfl) rfl
theorem q1783 : (Jvm.Cond.static ({ cls := "java/lang/StringUTF16", name := "charAt", desc := "([BI)C" } : Jvm.MethodName)) ∈ lw_all := lw_g (lw_at lw_m7 232 rfl) rfl
theorem q1784 : (Jvm.Cond.code ({ cls := "java/lang/StringUTF16", name := "charAt", desc := "([BI)C" } : Jvm.MethodName) prog_36_method_83_code (2 : Nat) (Option.some Jvm.ClassFile.FieldType.char)) ∈ lw_all := lw_g (lw_at lw_m7 233 rfl) rfl
/-! jdk/internal/util/ArraysSupport -/
set_option maxRecDepth 100000
def RJ13 : String := "jdk/internal/util/ArraysSupport"
abbrev cJ13_newLength : ByteArray := prog_55_method_27_code
def yJ13_newLength : MethodName := ⟨RJ13, "newLength", "(III)I"⟩
def dkwJ13_newLength_1 : List UInt8 := [184, 0, 201, 172]
abbrev dktJ13_newLength_1 : List UInt8 := dkwJ13_newLength_1 ++ []
def dkwJ13_newLength_0 : List UInt8 := [26, 27, 28, 184, 0, 194, 96, 62, 3, 29, 162, 0, 11, 29, 18, 200, 163, 0, 5, 29, 172, 26, 27]
abbrev dktJ13_newLength_0 : List UInt8 := dkwJ13_newLength_0 ++ dktJ13_newLength_1
theorem dksJ13_newLength_0 : cJ13_newLength.data.toList.drop 0 = dktJ13_newLength_0 := by decide +kernel
theorem dksJ13_newLength_1 : cJ13_newLength.data.toList.drop 23 = dktJ13_newLength_1 := dk_seg dksJ13_newLength_0 23 rfl rfl
theorem dJ13_newLength_0 : decode cJ13_newLength 0 = .ok (.iload_n 0, 1) := dk_26 (dk_at dksJ13_newLength_0 0 rfl rfl)
theorem dJ13_newLength_1 : decode cJ13_newLength 1 = .ok (.iload_n 1, 1) := dk_27 (dk_at dksJ13_newLength_0 1 rfl rfl)
theorem dJ13_newLength_2 : decode cJ13_newLength 2 = .ok (.iload_n 2, 1) := dk_28 (dk_at dksJ13_newLength_0 2 rfl rfl)
theorem dJ13_newLength_3 : decode cJ13_newLength 3 = .ok (.invokestatic 194, 3) := dk_184 0 194 (dk_at dksJ13_newLength_0 3 rfl rfl)
theorem dJ13_newLength_6 : decode cJ13_newLength 6 = .ok (.iadd, 1) := dk_96 (dk_at dksJ13_newLength_0 6 rfl rfl)
theorem dJ13_newLength_7 : decode cJ13_newLength 7 = .ok (.istore_n 3, 1) := dk_62 (dk_at dksJ13_newLength_0 7 rfl rfl)
theorem dJ13_newLength_8 : decode cJ13_newLength 8 = .ok (.iconst 0, 1) := dk_3 (dk_at dksJ13_newLength_0 8 rfl rfl)
theorem dJ13_newLength_9 : decode cJ13_newLength 9 = .ok (.iload_n 3, 1) := dk_29 (dk_at dksJ13_newLength_0 9 rfl rfl)
theorem dJ13_newLength_10 : decode cJ13_newLength 10 = .ok (.if_icmp .ge 11, 3) := dk_162 0 11 (dk_at dksJ13_newLength_0 10 rfl rfl)
theorem dJ13_newLength_13 : decode cJ13_newLength 13 = .ok (.iload_n 3, 1) := dk_29 (dk_at dksJ13_newLength_0 13 rfl rfl)
theorem dJ13_newLength_14 : decode cJ13_newLength 14 = .ok (.ldc 200, 2) := dk_18 200 (dk_at dksJ13_newLength_0 14 rfl rfl)
theorem dJ13_newLength_16 : decode cJ13_newLength 16 = .ok (.if_icmp .gt 5, 3) := dk_163 0 5 (dk_at dksJ13_newLength_0 16 rfl rfl)
theorem dJ13_newLength_19 : decode cJ13_newLength 19 = .ok (.iload_n 3, 1) := dk_29 (dk_at dksJ13_newLength_0 19 rfl rfl)
theorem dJ13_newLength_20 : decode cJ13_newLength 20 = .ok (.ireturn, 1) := dk_172 (dk_at dksJ13_newLength_0 20 rfl rfl)
theorem dJ13_newLength_21 : decode cJ13_newLength 21 = .ok (.iload_n 0, 1) := dk_26 (dk_at dksJ13_newLength_0 21 rfl rfl)
theorem dJ13_newLength_22 : decode cJ13_newLength 22 = .ok (.iload_n 1, 1) := dk_27 (dk_at dksJ13_newLength_0 22 rfl rfl)
theorem dJ13_newLength_23 : decode cJ13_newLength 23 = .ok (.invokestatic 201, 3) := dk_184 0 201 (dk_at dksJ13_newLength_1 0 rfl rfl)
theorem dJ13_newLength_26 : decode cJ13_newLength 26 = .ok (.ireturn, 1) := dk_172 (dk_at dksJ13_newLength_1 3 rfl rfl)
abbrev cJ13_hugeLength : ByteArray := prog_55_method_28_code
def yJ13_hugeLength : MethodName := ⟨RJ13, "hugeLength", "(II)I"⟩
def dkwJ13_hugeLength_2 : List UInt8 := [191, 28, 18, 200, 163, 0, 6, 18, 200, 172, 28, 172]
abbrev dktJ13_hugeLength_2 : List UInt8 := dkwJ13_hugeLength_2 ++ []
def dkwJ13_hugeLength_1 : List UInt8 := [26, 182, 0, 98, 18, 208, 182, 0, 94, 27, 182, 0, 98, 18, 210, 182, 0, 94, 182, 0, 101, 183, 0, 212]
abbrev dktJ13_hugeLength_1 : List UInt8 := dkwJ13_hugeLength_1 ++ dktJ13_hugeLength_2
def dkwJ13_hugeLength_0 : List UInt8 := [26, 27, 96, 61, 28, 156, 0, 44, 187, 0, 204, 89, 187, 0, 89, 89, 183, 0, 91, 18, 206, 182, 0, 94]
abbrev dktJ13_hugeLength_0 : List UInt8 := dkwJ13_hugeLength_0 ++ dktJ13_hugeLength_1
theorem dksJ13_hugeLength_0 : cJ13_hugeLength.data.toList.drop 0 = dktJ13_hugeLength_0 := by decide +kernel
theorem dksJ13_hugeLength_1 : cJ13_hugeLength.data.toList.drop 24 = dktJ13_hugeLength_1 := dk_seg dksJ13_hugeLength_0 24 rfl rfl
theorem dksJ13_hugeLength_2 : cJ13_hugeLength.data.toList.drop 48 = dktJ13_hugeLength_2 := dk_seg dksJ13_hugeLength_1 24 rfl rfl
theorem dJ13_hugeLength_0 : decode cJ13_hugeLength 0 = .ok (.iload_n 0, 1) := dk_26 (dk_at dksJ13_hugeLength_0 0 rfl rfl)
theorem dJ13_hugeLength_1 : decode cJ13_hugeLength 1 = .ok (.iload_n 1, 1) := dk_27 (dk_at dksJ13_hugeLength_0 1 rfl rfl)
theorem dJ13_hugeLength_2 : decode cJ13_hugeLength 2 = .ok (.iadd, 1) := dk_96 (dk_at dksJ13_hugeLength_0 2 rfl rfl)
theorem dJ13_hugeLength_3 : decode cJ13_hugeLength 3 = .ok (.istore_n 2, 1) := dk_61 (dk_at dksJ13_hugeLength_0 3 rfl rfl)
theorem dJ13_hugeLength_4 : decode cJ13_hugeLength 4 = .ok (.iload_n 2, 1) := dk_28 (dk_at dksJ13_hugeLength_0 4 rfl rfl)
theorem dJ13_hugeLength_5 : decode cJ13_hugeLength 5 = .ok (.ifCond .ge 44, 3) := dk_156 0 44 (dk_at dksJ13_hugeLength_0 5 rfl rfl)
theorem dJ13_hugeLength_8 : decode cJ13_hugeLength 8 = .ok (.new 204, 3) := dk_187 0 204 (dk_at dksJ13_hugeLength_0 8 rfl rfl)
theorem dJ13_hugeLength_11 : decode cJ13_hugeLength 11 = .ok (.dup, 1) := dk_89 (dk_at dksJ13_hugeLength_0 11 rfl rfl)
theorem dJ13_hugeLength_12 : decode cJ13_hugeLength 12 = .ok (.new 89, 3) := dk_187 0 89 (dk_at dksJ13_hugeLength_0 12 rfl rfl)
theorem dJ13_hugeLength_15 : decode cJ13_hugeLength 15 = .ok (.dup, 1) := dk_89 (dk_at dksJ13_hugeLength_0 15 rfl rfl)
theorem dJ13_hugeLength_16 : decode cJ13_hugeLength 16 = .ok (.invokespecial 91, 3) := dk_183 0 91 (dk_at dksJ13_hugeLength_0 16 rfl rfl)
theorem dJ13_hugeLength_19 : decode cJ13_hugeLength 19 = .ok (.ldc 206, 2) := dk_18 206 (dk_at dksJ13_hugeLength_0 19 rfl rfl)
theorem dJ13_hugeLength_21 : decode cJ13_hugeLength 21 = .ok (.invokevirtual 94, 3) := dk_182 0 94 (dk_at dksJ13_hugeLength_0 21 rfl rfl)
theorem dJ13_hugeLength_24 : decode cJ13_hugeLength 24 = .ok (.iload_n 0, 1) := dk_26 (dk_at dksJ13_hugeLength_1 0 rfl rfl)
theorem dJ13_hugeLength_25 : decode cJ13_hugeLength 25 = .ok (.invokevirtual 98, 3) := dk_182 0 98 (dk_at dksJ13_hugeLength_1 1 rfl rfl)
theorem dJ13_hugeLength_28 : decode cJ13_hugeLength 28 = .ok (.ldc 208, 2) := dk_18 208 (dk_at dksJ13_hugeLength_1 4 rfl rfl)
theorem dJ13_hugeLength_30 : decode cJ13_hugeLength 30 = .ok (.invokevirtual 94, 3) := dk_182 0 94 (dk_at dksJ13_hugeLength_1 6 rfl rfl)
theorem dJ13_hugeLength_33 : decode cJ13_hugeLength 33 = .ok (.iload_n 1, 1) := dk_27 (dk_at dksJ13_hugeLength_1 9 rfl rfl)
theorem dJ13_hugeLength_34 : decode cJ13_hugeLength 34 = .ok (.invokevirtual 98, 3) := dk_182 0 98 (dk_at dksJ13_hugeLength_1 10 rfl rfl)
theorem dJ13_hugeLength_37 : decode cJ13_hugeLength 37 = .ok (.ldc 210, 2) := dk_18 210 (dk_at dksJ13_hugeLength_1 13 rfl rfl)
theorem dJ13_hugeLength_39 : decode cJ13_hugeLength 39 = .ok (.invokevirtual 94, 3) := dk_182 0 94 (dk_at dksJ13_hugeLength_1 15 rfl rfl)
theorem dJ13_hugeLength_42 : decode cJ13_hugeLength 42 = .ok (.invokevirtual 101, 3) := dk_182 0 101 (dk_at dksJ13_hugeLength_1 18 rfl rfl)
theorem dJ13_hugeLength_45 : decode cJ13_hugeLength 45 = .ok (.invokespecial 212, 3) := dk_183 0 212 (dk_at dksJ13_hugeLength_1 21 rfl rfl)
theorem dJ13_hugeLength_48 : decode cJ13_hugeLength 48 = .ok (.athrow, 1) := dk_191 (dk_at dksJ13_hugeLength_2 0 rfl rfl)
theorem dJ13_hugeLength_49 : decode cJ13_hugeLength 49 = .ok (.iload_n 2, 1) := dk_28 (dk_at dksJ13_hugeLength_2 1 rfl rfl)
theorem dJ13_hugeLength_50 : decode cJ13_hugeLength 50 = .ok (.ldc 200, 2) := dk_18 200 (dk_at dksJ13_hugeLength_2 2 rfl rfl)
theorem dJ13_hugeLength_52 : decode cJ13_hugeLength 52 = .ok (.if_icmp .gt 6, 3) := dk_163 0 6 (dk_at dksJ13_hugeLength_2 4 rfl rfl)
theorem dJ13_hugeLength_55 : decode cJ13_hugeLength 55 = .ok (.ldc 200, 2) := dk_18 200 (dk_at dksJ13_hugeLength_2 7 rfl rfl)
theorem dJ13_hugeLength_57 : decode cJ13_hugeLength 57 = .ok (.ireturn, 1) := dk_172 (dk_at dksJ13_hugeLength_2 9 rfl rfl)
theorem dJ13_hugeLength_58 : decode cJ13_hugeLength 58 = .ok (.iload_n 2, 1) := dk_28 (dk_at dksJ13_hugeLength_2 10 rfl rfl)
theorem dJ13_hugeLength_59 : decode cJ13_hugeLength 59 = .ok (.ireturn, 1) := dk_172 (dk_at dksJ13_hugeLength_2 11 rfl rfl)
abbrev cJ13_vectorizedHashCode : ByteArray := prog_55_method_4_code
def yJ13_vectorizedHashCode : MethodName := ⟨RJ13, "vectorizedHashCode", "(Ljava/lang/Object;IIII)I"⟩
def dkwJ13_vectorizedHashCode_6 : List UInt8 := [183, 0, 91, 18, 92, 182, 0, 94, 21, 4, 182, 0, 98, 182, 0, 101, 183, 0, 105, 191, 172]
abbrev dktJ13_vectorizedHashCode_6 : List UInt8 := dkwJ13_vectorizedHashCode_6 ++ []
def dkwJ13_vectorizedHashCode_5 : List UInt8 := [167, 0, 44, 29, 42, 192, 0, 82, 27, 28, 184, 0, 84, 167, 0, 31, 187, 0, 87, 89, 187, 0, 89, 89]
abbrev dktJ13_vectorizedHashCode_5 : List UInt8 := dkwJ13_vectorizedHashCode_5 ++ dktJ13_vectorizedHashCode_6
def dkwJ13_vectorizedHashCode_4 : List UInt8 := [29, 42, 192, 0, 60, 27, 28, 184, 0, 75, 167, 0, 57, 29, 42, 192, 0, 77, 27, 28, 184, 0, 79]
abbrev dktJ13_vectorizedHashCode_4 : List UInt8 := dkwJ13_vectorizedHashCode_4 ++ dktJ13_vectorizedHashCode_5
def dkwJ13_vectorizedHashCode_3 : List UInt8 := [192, 0, 60, 27, 28, 184, 0, 66, 167, 0, 83, 29, 42, 192, 0, 69, 27, 28, 184, 0, 71, 167, 0, 70]
abbrev dktJ13_vectorizedHashCode_3 : List UInt8 := dkwJ13_vectorizedHashCode_3 ++ dktJ13_vectorizedHashCode_4
def dkwJ13_vectorizedHashCode_2 : List UInt8 := [29, 42, 192, 0, 60, 27, 28, 184, 0, 62, 167, 0, 103, 42, 193, 0, 60, 153, 0, 16, 29, 42]
abbrev dktJ13_vectorizedHashCode_2 : List UInt8 := dkwJ13_vectorizedHashCode_2 ++ dktJ13_vectorizedHashCode_3
def dkwJ13_vectorizedHashCode_1 : List UInt8 := [170, 0, 0, 0, 0, 127, 0, 0, 0, 4, 0, 0, 0, 10, 0, 0, 0, 42, 0, 0, 0, 55, 0, 0, 0, 127, 0, 0, 0, 127, 0, 0, 0, 88, 0, 0, 0, 101, 0, 0, 0, 114]
abbrev dktJ13_vectorizedHashCode_1 : List UInt8 := dkwJ13_vectorizedHashCode_1 ++ dktJ13_vectorizedHashCode_2
def dkwJ13_vectorizedHashCode_0 : List UInt8 := [21, 4]
abbrev dktJ13_vectorizedHashCode_0 : List UInt8 := dkwJ13_vectorizedHashCode_0 ++ dktJ13_vectorizedHashCode_1
theorem dksJ13_vectorizedHashCode_0 : cJ13_vectorizedHashCode.data.toList.drop 0 = dktJ13_vectorizedHashCode_0 := by decide +kernel
theorem dksJ13_vectorizedHashCode_1 : cJ13_vectorizedHashCode.data.toList.drop 2 = dktJ13_vectorizedHashCode_1 := dk_seg dksJ13_vectorizedHashCode_0 2 rfl rfl
theorem dksJ13_vectorizedHashCode_2 : cJ13_vectorizedHashCode.data.toList.drop 44 = dktJ13_vectorizedHashCode_2 := dk_seg dksJ13_vectorizedHashCode_1 42 rfl rfl
theorem dksJ13_vectorizedHashCode_3 : cJ13_vectorizedHashCode.data.toList.drop 66 = dktJ13_vectorizedHashCode_3 := dk_seg dksJ13_vectorizedHashCode_2 22 rfl rfl
theorem dksJ13_vectorizedHashCode_4 : cJ13_vectorizedHashCode.data.toList.drop 90 = dktJ13_vectorizedHashCode_4 := dk_seg dksJ13_vectorizedHashCode_3 24 rfl rfl
theorem dksJ13_vectorizedHashCode_5 : cJ13_vectorizedHashCode.data.toList.drop 113 = dktJ13_vectorizedHashCode_5 := dk_seg dksJ13_vectorizedHashCode_4 23 rfl rfl
theorem dksJ13_vectorizedHashCode_6 : cJ13_vectorizedHashCode.data.toList.drop 137 = dktJ13_vectorizedHashCode_6 := dk_seg dksJ13_vectorizedHashCode_5 24 rfl rfl
theorem dJ13_vectorizedHashCode_0 : decode cJ13_vectorizedHashCode 0 = .ok (.iload 4, 2) := dk_21 4 (dk_at dksJ13_vectorizedHashCode_0 0 rfl rfl)
theorem dJ13_vectorizedHashCode_2 : decode cJ13_vectorizedHashCode 2 = .ok (.tableswitch 127 4 10 #[42, 55, 127, 127, 88, 101, 114], 42) := by decide +kernel
theorem dJ13_vectorizedHashCode_44 : decode cJ13_vectorizedHashCode 44 = .ok (.iload_n 3, 1) := dk_29 (dk_at dksJ13_vectorizedHashCode_2 0 rfl rfl)
theorem dJ13_vectorizedHashCode_45 : decode cJ13_vectorizedHashCode 45 = .ok (.aload_n 0, 1) := dk_42 (dk_at dksJ13_vectorizedHashCode_2 1 rfl rfl)
theorem dJ13_vectorizedHashCode_46 : decode cJ13_vectorizedHashCode 46 = .ok (.checkcast 60, 3) := dk_192 0 60 (dk_at dksJ13_vectorizedHashCode_2 2 rfl rfl)
theorem dJ13_vectorizedHashCode_49 : decode cJ13_vectorizedHashCode 49 = .ok (.iload_n 1, 1) := dk_27 (dk_at dksJ13_vectorizedHashCode_2 5 rfl rfl)
theorem dJ13_vectorizedHashCode_50 : decode cJ13_vectorizedHashCode 50 = .ok (.iload_n 2, 1) := dk_28 (dk_at dksJ13_vectorizedHashCode_2 6 rfl rfl)
theorem dJ13_vectorizedHashCode_51 : decode cJ13_vectorizedHashCode 51 = .ok (.invokestatic 62, 3) := dk_184 0 62 (dk_at dksJ13_vectorizedHashCode_2 7 rfl rfl)
theorem dJ13_vectorizedHashCode_54 : decode cJ13_vectorizedHashCode 54 = .ok (.goto 103, 3) := dk_167 0 103 (dk_at dksJ13_vectorizedHashCode_2 10 rfl rfl)
theorem dJ13_vectorizedHashCode_57 : decode cJ13_vectorizedHashCode 57 = .ok (.aload_n 0, 1) := dk_42 (dk_at dksJ13_vectorizedHashCode_2 13 rfl rfl)
theorem dJ13_vectorizedHashCode_58 : decode cJ13_vectorizedHashCode 58 = .ok (.instanceof 60, 3) := dk_193 0 60 (dk_at dksJ13_vectorizedHashCode_2 14 rfl rfl)
theorem dJ13_vectorizedHashCode_61 : decode cJ13_vectorizedHashCode 61 = .ok (.ifCond .eq 16, 3) := dk_153 0 16 (dk_at dksJ13_vectorizedHashCode_2 17 rfl rfl)
theorem dJ13_vectorizedHashCode_64 : decode cJ13_vectorizedHashCode 64 = .ok (.iload_n 3, 1) := dk_29 (dk_at dksJ13_vectorizedHashCode_2 20 rfl rfl)
theorem dJ13_vectorizedHashCode_65 : decode cJ13_vectorizedHashCode 65 = .ok (.aload_n 0, 1) := dk_42 (dk_at dksJ13_vectorizedHashCode_2 21 rfl rfl)
theorem dJ13_vectorizedHashCode_66 : decode cJ13_vectorizedHashCode 66 = .ok (.checkcast 60, 3) := dk_192 0 60 (dk_at dksJ13_vectorizedHashCode_3 0 rfl rfl)
theorem dJ13_vectorizedHashCode_69 : decode cJ13_vectorizedHashCode 69 = .ok (.iload_n 1, 1) := dk_27 (dk_at dksJ13_vectorizedHashCode_3 3 rfl rfl)
theorem dJ13_vectorizedHashCode_70 : decode cJ13_vectorizedHashCode 70 = .ok (.iload_n 2, 1) := dk_28 (dk_at dksJ13_vectorizedHashCode_3 4 rfl rfl)
theorem dJ13_vectorizedHashCode_71 : decode cJ13_vectorizedHashCode 71 = .ok (.invokestatic 66, 3) := dk_184 0 66 (dk_at dksJ13_vectorizedHashCode_3 5 rfl rfl)
theorem dJ13_vectorizedHashCode_74 : decode cJ13_vectorizedHashCode 74 = .ok (.goto 83, 3) := dk_167 0 83 (dk_at dksJ13_vectorizedHashCode_3 8 rfl rfl)
theorem dJ13_vectorizedHashCode_77 : decode cJ13_vectorizedHashCode 77 = .ok (.iload_n 3, 1) := dk_29 (dk_at dksJ13_vectorizedHashCode_3 11 rfl rfl)
theorem dJ13_vectorizedHashCode_78 : decode cJ13_vectorizedHashCode 78 = .ok (.aload_n 0, 1) := dk_42 (dk_at dksJ13_vectorizedHashCode_3 12 rfl rfl)
theorem dJ13_vectorizedHashCode_79 : decode cJ13_vectorizedHashCode 79 = .ok (.checkcast 69, 3) := dk_192 0 69 (dk_at dksJ13_vectorizedHashCode_3 13 rfl rfl)
theorem dJ13_vectorizedHashCode_82 : decode cJ13_vectorizedHashCode 82 = .ok (.iload_n 1, 1) := dk_27 (dk_at dksJ13_vectorizedHashCode_3 16 rfl rfl)
theorem dJ13_vectorizedHashCode_83 : decode cJ13_vectorizedHashCode 83 = .ok (.iload_n 2, 1) := dk_28 (dk_at dksJ13_vectorizedHashCode_3 17 rfl rfl)
theorem dJ13_vectorizedHashCode_84 : decode cJ13_vectorizedHashCode 84 = .ok (.invokestatic 71, 3) := dk_184 0 71 (dk_at dksJ13_vectorizedHashCode_3 18 rfl rfl)
theorem dJ13_vectorizedHashCode_87 : decode cJ13_vectorizedHashCode 87 = .ok (.goto 70, 3) := dk_167 0 70 (dk_at dksJ13_vectorizedHashCode_3 21 rfl rfl)
theorem dJ13_vectorizedHashCode_90 : decode cJ13_vectorizedHashCode 90 = .ok (.iload_n 3, 1) := dk_29 (dk_at dksJ13_vectorizedHashCode_4 0 rfl rfl)
theorem dJ13_vectorizedHashCode_91 : decode cJ13_vectorizedHashCode 91 = .ok (.aload_n 0, 1) := dk_42 (dk_at dksJ13_vectorizedHashCode_4 1 rfl rfl)
theorem dJ13_vectorizedHashCode_92 : decode cJ13_vectorizedHashCode 92 = .ok (.checkcast 60, 3) := dk_192 0 60 (dk_at dksJ13_vectorizedHashCode_4 2 rfl rfl)
theorem dJ13_vectorizedHashCode_95 : decode cJ13_vectorizedHashCode 95 = .ok (.iload_n 1, 1) := dk_27 (dk_at dksJ13_vectorizedHashCode_4 5 rfl rfl)
theorem dJ13_vectorizedHashCode_96 : decode cJ13_vectorizedHashCode 96 = .ok (.iload_n 2, 1) := dk_28 (dk_at dksJ13_vectorizedHashCode_4 6 rfl rfl)
theorem dJ13_vectorizedHashCode_97 : decode cJ13_vectorizedHashCode 97 = .ok (.invokestatic 75, 3) := dk_184 0 75 (dk_at dksJ13_vectorizedHashCode_4 7 rfl rfl)
theorem dJ13_vectorizedHashCode_100 : decode cJ13_vectorizedHashCode 100 = .ok (.goto 57, 3) := dk_167 0 57 (dk_at dksJ13_vectorizedHashCode_4 10 rfl rfl)
theorem dJ13_vectorizedHashCode_103 : decode cJ13_vectorizedHashCode 103 = .ok (.iload_n 3, 1) := dk_29 (dk_at dksJ13_vectorizedHashCode_4 13 rfl rfl)
theorem dJ13_vectorizedHashCode_104 : decode cJ13_vectorizedHashCode 104 = .ok (.aload_n 0, 1) := dk_42 (dk_at dksJ13_vectorizedHashCode_4 14 rfl rfl)
theorem dJ13_vectorizedHashCode_105 : decode cJ13_vectorizedHashCode 105 = .ok (.checkcast 77, 3) := dk_192 0 77 (dk_at dksJ13_vectorizedHashCode_4 15 rfl rfl)
theorem dJ13_vectorizedHashCode_108 : decode cJ13_vectorizedHashCode 108 = .ok (.iload_n 1, 1) := dk_27 (dk_at dksJ13_vectorizedHashCode_4 18 rfl rfl)
theorem dJ13_vectorizedHashCode_109 : decode cJ13_vectorizedHashCode 109 = .ok (.iload_n 2, 1) := dk_28 (dk_at dksJ13_vectorizedHashCode_4 19 rfl rfl)
theorem dJ13_vectorizedHashCode_110 : decode cJ13_vectorizedHashCode 110 = .ok (.invokestatic 79, 3) := dk_184 0 79 (dk_at dksJ13_vectorizedHashCode_4 20 rfl rfl)
theorem dJ13_vectorizedHashCode_113 : decode cJ13_vectorizedHashCode 113 = .ok (.goto 44, 3) := dk_167 0 44 (dk_at dksJ13_vectorizedHashCode_5 0 rfl rfl)
theorem dJ13_vectorizedHashCode_116 : decode cJ13_vectorizedHashCode 116 = .ok (.iload_n 3, 1) := dk_29 (dk_at dksJ13_vectorizedHashCode_5 3 rfl rfl)
theorem dJ13_vectorizedHashCode_117 : decode cJ13_vectorizedHashCode 117 = .ok (.aload_n 0, 1) := dk_42 (dk_at dksJ13_vectorizedHashCode_5 4 rfl rfl)
theorem dJ13_vectorizedHashCode_118 : decode cJ13_vectorizedHashCode 118 = .ok (.checkcast 82, 3) := dk_192 0 82 (dk_at dksJ13_vectorizedHashCode_5 5 rfl rfl)
theorem dJ13_vectorizedHashCode_121 : decode cJ13_vectorizedHashCode 121 = .ok (.iload_n 1, 1) := dk_27 (dk_at dksJ13_vectorizedHashCode_5 8 rfl rfl)
theorem dJ13_vectorizedHashCode_122 : decode cJ13_vectorizedHashCode 122 = .ok (.iload_n 2, 1) := dk_28 (dk_at dksJ13_vectorizedHashCode_5 9 rfl rfl)
theorem dJ13_vectorizedHashCode_123 : decode cJ13_vectorizedHashCode 123 = .ok (.invokestatic 84, 3) := dk_184 0 84 (dk_at dksJ13_vectorizedHashCode_5 10 rfl rfl)
theorem dJ13_vectorizedHashCode_126 : decode cJ13_vectorizedHashCode 126 = .ok (.goto 31, 3) := dk_167 0 31 (dk_at dksJ13_vectorizedHashCode_5 13 rfl rfl)
theorem dJ13_vectorizedHashCode_129 : decode cJ13_vectorizedHashCode 129 = .ok (.new 87, 3) := dk_187 0 87 (dk_at dksJ13_vectorizedHashCode_5 16 rfl rfl)
theorem dJ13_vectorizedHashCode_132 : decode cJ13_vectorizedHashCode 132 = .ok (.dup, 1) := dk_89 (dk_at dksJ13_vectorizedHashCode_5 19 rfl rfl)
theorem dJ13_vectorizedHashCode_133 : decode cJ13_vectorizedHashCode 133 = .ok (.new 89, 3) := dk_187 0 89 (dk_at dksJ13_vectorizedHashCode_5 20 rfl rfl)
theorem dJ13_vectorizedHashCode_136 : decode cJ13_vectorizedHashCode 136 = .ok (.dup, 1) := dk_89 (dk_at dksJ13_vectorizedHashCode_5 23 rfl rfl)
theorem dJ13_vectorizedHashCode_137 : decode cJ13_vectorizedHashCode 137 = .ok (.invokespecial 91, 3) := dk_183 0 91 (dk_at dksJ13_vectorizedHashCode_6 0 rfl rfl)
theorem dJ13_vectorizedHashCode_140 : decode cJ13_vectorizedHashCode 140 = .ok (.ldc 92, 2) := dk_18 92 (dk_at dksJ13_vectorizedHashCode_6 3 rfl rfl)
theorem dJ13_vectorizedHashCode_142 : decode cJ13_vectorizedHashCode 142 = .ok (.invokevirtual 94, 3) := dk_182 0 94 (dk_at dksJ13_vectorizedHashCode_6 5 rfl rfl)
theorem dJ13_vectorizedHashCode_145 : decode cJ13_vectorizedHashCode 145 = .ok (.iload 4, 2) := dk_21 4 (dk_at dksJ13_vectorizedHashCode_6 8 rfl rfl)
theorem dJ13_vectorizedHashCode_147 : decode cJ13_vectorizedHashCode 147 = .ok (.invokevirtual 98, 3) := dk_182 0 98 (dk_at dksJ13_vectorizedHashCode_6 10 rfl rfl)
theorem dJ13_vectorizedHashCode_150 : decode cJ13_vectorizedHashCode 150 = .ok (.invokevirtual 101, 3) := dk_182 0 101 (dk_at dksJ13_vectorizedHashCode_6 13 rfl rfl)
theorem dJ13_vectorizedHashCode_153 : decode cJ13_vectorizedHashCode 153 = .ok (.invokespecial 105, 3) := dk_183 0 105 (dk_at dksJ13_vectorizedHashCode_6 16 rfl rfl)
theorem dJ13_vectorizedHashCode_156 : decode cJ13_vectorizedHashCode 156 = .ok (.athrow, 1) := dk_191 (dk_at dksJ13_vectorizedHashCode_6 19 rfl rfl)
theorem dJ13_vectorizedHashCode_157 : decode cJ13_vectorizedHashCode 157 = .ok (.ireturn, 1) := dk_172 (dk_at dksJ13_vectorizedHashCode_6 20 rfl rfl)
abbrev cJ13_signedHashCode : ByteArray := prog_55_method_5_code
def yJ13_signedHashCode : MethodName := ⟨RJ13, "signedHashCode", "(I[BII)I"⟩
def dkwJ13_signedHashCode_1 : List UInt8 := [17, 0, 255, 126, 96, 59, 132, 5, 1, 167, 255, 232, 26, 172]
abbrev dktJ13_signedHashCode_1 : List UInt8 := dkwJ13_signedHashCode_1 ++ []
def dkwJ13_signedHashCode_0 : List UInt8 := [28, 29, 96, 54, 4, 28, 54, 5, 21, 5, 21, 4, 162, 0, 23, 16, 31, 26, 104, 43, 21, 5, 51]
abbrev dktJ13_signedHashCode_0 : List UInt8 := dkwJ13_signedHashCode_0 ++ dktJ13_signedHashCode_1
theorem dksJ13_signedHashCode_0 : cJ13_signedHashCode.data.toList.drop 0 = dktJ13_signedHashCode_0 := by decide +kernel
theorem dksJ13_signedHashCode_1 : cJ13_signedHashCode.data.toList.drop 23 = dktJ13_signedHashCode_1 := dk_seg dksJ13_signedHashCode_0 23 rfl rfl
theorem dJ13_signedHashCode_0 : decode cJ13_signedHashCode 0 = .ok (.iload_n 2, 1) := dk_28 (dk_at dksJ13_signedHashCode_0 0 rfl rfl)
theorem dJ13_signedHashCode_1 : decode cJ13_signedHashCode 1 = .ok (.iload_n 3, 1) := dk_29 (dk_at dksJ13_signedHashCode_0 1 rfl rfl)
theorem dJ13_signedHashCode_2 : decode cJ13_signedHashCode 2 = .ok (.iadd, 1) := dk_96 (dk_at dksJ13_signedHashCode_0 2 rfl rfl)
theorem dJ13_signedHashCode_3 : decode cJ13_signedHashCode 3 = .ok (.istore 4, 2) := dk_54 4 (dk_at dksJ13_signedHashCode_0 3 rfl rfl)
theorem dJ13_signedHashCode_5 : decode cJ13_signedHashCode 5 = .ok (.iload_n 2, 1) := dk_28 (dk_at dksJ13_signedHashCode_0 5 rfl rfl)
theorem dJ13_signedHashCode_6 : decode cJ13_signedHashCode 6 = .ok (.istore 5, 2) := dk_54 5 (dk_at dksJ13_signedHashCode_0 6 rfl rfl)
theorem dJ13_signedHashCode_8 : decode cJ13_signedHashCode 8 = .ok (.iload 5, 2) := dk_21 5 (dk_at dksJ13_signedHashCode_0 8 rfl rfl)
theorem dJ13_signedHashCode_10 : decode cJ13_signedHashCode 10 = .ok (.iload 4, 2) := dk_21 4 (dk_at dksJ13_signedHashCode_0 10 rfl rfl)
theorem dJ13_signedHashCode_12 : decode cJ13_signedHashCode 12 = .ok (.if_icmp .ge 23, 3) := dk_162 0 23 (dk_at dksJ13_signedHashCode_0 12 rfl rfl)
theorem dJ13_signedHashCode_15 : decode cJ13_signedHashCode 15 = .ok (.bipush 31, 2) := dk_16 31 (dk_at dksJ13_signedHashCode_0 15 rfl rfl)
theorem dJ13_signedHashCode_17 : decode cJ13_signedHashCode 17 = .ok (.iload_n 0, 1) := dk_26 (dk_at dksJ13_signedHashCode_0 17 rfl rfl)
theorem dJ13_signedHashCode_18 : decode cJ13_signedHashCode 18 = .ok (.imul, 1) := dk_104 (dk_at dksJ13_signedHashCode_0 18 rfl rfl)
theorem dJ13_signedHashCode_19 : decode cJ13_signedHashCode 19 = .ok (.aload_n 1, 1) := dk_43 (dk_at dksJ13_signedHashCode_0 19 rfl rfl)
theorem dJ13_signedHashCode_20 : decode cJ13_signedHashCode 20 = .ok (.iload 5, 2) := dk_21 5 (dk_at dksJ13_signedHashCode_0 20 rfl rfl)
theorem dJ13_signedHashCode_22 : decode cJ13_signedHashCode 22 = .ok (.baload, 1) := dk_51 (dk_at dksJ13_signedHashCode_0 22 rfl rfl)
theorem dJ13_signedHashCode_23 : decode cJ13_signedHashCode 23 = .ok (.sipush 255, 3) := dk_17 0 255 (dk_at dksJ13_signedHashCode_1 0 rfl rfl)
theorem dJ13_signedHashCode_26 : decode cJ13_signedHashCode 26 = .ok (.iand, 1) := dk_126 (dk_at dksJ13_signedHashCode_1 3 rfl rfl)
theorem dJ13_signedHashCode_27 : decode cJ13_signedHashCode 27 = .ok (.iadd, 1) := dk_96 (dk_at dksJ13_signedHashCode_1 4 rfl rfl)
theorem dJ13_signedHashCode_28 : decode cJ13_signedHashCode 28 = .ok (.istore_n 0, 1) := dk_59 (dk_at dksJ13_signedHashCode_1 5 rfl rfl)
theorem dJ13_signedHashCode_29 : decode cJ13_signedHashCode 29 = .ok (.iinc 5 1, 3) := dk_132 5 1 (dk_at dksJ13_signedHashCode_1 6 rfl rfl)
theorem dJ13_signedHashCode_32 : decode cJ13_signedHashCode 32 = .ok (.goto (-24), 3) := dk_167 255 232 (dk_at dksJ13_signedHashCode_1 9 rfl rfl)
theorem dJ13_signedHashCode_35 : decode cJ13_signedHashCode 35 = .ok (.iload_n 0, 1) := dk_26 (dk_at dksJ13_signedHashCode_1 12 rfl rfl)
theorem dJ13_signedHashCode_36 : decode cJ13_signedHashCode 36 = .ok (.ireturn, 1) := dk_172 (dk_at dksJ13_signedHashCode_1 13 rfl rfl)
abbrev cJ13_utf16hashCode : ByteArray := prog_55_method_10_code
def yJ13_utf16hashCode : MethodName := ⟨RJ13, "utf16hashCode", "(I[BII)I"⟩
def dkwJ13_utf16hashCode_1 : List UInt8 := [21, 5, 185, 0, 110, 3, 0, 96, 59, 132, 5, 1, 167, 255, 229, 26, 172]
abbrev dktJ13_utf16hashCode_1 : List UInt8 := dkwJ13_utf16hashCode_1 ++ []
def dkwJ13_utf16hashCode_0 : List UInt8 := [28, 29, 96, 54, 4, 28, 54, 5, 21, 5, 21, 4, 162, 0, 26, 16, 31, 26, 104, 178, 0, 106, 43]
abbrev dktJ13_utf16hashCode_0 : List UInt8 := dkwJ13_utf16hashCode_0 ++ dktJ13_utf16hashCode_1
theorem dksJ13_utf16hashCode_0 : cJ13_utf16hashCode.data.toList.drop 0 = dktJ13_utf16hashCode_0 := by decide +kernel
theorem dksJ13_utf16hashCode_1 : cJ13_utf16hashCode.data.toList.drop 23 = dktJ13_utf16hashCode_1 := dk_seg dksJ13_utf16hashCode_0 23 rfl rfl
theorem dJ13_utf16hashCode_0 : decode cJ13_utf16hashCode 0 = .ok (.iload_n 2, 1) := dk_28 (dk_at dksJ13_utf16hashCode_0 0 rfl rfl)
theorem dJ13_utf16hashCode_1 : decode cJ13_utf16hashCode 1 = .ok (.iload_n 3, 1) := dk_29 (dk_at dksJ13_utf16hashCode_0 1 rfl rfl)
theorem dJ13_utf16hashCode_2 : decode cJ13_utf16hashCode 2 = .ok (.iadd, 1) := dk_96 (dk_at dksJ13_utf16hashCode_0 2 rfl rfl)
theorem dJ13_utf16hashCode_3 : decode cJ13_utf16hashCode 3 = .ok (.istore 4, 2) := dk_54 4 (dk_at dksJ13_utf16hashCode_0 3 rfl rfl)
theorem dJ13_utf16hashCode_5 : decode cJ13_utf16hashCode 5 = .ok (.iload_n 2, 1) := dk_28 (dk_at dksJ13_utf16hashCode_0 5 rfl rfl)
theorem dJ13_utf16hashCode_6 : decode cJ13_utf16hashCode 6 = .ok (.istore 5, 2) := dk_54 5 (dk_at dksJ13_utf16hashCode_0 6 rfl rfl)
theorem dJ13_utf16hashCode_8 : decode cJ13_utf16hashCode 8 = .ok (.iload 5, 2) := dk_21 5 (dk_at dksJ13_utf16hashCode_0 8 rfl rfl)
theorem dJ13_utf16hashCode_10 : decode cJ13_utf16hashCode 10 = .ok (.iload 4, 2) := dk_21 4 (dk_at dksJ13_utf16hashCode_0 10 rfl rfl)
theorem dJ13_utf16hashCode_12 : decode cJ13_utf16hashCode 12 = .ok (.if_icmp .ge 26, 3) := dk_162 0 26 (dk_at dksJ13_utf16hashCode_0 12 rfl rfl)
theorem dJ13_utf16hashCode_15 : decode cJ13_utf16hashCode 15 = .ok (.bipush 31, 2) := dk_16 31 (dk_at dksJ13_utf16hashCode_0 15 rfl rfl)
theorem dJ13_utf16hashCode_17 : decode cJ13_utf16hashCode 17 = .ok (.iload_n 0, 1) := dk_26 (dk_at dksJ13_utf16hashCode_0 17 rfl rfl)
theorem dJ13_utf16hashCode_18 : decode cJ13_utf16hashCode 18 = .ok (.imul, 1) := dk_104 (dk_at dksJ13_utf16hashCode_0 18 rfl rfl)
theorem dJ13_utf16hashCode_19 : decode cJ13_utf16hashCode 19 = .ok (.getstatic 106, 3) := dk_178 0 106 (dk_at dksJ13_utf16hashCode_0 19 rfl rfl)
theorem dJ13_utf16hashCode_22 : decode cJ13_utf16hashCode 22 = .ok (.aload_n 1, 1) := dk_43 (dk_at dksJ13_utf16hashCode_0 22 rfl rfl)
theorem dJ13_utf16hashCode_23 : decode cJ13_utf16hashCode 23 = .ok (.iload 5, 2) := dk_21 5 (dk_at dksJ13_utf16hashCode_1 0 rfl rfl)
theorem dJ13_utf16hashCode_25 : decode cJ13_utf16hashCode 25 = .ok (.invokeinterface 110 3, 5) := by decide +kernel
theorem dJ13_utf16hashCode_30 : decode cJ13_utf16hashCode 30 = .ok (.iadd, 1) := dk_96 (dk_at dksJ13_utf16hashCode_1 7 rfl rfl)
theorem dJ13_utf16hashCode_31 : decode cJ13_utf16hashCode 31 = .ok (.istore_n 0, 1) := dk_59 (dk_at dksJ13_utf16hashCode_1 8 rfl rfl)
theorem dJ13_utf16hashCode_32 : decode cJ13_utf16hashCode 32 = .ok (.iinc 5 1, 3) := dk_132 5 1 (dk_at dksJ13_utf16hashCode_1 9 rfl rfl)
theorem dJ13_utf16hashCode_35 : decode cJ13_utf16hashCode 35 = .ok (.goto (-27), 3) := dk_167 255 229 (dk_at dksJ13_utf16hashCode_1 12 rfl rfl)
theorem dJ13_utf16hashCode_38 : decode cJ13_utf16hashCode 38 = .ok (.iload_n 0, 1) := dk_26 (dk_at dksJ13_utf16hashCode_1 15 rfl rfl)
theorem dJ13_utf16hashCode_39 : decode cJ13_utf16hashCode 39 = .ok (.ireturn, 1) := dk_172 (dk_at dksJ13_utf16hashCode_1 16 rfl rfl)
abbrev cJ13_hashCode : ByteArray := prog_55_method_7_code
def yJ13_hashCode : MethodName := ⟨RJ13, "hashCode", "(I[CII)I"⟩
def dkwJ13_hashCode_1 : List UInt8 := [59, 132, 5, 1, 167, 255, 236, 26, 172]
abbrev dktJ13_hashCode_1 : List UInt8 := dkwJ13_hashCode_1 ++ []
def dkwJ13_hashCode_0 : List UInt8 := [28, 29, 96, 54, 4, 28, 54, 5, 21, 5, 21, 4, 162, 0, 19, 16, 31, 26, 104, 43, 21, 5, 52, 96]
abbrev dktJ13_hashCode_0 : List UInt8 := dkwJ13_hashCode_0 ++ dktJ13_hashCode_1
theorem dksJ13_hashCode_0 : cJ13_hashCode.data.toList.drop 0 = dktJ13_hashCode_0 := by decide +kernel
theorem dksJ13_hashCode_1 : cJ13_hashCode.data.toList.drop 24 = dktJ13_hashCode_1 := dk_seg dksJ13_hashCode_0 24 rfl rfl
theorem dJ13_hashCode_0 : decode cJ13_hashCode 0 = .ok (.iload_n 2, 1) := dk_28 (dk_at dksJ13_hashCode_0 0 rfl rfl)
theorem dJ13_hashCode_1 : decode cJ13_hashCode 1 = .ok (.iload_n 3, 1) := dk_29 (dk_at dksJ13_hashCode_0 1 rfl rfl)
theorem dJ13_hashCode_2 : decode cJ13_hashCode 2 = .ok (.iadd, 1) := dk_96 (dk_at dksJ13_hashCode_0 2 rfl rfl)
theorem dJ13_hashCode_3 : decode cJ13_hashCode 3 = .ok (.istore 4, 2) := dk_54 4 (dk_at dksJ13_hashCode_0 3 rfl rfl)
theorem dJ13_hashCode_5 : decode cJ13_hashCode 5 = .ok (.iload_n 2, 1) := dk_28 (dk_at dksJ13_hashCode_0 5 rfl rfl)
theorem dJ13_hashCode_6 : decode cJ13_hashCode 6 = .ok (.istore 5, 2) := dk_54 5 (dk_at dksJ13_hashCode_0 6 rfl rfl)
theorem dJ13_hashCode_8 : decode cJ13_hashCode 8 = .ok (.iload 5, 2) := dk_21 5 (dk_at dksJ13_hashCode_0 8 rfl rfl)
theorem dJ13_hashCode_10 : decode cJ13_hashCode 10 = .ok (.iload 4, 2) := dk_21 4 (dk_at dksJ13_hashCode_0 10 rfl rfl)
theorem dJ13_hashCode_12 : decode cJ13_hashCode 12 = .ok (.if_icmp .ge 19, 3) := dk_162 0 19 (dk_at dksJ13_hashCode_0 12 rfl rfl)
theorem dJ13_hashCode_15 : decode cJ13_hashCode 15 = .ok (.bipush 31, 2) := dk_16 31 (dk_at dksJ13_hashCode_0 15 rfl rfl)
theorem dJ13_hashCode_17 : decode cJ13_hashCode 17 = .ok (.iload_n 0, 1) := dk_26 (dk_at dksJ13_hashCode_0 17 rfl rfl)
theorem dJ13_hashCode_18 : decode cJ13_hashCode 18 = .ok (.imul, 1) := dk_104 (dk_at dksJ13_hashCode_0 18 rfl rfl)
theorem dJ13_hashCode_19 : decode cJ13_hashCode 19 = .ok (.aload_n 1, 1) := dk_43 (dk_at dksJ13_hashCode_0 19 rfl rfl)
theorem dJ13_hashCode_20 : decode cJ13_hashCode 20 = .ok (.iload 5, 2) := dk_21 5 (dk_at dksJ13_hashCode_0 20 rfl rfl)
theorem dJ13_hashCode_22 : decode cJ13_hashCode 22 = .ok (.caload, 1) := dk_52 (dk_at dksJ13_hashCode_0 22 rfl rfl)
theorem dJ13_hashCode_23 : decode cJ13_hashCode 23 = .ok (.iadd, 1) := dk_96 (dk_at dksJ13_hashCode_0 23 rfl rfl)
theorem dJ13_hashCode_24 : decode cJ13_hashCode 24 = .ok (.istore_n 0, 1) := dk_59 (dk_at dksJ13_hashCode_1 0 rfl rfl)
theorem dJ13_hashCode_25 : decode cJ13_hashCode 25 = .ok (.iinc 5 1, 3) := dk_132 5 1 (dk_at dksJ13_hashCode_1 1 rfl rfl)
theorem dJ13_hashCode_28 : decode cJ13_hashCode 28 = .ok (.goto (-20), 3) := dk_167 255 236 (dk_at dksJ13_hashCode_1 4 rfl rfl)
theorem dJ13_hashCode_31 : decode cJ13_hashCode 31 = .ok (.iload_n 0, 1) := dk_26 (dk_at dksJ13_hashCode_1 7 rfl rfl)
theorem dJ13_hashCode_32 : decode cJ13_hashCode 32 = .ok (.ireturn, 1) := dk_172 (dk_at dksJ13_hashCode_1 8 rfl rfl)
abbrev cJ13_hashCode_2 : ByteArray := prog_55_method_6_code
def yJ13_hashCode_2 : MethodName := ⟨RJ13, "hashCode", "(I[BII)I"⟩
def dkwJ13_hashCode_2_1 : List UInt8 := [59, 132, 5, 1, 167, 255, 236, 26, 172]
abbrev dktJ13_hashCode_2_1 : List UInt8 := dkwJ13_hashCode_2_1 ++ []
def dkwJ13_hashCode_2_0 : List UInt8 := [28, 29, 96, 54, 4, 28, 54, 5, 21, 5, 21, 4, 162, 0, 19, 16, 31, 26, 104, 43, 21, 5, 51, 96]
abbrev dktJ13_hashCode_2_0 : List UInt8 := dkwJ13_hashCode_2_0 ++ dktJ13_hashCode_2_1
theorem dksJ13_hashCode_2_0 : cJ13_hashCode_2.data.toList.drop 0 = dktJ13_hashCode_2_0 := by decide +kernel
theorem dksJ13_hashCode_2_1 : cJ13_hashCode_2.data.toList.drop 24 = dktJ13_hashCode_2_1 := dk_seg dksJ13_hashCode_2_0 24 rfl rfl
theorem dJ13_hashCode_2_0 : decode cJ13_hashCode_2 0 = .ok (.iload_n 2, 1) := dk_28 (dk_at dksJ13_hashCode_2_0 0 rfl rfl)
theorem dJ13_hashCode_2_1 : decode cJ13_hashCode_2 1 = .ok (.iload_n 3, 1) := dk_29 (dk_at dksJ13_hashCode_2_0 1 rfl rfl)
theorem dJ13_hashCode_2_2 : decode cJ13_hashCode_2 2 = .ok (.iadd, 1) := dk_96 (dk_at dksJ13_hashCode_2_0 2 rfl rfl)
theorem dJ13_hashCode_2_3 : decode cJ13_hashCode_2 3 = .ok (.istore 4, 2) := dk_54 4 (dk_at dksJ13_hashCode_2_0 3 rfl rfl)
theorem dJ13_hashCode_2_5 : decode cJ13_hashCode_2 5 = .ok (.iload_n 2, 1) := dk_28 (dk_at dksJ13_hashCode_2_0 5 rfl rfl)
theorem dJ13_hashCode_2_6 : decode cJ13_hashCode_2 6 = .ok (.istore 5, 2) := dk_54 5 (dk_at dksJ13_hashCode_2_0 6 rfl rfl)
theorem dJ13_hashCode_2_8 : decode cJ13_hashCode_2 8 = .ok (.iload 5, 2) := dk_21 5 (dk_at dksJ13_hashCode_2_0 8 rfl rfl)
theorem dJ13_hashCode_2_10 : decode cJ13_hashCode_2 10 = .ok (.iload 4, 2) := dk_21 4 (dk_at dksJ13_hashCode_2_0 10 rfl rfl)
theorem dJ13_hashCode_2_12 : decode cJ13_hashCode_2 12 = .ok (.if_icmp .ge 19, 3) := dk_162 0 19 (dk_at dksJ13_hashCode_2_0 12 rfl rfl)
theorem dJ13_hashCode_2_15 : decode cJ13_hashCode_2 15 = .ok (.bipush 31, 2) := dk_16 31 (dk_at dksJ13_hashCode_2_0 15 rfl rfl)
theorem dJ13_hashCode_2_17 : decode cJ13_hashCode_2 17 = .ok (.iload_n 0, 1) := dk_26 (dk_at dksJ13_hashCode_2_0 17 rfl rfl)
theorem dJ13_hashCode_2_18 : decode cJ13_hashCode_2 18 = .ok (.imul, 1) := dk_104 (dk_at dksJ13_hashCode_2_0 18 rfl rfl)
theorem dJ13_hashCode_2_19 : decode cJ13_hashCode_2 19 = .ok (.aload_n 1, 1) := dk_43 (dk_at dksJ13_hashCode_2_0 19 rfl rfl)
theorem dJ13_hashCode_2_20 : decode cJ13_hashCode_2 20 = .ok (.iload 5, 2) := dk_21 5 (dk_at dksJ13_hashCode_2_0 20 rfl rfl)
theorem dJ13_hashCode_2_22 : decode cJ13_hashCode_2 22 = .ok (.baload, 1) := dk_51 (dk_at dksJ13_hashCode_2_0 22 rfl rfl)
theorem dJ13_hashCode_2_23 : decode cJ13_hashCode_2 23 = .ok (.iadd, 1) := dk_96 (dk_at dksJ13_hashCode_2_0 23 rfl rfl)
theorem dJ13_hashCode_2_24 : decode cJ13_hashCode_2 24 = .ok (.istore_n 0, 1) := dk_59 (dk_at dksJ13_hashCode_2_1 0 rfl rfl)
theorem dJ13_hashCode_2_25 : decode cJ13_hashCode_2 25 = .ok (.iinc 5 1, 3) := dk_132 5 1 (dk_at dksJ13_hashCode_2_1 1 rfl rfl)
theorem dJ13_hashCode_2_28 : decode cJ13_hashCode_2 28 = .ok (.goto (-20), 3) := dk_167 255 236 (dk_at dksJ13_hashCode_2_1 4 rfl rfl)
theorem dJ13_hashCode_2_31 : decode cJ13_hashCode_2 31 = .ok (.iload_n 0, 1) := dk_26 (dk_at dksJ13_hashCode_2_1 7 rfl rfl)
theorem dJ13_hashCode_2_32 : decode cJ13_hashCode_2 32 = .ok (.ireturn, 1) := dk_172 (dk_at dksJ13_hashCode_2_1 8 rfl rfl)
abbrev cJ13_hashCode_3 : ByteArray := prog_55_method_8_code
def yJ13_hashCode_3 : MethodName := ⟨RJ13, "hashCode", "(I[SII)I"⟩
def dkwJ13_hashCode_3_1 : List UInt8 := [59, 132, 5, 1, 167, 255, 236, 26, 172]
abbrev dktJ13_hashCode_3_1 : List UInt8 := dkwJ13_hashCode_3_1 ++ []
def dkwJ13_hashCode_3_0 : List UInt8 := [28, 29, 96, 54, 4, 28, 54, 5, 21, 5, 21, 4, 162, 0, 19, 16, 31, 26, 104, 43, 21, 5, 53, 96]
abbrev dktJ13_hashCode_3_0 : List UInt8 := dkwJ13_hashCode_3_0 ++ dktJ13_hashCode_3_1
theorem dksJ13_hashCode_3_0 : cJ13_hashCode_3.data.toList.drop 0 = dktJ13_hashCode_3_0 := by decide +kernel
theorem dksJ13_hashCode_3_1 : cJ13_hashCode_3.data.toList.drop 24 = dktJ13_hashCode_3_1 := dk_seg dksJ13_hashCode_3_0 24 rfl rfl
theorem dJ13_hashCode_3_0 : decode cJ13_hashCode_3 0 = .ok (.iload_n 2, 1) := dk_28 (dk_at dksJ13_hashCode_3_0 0 rfl rfl)
theorem dJ13_hashCode_3_1 : decode cJ13_hashCode_3 1 = .ok (.iload_n 3, 1) := dk_29 (dk_at dksJ13_hashCode_3_0 1 rfl rfl)
theorem dJ13_hashCode_3_2 : decode cJ13_hashCode_3 2 = .ok (.iadd, 1) := dk_96 (dk_at dksJ13_hashCode_3_0 2 rfl rfl)
theorem dJ13_hashCode_3_3 : decode cJ13_hashCode_3 3 = .ok (.istore 4, 2) := dk_54 4 (dk_at dksJ13_hashCode_3_0 3 rfl rfl)
theorem dJ13_hashCode_3_5 : decode cJ13_hashCode_3 5 = .ok (.iload_n 2, 1) := dk_28 (dk_at dksJ13_hashCode_3_0 5 rfl rfl)
theorem dJ13_hashCode_3_6 : decode cJ13_hashCode_3 6 = .ok (.istore 5, 2) := dk_54 5 (dk_at dksJ13_hashCode_3_0 6 rfl rfl)
theorem dJ13_hashCode_3_8 : decode cJ13_hashCode_3 8 = .ok (.iload 5, 2) := dk_21 5 (dk_at dksJ13_hashCode_3_0 8 rfl rfl)
theorem dJ13_hashCode_3_10 : decode cJ13_hashCode_3 10 = .ok (.iload 4, 2) := dk_21 4 (dk_at dksJ13_hashCode_3_0 10 rfl rfl)
theorem dJ13_hashCode_3_12 : decode cJ13_hashCode_3 12 = .ok (.if_icmp .ge 19, 3) := dk_162 0 19 (dk_at dksJ13_hashCode_3_0 12 rfl rfl)
theorem dJ13_hashCode_3_15 : decode cJ13_hashCode_3 15 = .ok (.bipush 31, 2) := dk_16 31 (dk_at dksJ13_hashCode_3_0 15 rfl rfl)
theorem dJ13_hashCode_3_17 : decode cJ13_hashCode_3 17 = .ok (.iload_n 0, 1) := dk_26 (dk_at dksJ13_hashCode_3_0 17 rfl rfl)
theorem dJ13_hashCode_3_18 : decode cJ13_hashCode_3 18 = .ok (.imul, 1) := dk_104 (dk_at dksJ13_hashCode_3_0 18 rfl rfl)
theorem dJ13_hashCode_3_19 : decode cJ13_hashCode_3 19 = .ok (.aload_n 1, 1) := dk_43 (dk_at dksJ13_hashCode_3_0 19 rfl rfl)
theorem dJ13_hashCode_3_20 : decode cJ13_hashCode_3 20 = .ok (.iload 5, 2) := dk_21 5 (dk_at dksJ13_hashCode_3_0 20 rfl rfl)
theorem dJ13_hashCode_3_22 : decode cJ13_hashCode_3 22 = .ok (.saload, 1) := dk_53 (dk_at dksJ13_hashCode_3_0 22 rfl rfl)
theorem dJ13_hashCode_3_23 : decode cJ13_hashCode_3 23 = .ok (.iadd, 1) := dk_96 (dk_at dksJ13_hashCode_3_0 23 rfl rfl)
theorem dJ13_hashCode_3_24 : decode cJ13_hashCode_3 24 = .ok (.istore_n 0, 1) := dk_59 (dk_at dksJ13_hashCode_3_1 0 rfl rfl)
theorem dJ13_hashCode_3_25 : decode cJ13_hashCode_3 25 = .ok (.iinc 5 1, 3) := dk_132 5 1 (dk_at dksJ13_hashCode_3_1 1 rfl rfl)
theorem dJ13_hashCode_3_28 : decode cJ13_hashCode_3 28 = .ok (.goto (-20), 3) := dk_167 255 236 (dk_at dksJ13_hashCode_3_1 4 rfl rfl)
theorem dJ13_hashCode_3_31 : decode cJ13_hashCode_3 31 = .ok (.iload_n 0, 1) := dk_26 (dk_at dksJ13_hashCode_3_1 7 rfl rfl)
theorem dJ13_hashCode_3_32 : decode cJ13_hashCode_3 32 = .ok (.ireturn, 1) := dk_172 (dk_at dksJ13_hashCode_3_1 8 rfl rfl)
abbrev cJ13_hashCode_4 : ByteArray := prog_55_method_9_code
def yJ13_hashCode_4 : MethodName := ⟨RJ13, "hashCode", "(I[III)I"⟩
def dkwJ13_hashCode_4_1 : List UInt8 := [59, 132, 5, 1, 167, 255, 236, 26, 172]
abbrev dktJ13_hashCode_4_1 : List UInt8 := dkwJ13_hashCode_4_1 ++ []
def dkwJ13_hashCode_4_0 : List UInt8 := [28, 29, 96, 54, 4, 28, 54, 5, 21, 5, 21, 4, 162, 0, 19, 16, 31, 26, 104, 43, 21, 5, 46, 96]
abbrev dktJ13_hashCode_4_0 : List UInt8 := dkwJ13_hashCode_4_0 ++ dktJ13_hashCode_4_1
theorem dksJ13_hashCode_4_0 : cJ13_hashCode_4.data.toList.drop 0 = dktJ13_hashCode_4_0 := by decide +kernel
theorem dksJ13_hashCode_4_1 : cJ13_hashCode_4.data.toList.drop 24 = dktJ13_hashCode_4_1 := dk_seg dksJ13_hashCode_4_0 24 rfl rfl
theorem dJ13_hashCode_4_0 : decode cJ13_hashCode_4 0 = .ok (.iload_n 2, 1) := dk_28 (dk_at dksJ13_hashCode_4_0 0 rfl rfl)
theorem dJ13_hashCode_4_1 : decode cJ13_hashCode_4 1 = .ok (.iload_n 3, 1) := dk_29 (dk_at dksJ13_hashCode_4_0 1 rfl rfl)
theorem dJ13_hashCode_4_2 : decode cJ13_hashCode_4 2 = .ok (.iadd, 1) := dk_96 (dk_at dksJ13_hashCode_4_0 2 rfl rfl)
theorem dJ13_hashCode_4_3 : decode cJ13_hashCode_4 3 = .ok (.istore 4, 2) := dk_54 4 (dk_at dksJ13_hashCode_4_0 3 rfl rfl)
theorem dJ13_hashCode_4_5 : decode cJ13_hashCode_4 5 = .ok (.iload_n 2, 1) := dk_28 (dk_at dksJ13_hashCode_4_0 5 rfl rfl)
theorem dJ13_hashCode_4_6 : decode cJ13_hashCode_4 6 = .ok (.istore 5, 2) := dk_54 5 (dk_at dksJ13_hashCode_4_0 6 rfl rfl)
theorem dJ13_hashCode_4_8 : decode cJ13_hashCode_4 8 = .ok (.iload 5, 2) := dk_21 5 (dk_at dksJ13_hashCode_4_0 8 rfl rfl)
theorem dJ13_hashCode_4_10 : decode cJ13_hashCode_4 10 = .ok (.iload 4, 2) := dk_21 4 (dk_at dksJ13_hashCode_4_0 10 rfl rfl)
theorem dJ13_hashCode_4_12 : decode cJ13_hashCode_4 12 = .ok (.if_icmp .ge 19, 3) := dk_162 0 19 (dk_at dksJ13_hashCode_4_0 12 rfl rfl)
theorem dJ13_hashCode_4_15 : decode cJ13_hashCode_4 15 = .ok (.bipush 31, 2) := dk_16 31 (dk_at dksJ13_hashCode_4_0 15 rfl rfl)
theorem dJ13_hashCode_4_17 : decode cJ13_hashCode_4 17 = .ok (.iload_n 0, 1) := dk_26 (dk_at dksJ13_hashCode_4_0 17 rfl rfl)
theorem dJ13_hashCode_4_18 : decode cJ13_hashCode_4 18 = .ok (.imul, 1) := dk_104 (dk_at dksJ13_hashCode_4_0 18 rfl rfl)
theorem dJ13_hashCode_4_19 : decode cJ13_hashCode_4 19 = .ok (.aload_n 1, 1) := dk_43 (dk_at dksJ13_hashCode_4_0 19 rfl rfl)
theorem dJ13_hashCode_4_20 : decode cJ13_hashCode_4 20 = .ok (.iload 5, 2) := dk_21 5 (dk_at dksJ13_hashCode_4_0 20 rfl rfl)
theorem dJ13_hashCode_4_22 : decode cJ13_hashCode_4 22 = .ok (.iaload, 1) := dk_46 (dk_at dksJ13_hashCode_4_0 22 rfl rfl)
theorem dJ13_hashCode_4_23 : decode cJ13_hashCode_4 23 = .ok (.iadd, 1) := dk_96 (dk_at dksJ13_hashCode_4_0 23 rfl rfl)
theorem dJ13_hashCode_4_24 : decode cJ13_hashCode_4 24 = .ok (.istore_n 0, 1) := dk_59 (dk_at dksJ13_hashCode_4_1 0 rfl rfl)
theorem dJ13_hashCode_4_25 : decode cJ13_hashCode_4 25 = .ok (.iinc 5 1, 3) := dk_132 5 1 (dk_at dksJ13_hashCode_4_1 1 rfl rfl)
theorem dJ13_hashCode_4_28 : decode cJ13_hashCode_4 28 = .ok (.goto (-20), 3) := dk_167 255 236 (dk_at dksJ13_hashCode_4_1 4 rfl rfl)
theorem dJ13_hashCode_4_31 : decode cJ13_hashCode_4 31 = .ok (.iload_n 0, 1) := dk_26 (dk_at dksJ13_hashCode_4_1 7 rfl rfl)
theorem dJ13_hashCode_4_32 : decode cJ13_hashCode_4 32 = .ok (.ireturn, 1) := dk_172 (dk_at dksJ13_hashCode_4_1 8 rfl rfl)
theorem q130 : (Jvm.Cond.initialized "jdk/internal/util/ArraysSupport") ∈ lw_all := lw_g (lw_at lw_m1 19 rfl) rfl
theorem q501 : (Jvm.Cond.static ({ cls := "jdk/internal/util/ArraysSupport", name := "newLength", desc := "(III)I" } : Jvm.MethodName)) ∈ lw_all := lw_g (lw_at lw_m2 150 rfl) rfl
theorem q502 : (Jvm.Cond.code ({ cls := "jdk/internal/util/ArraysSupport", name := "newLength", desc := "(III)I" } : Jvm.MethodName) prog_55_method_27_code (4 : Nat) (Option.some Jvm.ClassFile.FieldType.int)) ∈ lw_all := lw_g (lw_at lw_m2 151 rfl) rfl
theorem q503 : (Jvm.Cond.methodLink "jdk/internal/util/ArraysSupport" (194 : Nat) ({ cls := "java/lang/Math", name := "max", desc := "(II)I" } : Jvm.MethodName)) ∈ lw_all := lw_g (lw_at lw_m2 152 rfl) rfl
theorem q506 : (Jvm.Cond.constant "jdk/internal/util/ArraysSupport" (200 : Nat) (2147483639 : Int32)) ∈ lw_all := lw_g (lw_at lw_m2 155 rfl) rfl
theorem q507 : (Jvm.Cond.methodLink "jdk/internal/util/ArraysSupport" (201 : Nat) ({ cls := "jdk/internal/util/ArraysSupport", name := "hugeLength", desc := "(II)I" } : Jvm.MethodName)) ∈ lw_all := lw_g (lw_at lw_m2 156 rfl) rfl
theorem q508 : (Jvm.Cond.static ({ cls := "jdk/internal/util/ArraysSupport", name := "hugeLength", desc := "(II)I" } : Jvm.MethodName)) ∈ lw_all := lw_g (lw_at lw_m2 157 rfl) rfl
theorem q509 : (Jvm.Cond.code ({ cls := "jdk/internal/util/ArraysSupport", name := "hugeLength", desc := "(II)I" } : Jvm.MethodName) prog_55_method_28_code (3 : Nat) (Option.some Jvm.ClassFile.FieldType.int)) ∈ lw_all := lw_g (lw_at lw_m2 158 rfl) rfl
theorem q892 : (Jvm.Cond.static ({ cls := "jdk/internal/util/ArraysSupport", name := "vectorizedHashCode", desc := "(Ljava/lang/Object;IIII)I" } : Jvm.MethodName)) ∈ lw_all := lw_g (lw_at lw_m4 61 rfl) rfl
theorem q893 : (Jvm.Cond.code ({ cls := "jdk/internal/util/ArraysSupport", name := "vectorizedHashCode", desc := "(Ljava/lang/Object;IIII)I" } : Jvm.MethodName) prog_55_method_4_code (5 : Nat) (Option.some Jvm.ClassFile.FieldType.int)) ∈ lw_all := lw_g (lw_at lw_m4 62 rfl) rfl
theorem q894 : (Jvm.Cond.classLink "jdk/internal/util/ArraysSupport" (60 : Nat) "[B") ∈ lw_all := lw_g (lw_at lw_m4 63 rfl) rfl
theorem q895 : (Jvm.Cond.methodLink "jdk/internal/util/ArraysSupport" (62 : Nat) ({ cls := "jdk/internal/util/ArraysSupport", name := "signedHashCode", desc := "(I[BII)I" } : Jvm.MethodName)) ∈ lw_all := lw_g (lw_at lw_m4 64 rfl) rfl
theorem q896 : (Jvm.Cond.static ({ cls := "jdk/internal/util/ArraysSupport", name := "signedHashCode", desc := "(I[BII)I" } : Jvm.MethodName)) ∈ lw_all := lw_g (lw_at lw_m4 65 rfl) rfl
theorem q897 : (Jvm.Cond.code ({ cls := "jdk/internal/util/ArraysSupport", name := "signedHashCode", desc := "(I[BII)I" } : Jvm.MethodName) prog_55_method_5_code (6 : Nat) (Option.some Jvm.ClassFile.FieldType.int)) ∈ lw_all := lw_g (lw_at lw_m4 66 rfl) rfl
theorem q898 : (Jvm.Cond.methodLink "jdk/internal/util/ArraysSupport" (66 : Nat) ({ cls := "jdk/internal/util/ArraysSupport", name := "utf16hashCode", desc := "(I[BII)I" } : Jvm.MethodName)) ∈ lw_all := lw_g (lw_at lw_m4 67 rfl) rfl
theorem q899 : (Jvm.Cond.static ({ cls := "jdk/internal/util/ArraysSupport", name := "utf16hashCode", desc := "(I[BII)I" } : Jvm.MethodName)) ∈ lw_all := lw_g (lw_at lw_m4 68 rfl) rfl
theorem q900 : (Jvm.Cond.code ({ cls := "jdk/internal/util/ArraysSupport", name := "utf16hashCode", desc := "(I[BII)I" } : Jvm.MethodName) prog_55_method_10_code (6 : Nat) (Option.some Jvm.ClassFile.FieldType.int)) ∈ lw_all := lw_g (lw_at lw_m4 69 rfl) rfl
theorem q901 : (Jvm.Cond.fieldLink "jdk/internal/util/ArraysSupport" (106 : Nat) "jdk/internal/util/ArraysSupport" "JLA" "Ljdk/internal/access/JavaLangAccess;") ∈ lw_all := lw_g (lw_at lw_m4 70 rfl) rfl
theorem q902 : (Jvm.Cond.laysStatic "jdk/internal/util/ArraysSupport" "JLA" "Ljdk/internal/access/JavaLangAccess;") ∈ lw_tbl := lw_at lw_m4 71 rfl
theorem q903 : (Jvm.Cond.interfaceEntry "jdk/internal/util/ArraysSupport" (110 : Nat)) ∈ lw_tbl := lw_at lw_m4 72 rfl
theorem q904 : (Jvm.Cond.methodLink "jdk/internal/util/ArraysSupport" (110 : Nat) ({ cls := "jdk/internal/access/JavaLangAccess", name := "getUTF16Char", desc := "([BI)C" } : Jvm.MethodName)) ∈ lw_all := lw_g (lw_at lw_m4 73 rfl) rfl
theorem q914 : (Jvm.Cond.classLink "jdk/internal/util/ArraysSupport" (69 : Nat) "[C") ∈ lw_all := lw_g (lw_at lw_m4 83 rfl) rfl
theorem q915 : (Jvm.Cond.methodLink "jdk/internal/util/ArraysSupport" (71 : Nat) ({ cls := "jdk/internal/util/ArraysSupport", name := "hashCode", desc := "(I[CII)I" } : Jvm.MethodName)) ∈ lw_all := lw_g (lw_at lw_m4 84 rfl) rfl
theorem q916 : (Jvm.Cond.static ({ cls := "jdk/internal/util/ArraysSupport", name := "hashCode", desc := "(I[CII)I" } : Jvm.MethodName)) ∈ lw_all := lw_g (lw_at lw_m4 85 rfl) rfl
theorem q917 : (Jvm.Cond.code ({ cls := "jdk/internal/util/ArraysSupport", name := "hashCode", desc := "(I[CII)I" } : Jvm.MethodName) prog_55_method_7_code (6 : Nat) (Option.some Jvm.ClassFile.FieldType.int)) ∈ lw_all := lw_g (lw_at lw_m4 86 rfl) rfl
theorem q918 : (Jvm.Cond.methodLink "jdk/internal/util/ArraysSupport" (75 : Nat) ({ cls := "jdk/internal/util/ArraysSupport", name := "hashCode", desc := "(I[BII)I" } : Jvm.MethodName)) ∈ lw_all := lw_g (lw_at lw_m4 87 rfl) rfl
theorem q919 : (Jvm.Cond.static ({ cls := "jdk/internal/util/ArraysSupport", name := "hashCode", desc := "(I[BII)I" } : Jvm.MethodName)) ∈ lw_all := lw_g (lw_at lw_m4 88 rfl) rfl
theorem q920 : (Jvm.Cond.code ({ cls := "jdk/internal/util/ArraysSupport", name := "hashCode", desc := "(I[BII)I" } : Jvm.MethodName) prog_55_method_6_code (6 : Nat) (Option.some Jvm.ClassFile.FieldType.int)) ∈ lw_all := lw_g (lw_at lw_m4 89 rfl) rfl
theorem q921 : (Jvm.Cond.classLink "jdk/internal/util/ArraysSupport" (77 : Nat) "[S") ∈ lw_all := lw_g (lw_at lw_m4 90 rfl) rfl
theorem q922 : (Jvm.Cond.methodLink "jdk/internal/util/ArraysSupport" (79 : Nat) ({ cls := "jdk/internal/util/ArraysSupport", name := "hashCode", desc := "(I[SII)I" } : Jvm.MethodName)) ∈ lw_all := lw_g (lw_at lw_m4 91 rfl) rfl
theorem q923 : (Jvm.Cond.static ({ cls := "jdk/internal/util/ArraysSupport", name := "hashCode", desc := "(I[SII)I" } : Jvm.MethodName)) ∈ lw_all := lw_g (lw_at lw_m4 92 rfl) rfl
theorem q924 : (Jvm.Cond.code ({ cls := "jdk/internal/util/ArraysSupport", name := "hashCode", desc := "(I[SII)I" } : Jvm.MethodName) prog_55_method_8_code (6 : Nat) (Option.some Jvm.ClassFile.FieldType.int)) ∈ lw_all := lw_g (lw_at lw_m4 93 rfl) rfl
theorem q925 : (Jvm.Cond.classLink "jdk/internal/util/ArraysSupport" (82 : Nat) "[I") ∈ lw_all := lw_g (lw_at lw_m4 94 rfl) rfl
theorem q926 : (Jvm.Cond.methodLink "jdk/internal/util/ArraysSupport" (84 : Nat) ({ cls := "jdk/internal/util/ArraysSupport", name := "hashCode", desc := "(I[III)I" } : Jvm.MethodName)) ∈ lw_all := lw_g (lw_at lw_m4 95 rfl) rfl
theorem q927 : (Jvm.Cond.static ({ cls := "jdk/internal/util/ArraysSupport", name := "hashCode", desc := "(I[III)I" } : Jvm.MethodName)) ∈ lw_all := lw_g (lw_at lw_m4 96 rfl) rfl
theorem q928 : (Jvm.Cond.code ({ cls := "jdk/internal/util/ArraysSupport", name := "hashCode", desc := "(I[III)I" } : Jvm.MethodName) prog_55_method_9_code (6 : Nat) (Option.some Jvm.ClassFile.FieldType.int)) ∈ lw_all := lw_g (lw_at lw_m4 97 rfl) rfl
theorem q929 : (Jvm.Cond.classLink "jdk/internal/util/ArraysSupport" (87 : Nat) "java/lang/IllegalArgumentException") ∈ lw_all := lw_g (lw_at lw_m4 98 rfl) rfl
theorem q930 : (Jvm.Cond.classLink "jdk/internal/util/ArraysSupport" (89 : Nat) "java/lang/StringBuilder") ∈ lw_all := lw_g (lw_at lw_m4 99 rfl) rfl
theorem q931 : (Jvm.Cond.methodLink "jdk/internal/util/ArraysSupport" (91 : Nat) ({ cls := "java/lang/StringBuilder", name := "<init>", desc := "()V" } : Jvm.MethodName)) ∈ lw_all := lw_g (lw_at lw_m4 100 rfl) rfl
theorem q932 : (Jvm.Cond.stringRef "jdk/internal/util/ArraysSupport" (92 : Nat) "unrecognized basic type: ") ∈ lw_tbl := lw_at lw_m4 101 rfl
theorem q933 : (Jvm.Cond.methodLink "jdk/internal/util/ArraysSupport" (94 : Nat) ({ cls := "java/lang/StringBuilder", name := "append", desc := "(Ljava/lang/String;)Ljava/lang/StringBuilder;" } : Jvm.MethodName)) ∈ lw_all := lw_g (lw_at lw_m4 102 rfl) rfl
theorem q934 : (Jvm.Cond.methodLink "jdk/internal/util/ArraysSupport" (98 : Nat) ({ cls := "java/lang/StringBuilder", name := "append", desc := "(I)Ljava/lang/StringBuilder;" } : Jvm.MethodName)) ∈ lw_all := lw_g (lw_at lw_m4 103 rfl) rfl
theorem q935 : (Jvm.Cond.methodLink "jdk/internal/util/ArraysSupport" (101 : Nat) ({ cls := "java/lang/StringBuilder", name := "toString", desc := "()Ljava/lang/String;" } : Jvm.MethodName)) ∈ lw_all := lw_g (lw_at lw_m4 104 rfl) rfl
theorem q936 : (Jvm.Cond.methodLink "jdk/internal/util/ArraysSupport" (105 : Nat) ({ cls := "java/lang/IllegalArgumentException", name := "<init>", desc := "(Ljava/lang/String;)V" } : Jvm.MethodName)) ∈ lw_all := lw_g (lw_at lw_m4 105 rfl) rfl
/-! java/lang/Math -/
set_option maxRecDepth 100000
def RJ14 : String := "java/lang/Math"
abbrev cJ14_max : ByteArray := prog_29_method_65_code
def yJ14_max : MethodName := ⟨RJ14, "max", "(II)I"⟩
def dkwJ14_max_0 : List UInt8 := [26, 27, 161, 0, 7, 26, 167, 0, 4, 27, 172]
abbrev dktJ14_max_0 : List UInt8 := dkwJ14_max_0 ++ []
theorem dksJ14_max_0 : cJ14_max.data.toList.drop 0 = dktJ14_max_0 := by decide +kernel
theorem dJ14_max_0 : decode cJ14_max 0 = .ok (.iload_n 0, 1) := dk_26 (dk_at dksJ14_max_0 0 rfl rfl)
theorem dJ14_max_1 : decode cJ14_max 1 = .ok (.iload_n 1, 1) := dk_27 (dk_at dksJ14_max_0 1 rfl rfl)
theorem dJ14_max_2 : decode cJ14_max 2 = .ok (.if_icmp .lt 7, 3) := dk_161 0 7 (dk_at dksJ14_max_0 2 rfl rfl)
theorem dJ14_max_5 : decode cJ14_max 5 = .ok (.iload_n 0, 1) := dk_26 (dk_at dksJ14_max_0 5 rfl rfl)
theorem dJ14_max_6 : decode cJ14_max 6 = .ok (.goto 4, 3) := dk_167 0 4 (dk_at dksJ14_max_0 6 rfl rfl)
theorem dJ14_max_9 : decode cJ14_max 9 = .ok (.iload_n 1, 1) := dk_27 (dk_at dksJ14_max_0 9 rfl rfl)
theorem dJ14_max_10 : decode cJ14_max 10 = .ok (.ireturn, 1) := dk_172 (dk_at dksJ14_max_0 10 rfl rfl)
abbrev cJ14_min : ByteArray := prog_29_method_69_code
def yJ14_min : MethodName := ⟨RJ14, "min", "(II)I"⟩
def dkwJ14_min_0 : List UInt8 := [26, 27, 163, 0, 7, 26, 167, 0, 4, 27, 172]
abbrev dktJ14_min_0 : List UInt8 := dkwJ14_min_0 ++ []
theorem dksJ14_min_0 : cJ14_min.data.toList.drop 0 = dktJ14_min_0 := by decide +kernel
theorem dJ14_min_0 : decode cJ14_min 0 = .ok (.iload_n 0, 1) := dk_26 (dk_at dksJ14_min_0 0 rfl rfl)
theorem dJ14_min_1 : decode cJ14_min 1 = .ok (.iload_n 1, 1) := dk_27 (dk_at dksJ14_min_0 1 rfl rfl)
theorem dJ14_min_2 : decode cJ14_min 2 = .ok (.if_icmp .gt 7, 3) := dk_163 0 7 (dk_at dksJ14_min_0 2 rfl rfl)
theorem dJ14_min_5 : decode cJ14_min 5 = .ok (.iload_n 0, 1) := dk_26 (dk_at dksJ14_min_0 5 rfl rfl)
theorem dJ14_min_6 : decode cJ14_min 6 = .ok (.goto 4, 3) := dk_167 0 4 (dk_at dksJ14_min_0 6 rfl rfl)
theorem dJ14_min_9 : decode cJ14_min 9 = .ok (.iload_n 1, 1) := dk_27 (dk_at dksJ14_min_0 9 rfl rfl)
theorem dJ14_min_10 : decode cJ14_min 10 = .ok (.ireturn, 1) := dk_172 (dk_at dksJ14_min_0 10 rfl rfl)
abbrev cJ14_abs : ByteArray := prog_29_method_59_code
def yJ14_abs : MethodName := ⟨RJ14, "abs", "(I)I"⟩
def dkwJ14_abs_0 : List UInt8 := [26, 156, 0, 8, 26, 116, 167, 0, 4, 26, 172]
abbrev dktJ14_abs_0 : List UInt8 := dkwJ14_abs_0 ++ []
theorem dksJ14_abs_0 : cJ14_abs.data.toList.drop 0 = dktJ14_abs_0 := by decide +kernel
theorem dJ14_abs_0 : decode cJ14_abs 0 = .ok (.iload_n 0, 1) := dk_26 (dk_at dksJ14_abs_0 0 rfl rfl)
theorem dJ14_abs_1 : decode cJ14_abs 1 = .ok (.ifCond .ge 8, 3) := dk_156 0 8 (dk_at dksJ14_abs_0 1 rfl rfl)
theorem dJ14_abs_4 : decode cJ14_abs 4 = .ok (.iload_n 0, 1) := dk_26 (dk_at dksJ14_abs_0 4 rfl rfl)
theorem dJ14_abs_5 : decode cJ14_abs 5 = .ok (.ineg, 1) := dk_116 (dk_at dksJ14_abs_0 5 rfl rfl)
theorem dJ14_abs_6 : decode cJ14_abs 6 = .ok (.goto 4, 3) := dk_167 0 4 (dk_at dksJ14_abs_0 6 rfl rfl)
theorem dJ14_abs_9 : decode cJ14_abs 9 = .ok (.iload_n 0, 1) := dk_26 (dk_at dksJ14_abs_0 9 rfl rfl)
theorem dJ14_abs_10 : decode cJ14_abs 10 = .ok (.ireturn, 1) := dk_172 (dk_at dksJ14_abs_0 10 rfl rfl)
theorem q131 : (Jvm.Cond.initialized "java/lang/Math") ∈ lw_all := lw_g (lw_at lw_m1 20 rfl) rfl
theorem q504 : (Jvm.Cond.static ({ cls := "java/lang/Math", name := "max", desc := "(II)I" } : Jvm.MethodName)) ∈ lw_all := lw_g (lw_at lw_m2 153 rfl) rfl
theorem q505 : (Jvm.Cond.code ({ cls := "java/lang/Math", name := "max", desc := "(II)I" } : Jvm.MethodName) prog_29_method_65_code (2 : Nat) (Option.some Jvm.ClassFile.FieldType.int)) ∈ lw_all := lw_g (lw_at lw_m2 154 rfl) rfl
theorem q522 : (Jvm.Cond.static ({ cls := "java/lang/Math", name := "min", desc := "(II)I" } : Jvm.MethodName)) ∈ lw_all := lw_g (lw_at lw_m2 171 rfl) rfl
theorem q523 : (Jvm.Cond.code ({ cls := "java/lang/Math", name := "min", desc := "(II)I" } : Jvm.MethodName) prog_29_method_69_code (2 : Nat) (Option.some Jvm.ClassFile.FieldType.int)) ∈ lw_all := lw_g (lw_at lw_m2 172 rfl) rfl
theorem q1627 : (Jvm.Cond.static ({ cls := "java/lang/Math", name := "abs", desc := "(I)I" } : Jvm.MethodName)) ∈ lw_all := lw_g (lw_at lw_m7 76 rfl) rfl
theorem q1628 : (Jvm.Cond.code ({ cls := "java/lang/Math", name := "abs", desc := "(I)I" } : Jvm.MethodName) prog_29_method_59_code (1 : Nat) (Option.some Jvm.ClassFile.FieldType.int)) ∈ lw_all := lw_g (lw_at lw_m7 77 rfl) rfl
/-! java/util/Arrays -/
set_option maxRecDepth 100000
def RJ15 : String := "java/util/Arrays"
abbrev cJ15_copyOf : ByteArray := prog_46_method_121_code
def yJ15_copyOf : MethodName := ⟨RJ15, "copyOf", "([BI)[B"⟩
def dkwJ15_copyOf_1 : List UInt8 := [27, 184, 1, 48, 184, 0, 150, 44, 176]
abbrev dktJ15_copyOf_1 : List UInt8 := dkwJ15_copyOf_1 ++ []
def dkwJ15_copyOf_0 : List UInt8 := [27, 42, 190, 160, 0, 11, 42, 182, 1, 54, 192, 1, 55, 176, 27, 188, 8, 77, 42, 3, 44, 3, 42, 190]
abbrev dktJ15_copyOf_0 : List UInt8 := dkwJ15_copyOf_0 ++ dktJ15_copyOf_1
theorem dksJ15_copyOf_0 : cJ15_copyOf.data.toList.drop 0 = dktJ15_copyOf_0 := by decide +kernel
theorem dksJ15_copyOf_1 : cJ15_copyOf.data.toList.drop 24 = dktJ15_copyOf_1 := dk_seg dksJ15_copyOf_0 24 rfl rfl
theorem dJ15_copyOf_0 : decode cJ15_copyOf 0 = .ok (.iload_n 1, 1) := dk_27 (dk_at dksJ15_copyOf_0 0 rfl rfl)
theorem dJ15_copyOf_1 : decode cJ15_copyOf 1 = .ok (.aload_n 0, 1) := dk_42 (dk_at dksJ15_copyOf_0 1 rfl rfl)
theorem dJ15_copyOf_2 : decode cJ15_copyOf 2 = .ok (.arraylength, 1) := dk_190 (dk_at dksJ15_copyOf_0 2 rfl rfl)
theorem dJ15_copyOf_3 : decode cJ15_copyOf 3 = .ok (.if_icmp .ne 11, 3) := dk_160 0 11 (dk_at dksJ15_copyOf_0 3 rfl rfl)
theorem dJ15_copyOf_6 : decode cJ15_copyOf 6 = .ok (.aload_n 0, 1) := dk_42 (dk_at dksJ15_copyOf_0 6 rfl rfl)
theorem dJ15_copyOf_7 : decode cJ15_copyOf 7 = .ok (.invokevirtual 310, 3) := dk_182 1 54 (dk_at dksJ15_copyOf_0 7 rfl rfl)
theorem dJ15_copyOf_10 : decode cJ15_copyOf 10 = .ok (.checkcast 311, 3) := dk_192 1 55 (dk_at dksJ15_copyOf_0 10 rfl rfl)
theorem dJ15_copyOf_13 : decode cJ15_copyOf 13 = .ok (.areturn, 1) := dk_176 (dk_at dksJ15_copyOf_0 13 rfl rfl)
theorem dJ15_copyOf_14 : decode cJ15_copyOf 14 = .ok (.iload_n 1, 1) := dk_27 (dk_at dksJ15_copyOf_0 14 rfl rfl)
theorem dJ15_copyOf_15 : decode cJ15_copyOf 15 = .ok (.newarray .byte, 2) := dk_188_8 (dk_at dksJ15_copyOf_0 15 rfl rfl)
theorem dJ15_copyOf_17 : decode cJ15_copyOf 17 = .ok (.astore_n 2, 1) := dk_77 (dk_at dksJ15_copyOf_0 17 rfl rfl)
theorem dJ15_copyOf_18 : decode cJ15_copyOf 18 = .ok (.aload_n 0, 1) := dk_42 (dk_at dksJ15_copyOf_0 18 rfl rfl)
theorem dJ15_copyOf_19 : decode cJ15_copyOf 19 = .ok (.iconst 0, 1) := dk_3 (dk_at dksJ15_copyOf_0 19 rfl rfl)
theorem dJ15_copyOf_20 : decode cJ15_copyOf 20 = .ok (.aload_n 2, 1) := dk_44 (dk_at dksJ15_copyOf_0 20 rfl rfl)
theorem dJ15_copyOf_21 : decode cJ15_copyOf 21 = .ok (.iconst 0, 1) := dk_3 (dk_at dksJ15_copyOf_0 21 rfl rfl)
theorem dJ15_copyOf_22 : decode cJ15_copyOf 22 = .ok (.aload_n 0, 1) := dk_42 (dk_at dksJ15_copyOf_0 22 rfl rfl)
theorem dJ15_copyOf_23 : decode cJ15_copyOf 23 = .ok (.arraylength, 1) := dk_190 (dk_at dksJ15_copyOf_0 23 rfl rfl)
theorem dJ15_copyOf_24 : decode cJ15_copyOf 24 = .ok (.iload_n 1, 1) := dk_27 (dk_at dksJ15_copyOf_1 0 rfl rfl)
theorem dJ15_copyOf_25 : decode cJ15_copyOf 25 = .ok (.invokestatic 304, 3) := dk_184 1 48 (dk_at dksJ15_copyOf_1 1 rfl rfl)
theorem dJ15_copyOf_28 : decode cJ15_copyOf 28 = .ok (.invokestatic 150, 3) := dk_184 0 150 (dk_at dksJ15_copyOf_1 4 rfl rfl)
theorem dJ15_copyOf_31 : decode cJ15_copyOf 31 = .ok (.aload_n 2, 1) := dk_44 (dk_at dksJ15_copyOf_1 7 rfl rfl)
theorem dJ15_copyOf_32 : decode cJ15_copyOf 32 = .ok (.areturn, 1) := dk_176 (dk_at dksJ15_copyOf_1 8 rfl rfl)
abbrev cJ15_copyOfRange : ByteArray := prog_46_method_132_code
def yJ15_copyOfRange : MethodName := ⟨RJ15, "copyOfRange", "([BII)[B"⟩
def dkwJ15_copyOfRange_1 : List UInt8 := [176]
abbrev dktJ15_copyOfRange_1 : List UInt8 := dkwJ15_copyOfRange_1 ++ []
def dkwJ15_copyOfRange_0 : List UInt8 := [27, 154, 0, 9, 28, 42, 190, 159, 0, 10, 42, 27, 28, 184, 1, 83, 176, 42, 182, 1, 54, 192, 1, 55]
abbrev dktJ15_copyOfRange_0 : List UInt8 := dkwJ15_copyOfRange_0 ++ dktJ15_copyOfRange_1
theorem dksJ15_copyOfRange_0 : cJ15_copyOfRange.data.toList.drop 0 = dktJ15_copyOfRange_0 := by decide +kernel
theorem dksJ15_copyOfRange_1 : cJ15_copyOfRange.data.toList.drop 24 = dktJ15_copyOfRange_1 := dk_seg dksJ15_copyOfRange_0 24 rfl rfl
theorem dJ15_copyOfRange_0 : decode cJ15_copyOfRange 0 = .ok (.iload_n 1, 1) := dk_27 (dk_at dksJ15_copyOfRange_0 0 rfl rfl)
theorem dJ15_copyOfRange_1 : decode cJ15_copyOfRange 1 = .ok (.ifCond .ne 9, 3) := dk_154 0 9 (dk_at dksJ15_copyOfRange_0 1 rfl rfl)
theorem dJ15_copyOfRange_4 : decode cJ15_copyOfRange 4 = .ok (.iload_n 2, 1) := dk_28 (dk_at dksJ15_copyOfRange_0 4 rfl rfl)
theorem dJ15_copyOfRange_5 : decode cJ15_copyOfRange 5 = .ok (.aload_n 0, 1) := dk_42 (dk_at dksJ15_copyOfRange_0 5 rfl rfl)
theorem dJ15_copyOfRange_6 : decode cJ15_copyOfRange 6 = .ok (.arraylength, 1) := dk_190 (dk_at dksJ15_copyOfRange_0 6 rfl rfl)
theorem dJ15_copyOfRange_7 : decode cJ15_copyOfRange 7 = .ok (.if_icmp .eq 10, 3) := dk_159 0 10 (dk_at dksJ15_copyOfRange_0 7 rfl rfl)
theorem dJ15_copyOfRange_10 : decode cJ15_copyOfRange 10 = .ok (.aload_n 0, 1) := dk_42 (dk_at dksJ15_copyOfRange_0 10 rfl rfl)
theorem dJ15_copyOfRange_11 : decode cJ15_copyOfRange 11 = .ok (.iload_n 1, 1) := dk_27 (dk_at dksJ15_copyOfRange_0 11 rfl rfl)
theorem dJ15_copyOfRange_12 : decode cJ15_copyOfRange 12 = .ok (.iload_n 2, 1) := dk_28 (dk_at dksJ15_copyOfRange_0 12 rfl rfl)
theorem dJ15_copyOfRange_13 : decode cJ15_copyOfRange 13 = .ok (.invokestatic 339, 3) := dk_184 1 83 (dk_at dksJ15_copyOfRange_0 13 rfl rfl)
theorem dJ15_copyOfRange_16 : decode cJ15_copyOfRange 16 = .ok (.areturn, 1) := dk_176 (dk_at dksJ15_copyOfRange_0 16 rfl rfl)
theorem dJ15_copyOfRange_17 : decode cJ15_copyOfRange 17 = .ok (.aload_n 0, 1) := dk_42 (dk_at dksJ15_copyOfRange_0 17 rfl rfl)
theorem dJ15_copyOfRange_18 : decode cJ15_copyOfRange 18 = .ok (.invokevirtual 310, 3) := dk_182 1 54 (dk_at dksJ15_copyOfRange_0 18 rfl rfl)
theorem dJ15_copyOfRange_21 : decode cJ15_copyOfRange 21 = .ok (.checkcast 311, 3) := dk_192 1 55 (dk_at dksJ15_copyOfRange_0 21 rfl rfl)
theorem dJ15_copyOfRange_24 : decode cJ15_copyOfRange 24 = .ok (.areturn, 1) := dk_176 (dk_at dksJ15_copyOfRange_1 0 rfl rfl)
abbrev cJ15_copyOfRangeByte : ByteArray := prog_46_method_133_code
def yJ15_copyOfRangeByte : MethodName := ⟨RJ15, "copyOfRangeByte", "([BII)[B"⟩
def dkwJ15_copyOfRangeByte_1 : List UInt8 := [184, 1, 48, 184, 0, 150, 25, 4, 176]
abbrev dktJ15_copyOfRangeByte_1 : List UInt8 := dkwJ15_copyOfRangeByte_1 ++ []
def dkwJ15_copyOfRangeByte_0 : List UInt8 := [27, 28, 184, 1, 87, 28, 27, 100, 62, 29, 188, 8, 58, 4, 42, 27, 25, 4, 3, 42, 190, 27, 100, 29]
abbrev dktJ15_copyOfRangeByte_0 : List UInt8 := dkwJ15_copyOfRangeByte_0 ++ dktJ15_copyOfRangeByte_1
theorem dksJ15_copyOfRangeByte_0 : cJ15_copyOfRangeByte.data.toList.drop 0 = dktJ15_copyOfRangeByte_0 := by decide +kernel
theorem dksJ15_copyOfRangeByte_1 : cJ15_copyOfRangeByte.data.toList.drop 24 = dktJ15_copyOfRangeByte_1 := dk_seg dksJ15_copyOfRangeByte_0 24 rfl rfl
theorem dJ15_copyOfRangeByte_0 : decode cJ15_copyOfRangeByte 0 = .ok (.iload_n 1, 1) := dk_27 (dk_at dksJ15_copyOfRangeByte_0 0 rfl rfl)
theorem dJ15_copyOfRangeByte_1 : decode cJ15_copyOfRangeByte 1 = .ok (.iload_n 2, 1) := dk_28 (dk_at dksJ15_copyOfRangeByte_0 1 rfl rfl)
theorem dJ15_copyOfRangeByte_2 : decode cJ15_copyOfRangeByte 2 = .ok (.invokestatic 343, 3) := dk_184 1 87 (dk_at dksJ15_copyOfRangeByte_0 2 rfl rfl)
theorem dJ15_copyOfRangeByte_5 : decode cJ15_copyOfRangeByte 5 = .ok (.iload_n 2, 1) := dk_28 (dk_at dksJ15_copyOfRangeByte_0 5 rfl rfl)
theorem dJ15_copyOfRangeByte_6 : decode cJ15_copyOfRangeByte 6 = .ok (.iload_n 1, 1) := dk_27 (dk_at dksJ15_copyOfRangeByte_0 6 rfl rfl)
theorem dJ15_copyOfRangeByte_7 : decode cJ15_copyOfRangeByte 7 = .ok (.isub, 1) := dk_100 (dk_at dksJ15_copyOfRangeByte_0 7 rfl rfl)
theorem dJ15_copyOfRangeByte_8 : decode cJ15_copyOfRangeByte 8 = .ok (.istore_n 3, 1) := dk_62 (dk_at dksJ15_copyOfRangeByte_0 8 rfl rfl)
theorem dJ15_copyOfRangeByte_9 : decode cJ15_copyOfRangeByte 9 = .ok (.iload_n 3, 1) := dk_29 (dk_at dksJ15_copyOfRangeByte_0 9 rfl rfl)
theorem dJ15_copyOfRangeByte_10 : decode cJ15_copyOfRangeByte 10 = .ok (.newarray .byte, 2) := dk_188_8 (dk_at dksJ15_copyOfRangeByte_0 10 rfl rfl)
theorem dJ15_copyOfRangeByte_12 : decode cJ15_copyOfRangeByte 12 = .ok (.astore 4, 2) := dk_58 4 (dk_at dksJ15_copyOfRangeByte_0 12 rfl rfl)
theorem dJ15_copyOfRangeByte_14 : decode cJ15_copyOfRangeByte 14 = .ok (.aload_n 0, 1) := dk_42 (dk_at dksJ15_copyOfRangeByte_0 14 rfl rfl)
theorem dJ15_copyOfRangeByte_15 : decode cJ15_copyOfRangeByte 15 = .ok (.iload_n 1, 1) := dk_27 (dk_at dksJ15_copyOfRangeByte_0 15 rfl rfl)
theorem dJ15_copyOfRangeByte_16 : decode cJ15_copyOfRangeByte 16 = .ok (.aload 4, 2) := dk_25 4 (dk_at dksJ15_copyOfRangeByte_0 16 rfl rfl)
theorem dJ15_copyOfRangeByte_18 : decode cJ15_copyOfRangeByte 18 = .ok (.iconst 0, 1) := dk_3 (dk_at dksJ15_copyOfRangeByte_0 18 rfl rfl)
theorem dJ15_copyOfRangeByte_19 : decode cJ15_copyOfRangeByte 19 = .ok (.aload_n 0, 1) := dk_42 (dk_at dksJ15_copyOfRangeByte_0 19 rfl rfl)
theorem dJ15_copyOfRangeByte_20 : decode cJ15_copyOfRangeByte 20 = .ok (.arraylength, 1) := dk_190 (dk_at dksJ15_copyOfRangeByte_0 20 rfl rfl)
theorem dJ15_copyOfRangeByte_21 : decode cJ15_copyOfRangeByte 21 = .ok (.iload_n 1, 1) := dk_27 (dk_at dksJ15_copyOfRangeByte_0 21 rfl rfl)
theorem dJ15_copyOfRangeByte_22 : decode cJ15_copyOfRangeByte 22 = .ok (.isub, 1) := dk_100 (dk_at dksJ15_copyOfRangeByte_0 22 rfl rfl)
theorem dJ15_copyOfRangeByte_23 : decode cJ15_copyOfRangeByte 23 = .ok (.iload_n 3, 1) := dk_29 (dk_at dksJ15_copyOfRangeByte_0 23 rfl rfl)
theorem dJ15_copyOfRangeByte_24 : decode cJ15_copyOfRangeByte 24 = .ok (.invokestatic 304, 3) := dk_184 1 48 (dk_at dksJ15_copyOfRangeByte_1 0 rfl rfl)
theorem dJ15_copyOfRangeByte_27 : decode cJ15_copyOfRangeByte 27 = .ok (.invokestatic 150, 3) := dk_184 0 150 (dk_at dksJ15_copyOfRangeByte_1 3 rfl rfl)
theorem dJ15_copyOfRangeByte_30 : decode cJ15_copyOfRangeByte 30 = .ok (.aload 4, 2) := dk_25 4 (dk_at dksJ15_copyOfRangeByte_1 6 rfl rfl)
theorem dJ15_copyOfRangeByte_32 : decode cJ15_copyOfRangeByte 32 = .ok (.areturn, 1) := dk_176 (dk_at dksJ15_copyOfRangeByte_1 8 rfl rfl)
abbrev cJ15_checkLength : ByteArray := prog_46_method_131_code
def yJ15_checkLength : MethodName := ⟨RJ15, "checkLength", "(II)V"⟩
def dkwJ15_checkLength_1 : List UInt8 := [182, 0, 50, 27, 182, 0, 54, 182, 0, 61, 183, 0, 65, 191, 177]
abbrev dktJ15_checkLength_1 : List UInt8 := dkwJ15_checkLength_1 ++ []
def dkwJ15_checkLength_0 : List UInt8 := [27, 26, 162, 0, 35, 187, 0, 43, 89, 187, 0, 45, 89, 183, 0, 47, 26, 182, 0, 54, 19, 1, 81]
abbrev dktJ15_checkLength_0 : List UInt8 := dkwJ15_checkLength_0 ++ dktJ15_checkLength_1
theorem dksJ15_checkLength_0 : cJ15_checkLength.data.toList.drop 0 = dktJ15_checkLength_0 := by decide +kernel
theorem dksJ15_checkLength_1 : cJ15_checkLength.data.toList.drop 23 = dktJ15_checkLength_1 := dk_seg dksJ15_checkLength_0 23 rfl rfl
theorem dJ15_checkLength_0 : decode cJ15_checkLength 0 = .ok (.iload_n 1, 1) := dk_27 (dk_at dksJ15_checkLength_0 0 rfl rfl)
theorem dJ15_checkLength_1 : decode cJ15_checkLength 1 = .ok (.iload_n 0, 1) := dk_26 (dk_at dksJ15_checkLength_0 1 rfl rfl)
theorem dJ15_checkLength_2 : decode cJ15_checkLength 2 = .ok (.if_icmp .ge 35, 3) := dk_162 0 35 (dk_at dksJ15_checkLength_0 2 rfl rfl)
theorem dJ15_checkLength_5 : decode cJ15_checkLength 5 = .ok (.new 43, 3) := dk_187 0 43 (dk_at dksJ15_checkLength_0 5 rfl rfl)
theorem dJ15_checkLength_8 : decode cJ15_checkLength 8 = .ok (.dup, 1) := dk_89 (dk_at dksJ15_checkLength_0 8 rfl rfl)
theorem dJ15_checkLength_9 : decode cJ15_checkLength 9 = .ok (.new 45, 3) := dk_187 0 45 (dk_at dksJ15_checkLength_0 9 rfl rfl)
theorem dJ15_checkLength_12 : decode cJ15_checkLength 12 = .ok (.dup, 1) := dk_89 (dk_at dksJ15_checkLength_0 12 rfl rfl)
theorem dJ15_checkLength_13 : decode cJ15_checkLength 13 = .ok (.invokespecial 47, 3) := dk_183 0 47 (dk_at dksJ15_checkLength_0 13 rfl rfl)
theorem dJ15_checkLength_16 : decode cJ15_checkLength 16 = .ok (.iload_n 0, 1) := dk_26 (dk_at dksJ15_checkLength_0 16 rfl rfl)
theorem dJ15_checkLength_17 : decode cJ15_checkLength 17 = .ok (.invokevirtual 54, 3) := dk_182 0 54 (dk_at dksJ15_checkLength_0 17 rfl rfl)
theorem dJ15_checkLength_20 : decode cJ15_checkLength 20 = .ok (.ldc_w 337, 3) := dk_19 1 81 (dk_at dksJ15_checkLength_0 20 rfl rfl)
theorem dJ15_checkLength_23 : decode cJ15_checkLength 23 = .ok (.invokevirtual 50, 3) := dk_182 0 50 (dk_at dksJ15_checkLength_1 0 rfl rfl)
theorem dJ15_checkLength_26 : decode cJ15_checkLength 26 = .ok (.iload_n 1, 1) := dk_27 (dk_at dksJ15_checkLength_1 3 rfl rfl)
theorem dJ15_checkLength_27 : decode cJ15_checkLength 27 = .ok (.invokevirtual 54, 3) := dk_182 0 54 (dk_at dksJ15_checkLength_1 4 rfl rfl)
theorem dJ15_checkLength_30 : decode cJ15_checkLength 30 = .ok (.invokevirtual 61, 3) := dk_182 0 61 (dk_at dksJ15_checkLength_1 7 rfl rfl)
theorem dJ15_checkLength_33 : decode cJ15_checkLength 33 = .ok (.invokespecial 65, 3) := dk_183 0 65 (dk_at dksJ15_checkLength_1 10 rfl rfl)
theorem dJ15_checkLength_36 : decode cJ15_checkLength 36 = .ok (.athrow, 1) := dk_191 (dk_at dksJ15_checkLength_1 13 rfl rfl)
theorem dJ15_checkLength_37 : decode cJ15_checkLength 37 = .ok (.return_, 1) := dk_177 (dk_at dksJ15_checkLength_1 14 rfl rfl)
abbrev cJ15_fill : ByteArray := prog_46_method_103_code
def yJ15_fill : MethodName := ⟨RJ15, "fill", "([II)V"⟩
def dkwJ15_fill_0 : List UInt8 := [3, 61, 42, 190, 62, 28, 29, 162, 0, 13, 42, 28, 27, 79, 132, 2, 1, 167, 255, 244, 177]
abbrev dktJ15_fill_0 : List UInt8 := dkwJ15_fill_0 ++ []
theorem dksJ15_fill_0 : cJ15_fill.data.toList.drop 0 = dktJ15_fill_0 := by decide +kernel
theorem dJ15_fill_0 : decode cJ15_fill 0 = .ok (.iconst 0, 1) := dk_3 (dk_at dksJ15_fill_0 0 rfl rfl)
theorem dJ15_fill_1 : decode cJ15_fill 1 = .ok (.istore_n 2, 1) := dk_61 (dk_at dksJ15_fill_0 1 rfl rfl)
theorem dJ15_fill_2 : decode cJ15_fill 2 = .ok (.aload_n 0, 1) := dk_42 (dk_at dksJ15_fill_0 2 rfl rfl)
theorem dJ15_fill_3 : decode cJ15_fill 3 = .ok (.arraylength, 1) := dk_190 (dk_at dksJ15_fill_0 3 rfl rfl)
theorem dJ15_fill_4 : decode cJ15_fill 4 = .ok (.istore_n 3, 1) := dk_62 (dk_at dksJ15_fill_0 4 rfl rfl)
theorem dJ15_fill_5 : decode cJ15_fill 5 = .ok (.iload_n 2, 1) := dk_28 (dk_at dksJ15_fill_0 5 rfl rfl)
theorem dJ15_fill_6 : decode cJ15_fill 6 = .ok (.iload_n 3, 1) := dk_29 (dk_at dksJ15_fill_0 6 rfl rfl)
theorem dJ15_fill_7 : decode cJ15_fill 7 = .ok (.if_icmp .ge 13, 3) := dk_162 0 13 (dk_at dksJ15_fill_0 7 rfl rfl)
theorem dJ15_fill_10 : decode cJ15_fill 10 = .ok (.aload_n 0, 1) := dk_42 (dk_at dksJ15_fill_0 10 rfl rfl)
theorem dJ15_fill_11 : decode cJ15_fill 11 = .ok (.iload_n 2, 1) := dk_28 (dk_at dksJ15_fill_0 11 rfl rfl)
theorem dJ15_fill_12 : decode cJ15_fill 12 = .ok (.iload_n 1, 1) := dk_27 (dk_at dksJ15_fill_0 12 rfl rfl)
theorem dJ15_fill_13 : decode cJ15_fill 13 = .ok (.iastore, 1) := dk_79 (dk_at dksJ15_fill_0 13 rfl rfl)
theorem dJ15_fill_14 : decode cJ15_fill 14 = .ok (.iinc 2 1, 3) := dk_132 2 1 (dk_at dksJ15_fill_0 14 rfl rfl)
theorem dJ15_fill_17 : decode cJ15_fill 17 = .ok (.goto (-12), 3) := dk_167 255 244 (dk_at dksJ15_fill_0 17 rfl rfl)
theorem dJ15_fill_20 : decode cJ15_fill 20 = .ok (.return_, 1) := dk_177 (dk_at dksJ15_fill_0 20 rfl rfl)
abbrev cJ15_copyOf_2 : ByteArray := prog_46_method_119_code
def yJ15_copyOf_2 : MethodName := ⟨RJ15, "copyOf", "([Ljava/lang/Object;I)[Ljava/lang/Object;"⟩
def dkwJ15_copyOf_2_0 : List UInt8 := [42, 27, 42, 182, 0, 86, 184, 1, 44, 176]
abbrev dktJ15_copyOf_2_0 : List UInt8 := dkwJ15_copyOf_2_0 ++ []
theorem dksJ15_copyOf_2_0 : cJ15_copyOf_2.data.toList.drop 0 = dktJ15_copyOf_2_0 := by decide +kernel
theorem dJ15_copyOf_2_0 : decode cJ15_copyOf_2 0 = .ok (.aload_n 0, 1) := dk_42 (dk_at dksJ15_copyOf_2_0 0 rfl rfl)
theorem dJ15_copyOf_2_1 : decode cJ15_copyOf_2 1 = .ok (.iload_n 1, 1) := dk_27 (dk_at dksJ15_copyOf_2_0 1 rfl rfl)
theorem dJ15_copyOf_2_2 : decode cJ15_copyOf_2 2 = .ok (.aload_n 0, 1) := dk_42 (dk_at dksJ15_copyOf_2_0 2 rfl rfl)
theorem dJ15_copyOf_2_3 : decode cJ15_copyOf_2 3 = .ok (.invokevirtual 86, 3) := dk_182 0 86 (dk_at dksJ15_copyOf_2_0 3 rfl rfl)
theorem dJ15_copyOf_2_6 : decode cJ15_copyOf_2 6 = .ok (.invokestatic 300, 3) := dk_184 1 44 (dk_at dksJ15_copyOf_2_0 6 rfl rfl)
theorem dJ15_copyOf_2_9 : decode cJ15_copyOf_2 9 = .ok (.areturn, 1) := dk_176 (dk_at dksJ15_copyOf_2_0 9 rfl rfl)
abbrev cJ15_copyOf_3 : ByteArray := prog_46_method_120_code
def yJ15_copyOf_3 : MethodName := ⟨RJ15, "copyOf", "([Ljava/lang/Object;ILjava/lang/Class;)[Ljava/lang/Object;"⟩
def dkwJ15_copyOf_3_1 : List UInt8 := [78, 42, 3, 45, 3, 42, 190, 27, 184, 1, 48, 184, 0, 150, 45, 176]
abbrev dktJ15_copyOf_3_1 : List UInt8 := dkwJ15_copyOf_3_1 ++ []
def dkwJ15_copyOf_3_0 : List UInt8 := [44, 18, 110, 166, 0, 10, 27, 189, 0, 2, 167, 0, 14, 44, 182, 0, 90, 27, 184, 0, 95, 192, 0, 110]
abbrev dktJ15_copyOf_3_0 : List UInt8 := dkwJ15_copyOf_3_0 ++ dktJ15_copyOf_3_1
theorem dksJ15_copyOf_3_0 : cJ15_copyOf_3.data.toList.drop 0 = dktJ15_copyOf_3_0 := by decide +kernel
theorem dksJ15_copyOf_3_1 : cJ15_copyOf_3.data.toList.drop 24 = dktJ15_copyOf_3_1 := dk_seg dksJ15_copyOf_3_0 24 rfl rfl
theorem dJ15_copyOf_3_0 : decode cJ15_copyOf_3 0 = .ok (.aload_n 2, 1) := dk_44 (dk_at dksJ15_copyOf_3_0 0 rfl rfl)
theorem dJ15_copyOf_3_1 : decode cJ15_copyOf_3 1 = .ok (.ldc 110, 2) := dk_18 110 (dk_at dksJ15_copyOf_3_0 1 rfl rfl)
theorem dJ15_copyOf_3_3 : decode cJ15_copyOf_3 3 = .ok (.if_acmp .ne 10, 3) := dk_166 0 10 (dk_at dksJ15_copyOf_3_0 3 rfl rfl)
theorem dJ15_copyOf_3_6 : decode cJ15_copyOf_3 6 = .ok (.iload_n 1, 1) := dk_27 (dk_at dksJ15_copyOf_3_0 6 rfl rfl)
theorem dJ15_copyOf_3_7 : decode cJ15_copyOf_3 7 = .ok (.anewarray 2, 3) := dk_189 0 2 (dk_at dksJ15_copyOf_3_0 7 rfl rfl)
theorem dJ15_copyOf_3_10 : decode cJ15_copyOf_3 10 = .ok (.goto 14, 3) := dk_167 0 14 (dk_at dksJ15_copyOf_3_0 10 rfl rfl)
theorem dJ15_copyOf_3_13 : decode cJ15_copyOf_3 13 = .ok (.aload_n 2, 1) := dk_44 (dk_at dksJ15_copyOf_3_0 13 rfl rfl)
theorem dJ15_copyOf_3_14 : decode cJ15_copyOf_3 14 = .ok (.invokevirtual 90, 3) := dk_182 0 90 (dk_at dksJ15_copyOf_3_0 14 rfl rfl)
theorem dJ15_copyOf_3_17 : decode cJ15_copyOf_3 17 = .ok (.iload_n 1, 1) := dk_27 (dk_at dksJ15_copyOf_3_0 17 rfl rfl)
theorem dJ15_copyOf_3_18 : decode cJ15_copyOf_3 18 = .ok (.invokestatic 95, 3) := dk_184 0 95 (dk_at dksJ15_copyOf_3_0 18 rfl rfl)
theorem dJ15_copyOf_3_21 : decode cJ15_copyOf_3 21 = .ok (.checkcast 110, 3) := dk_192 0 110 (dk_at dksJ15_copyOf_3_0 21 rfl rfl)
theorem dJ15_copyOf_3_24 : decode cJ15_copyOf_3 24 = .ok (.astore_n 3, 1) := dk_78 (dk_at dksJ15_copyOf_3_1 0 rfl rfl)
theorem dJ15_copyOf_3_25 : decode cJ15_copyOf_3 25 = .ok (.aload_n 0, 1) := dk_42 (dk_at dksJ15_copyOf_3_1 1 rfl rfl)
theorem dJ15_copyOf_3_26 : decode cJ15_copyOf_3 26 = .ok (.iconst 0, 1) := dk_3 (dk_at dksJ15_copyOf_3_1 2 rfl rfl)
theorem dJ15_copyOf_3_27 : decode cJ15_copyOf_3 27 = .ok (.aload_n 3, 1) := dk_45 (dk_at dksJ15_copyOf_3_1 3 rfl rfl)
theorem dJ15_copyOf_3_28 : decode cJ15_copyOf_3 28 = .ok (.iconst 0, 1) := dk_3 (dk_at dksJ15_copyOf_3_1 4 rfl rfl)
theorem dJ15_copyOf_3_29 : decode cJ15_copyOf_3 29 = .ok (.aload_n 0, 1) := dk_42 (dk_at dksJ15_copyOf_3_1 5 rfl rfl)
theorem dJ15_copyOf_3_30 : decode cJ15_copyOf_3 30 = .ok (.arraylength, 1) := dk_190 (dk_at dksJ15_copyOf_3_1 6 rfl rfl)
theorem dJ15_copyOf_3_31 : decode cJ15_copyOf_3 31 = .ok (.iload_n 1, 1) := dk_27 (dk_at dksJ15_copyOf_3_1 7 rfl rfl)
theorem dJ15_copyOf_3_32 : decode cJ15_copyOf_3 32 = .ok (.invokestatic 304, 3) := dk_184 1 48 (dk_at dksJ15_copyOf_3_1 8 rfl rfl)
theorem dJ15_copyOf_3_35 : decode cJ15_copyOf_3 35 = .ok (.invokestatic 150, 3) := dk_184 0 150 (dk_at dksJ15_copyOf_3_1 11 rfl rfl)
theorem dJ15_copyOf_3_38 : decode cJ15_copyOf_3 38 = .ok (.aload_n 3, 1) := dk_45 (dk_at dksJ15_copyOf_3_1 14 rfl rfl)
theorem dJ15_copyOf_3_39 : decode cJ15_copyOf_3 39 = .ok (.areturn, 1) := dk_176 (dk_at dksJ15_copyOf_3_1 15 rfl rfl)
abbrev cJ15_fill_2 : ByteArray := prog_46_method_117_code
def yJ15_fill_2 : MethodName := ⟨RJ15, "fill", "([Ljava/lang/Object;Ljava/lang/Object;)V"⟩
def dkwJ15_fill_2_0 : List UInt8 := [3, 61, 42, 190, 62, 28, 29, 162, 0, 13, 42, 28, 43, 83, 132, 2, 1, 167, 255, 244, 177]
abbrev dktJ15_fill_2_0 : List UInt8 := dkwJ15_fill_2_0 ++ []
theorem dksJ15_fill_2_0 : cJ15_fill_2.data.toList.drop 0 = dktJ15_fill_2_0 := by decide +kernel
theorem dJ15_fill_2_0 : decode cJ15_fill_2 0 = .ok (.iconst 0, 1) := dk_3 (dk_at dksJ15_fill_2_0 0 rfl rfl)
theorem dJ15_fill_2_1 : decode cJ15_fill_2 1 = .ok (.istore_n 2, 1) := dk_61 (dk_at dksJ15_fill_2_0 1 rfl rfl)
theorem dJ15_fill_2_2 : decode cJ15_fill_2 2 = .ok (.aload_n 0, 1) := dk_42 (dk_at dksJ15_fill_2_0 2 rfl rfl)
theorem dJ15_fill_2_3 : decode cJ15_fill_2 3 = .ok (.arraylength, 1) := dk_190 (dk_at dksJ15_fill_2_0 3 rfl rfl)
theorem dJ15_fill_2_4 : decode cJ15_fill_2 4 = .ok (.istore_n 3, 1) := dk_62 (dk_at dksJ15_fill_2_0 4 rfl rfl)
theorem dJ15_fill_2_5 : decode cJ15_fill_2 5 = .ok (.iload_n 2, 1) := dk_28 (dk_at dksJ15_fill_2_0 5 rfl rfl)
theorem dJ15_fill_2_6 : decode cJ15_fill_2 6 = .ok (.iload_n 3, 1) := dk_29 (dk_at dksJ15_fill_2_0 6 rfl rfl)
theorem dJ15_fill_2_7 : decode cJ15_fill_2 7 = .ok (.if_icmp .ge 13, 3) := dk_162 0 13 (dk_at dksJ15_fill_2_0 7 rfl rfl)
theorem dJ15_fill_2_10 : decode cJ15_fill_2 10 = .ok (.aload_n 0, 1) := dk_42 (dk_at dksJ15_fill_2_0 10 rfl rfl)
theorem dJ15_fill_2_11 : decode cJ15_fill_2 11 = .ok (.iload_n 2, 1) := dk_28 (dk_at dksJ15_fill_2_0 11 rfl rfl)
theorem dJ15_fill_2_12 : decode cJ15_fill_2 12 = .ok (.aload_n 1, 1) := dk_43 (dk_at dksJ15_fill_2_0 12 rfl rfl)
theorem dJ15_fill_2_13 : decode cJ15_fill_2 13 = .ok (.aastore, 1) := dk_83 (dk_at dksJ15_fill_2_0 13 rfl rfl)
theorem dJ15_fill_2_14 : decode cJ15_fill_2 14 = .ok (.iinc 2 1, 3) := dk_132 2 1 (dk_at dksJ15_fill_2_0 14 rfl rfl)
theorem dJ15_fill_2_17 : decode cJ15_fill_2 17 = .ok (.goto (-12), 3) := dk_167 255 244 (dk_at dksJ15_fill_2_0 17 rfl rfl)
theorem dJ15_fill_2_20 : decode cJ15_fill_2 20 = .ok (.return_, 1) := dk_177 (dk_at dksJ15_fill_2_0 20 rfl rfl)
theorem q132 : (Jvm.Cond.initialized "java/util/Arrays") ∈ lw_all := lw_g (lw_at lw_m1 21 rfl) rfl
theorem q512 : (Jvm.Cond.static ({ cls := "java/util/Arrays", name := "copyOf", desc := "([BI)[B" } : Jvm.MethodName)) ∈ lw_all := lw_g (lw_at lw_m2 161 rfl) rfl
theorem q513 : (Jvm.Cond.code ({ cls := "java/util/Arrays", name := "copyOf", desc := "([BI)[B" } : Jvm.MethodName) prog_46_method_121_code (3 : Nat) (Option.some (Jvm.ClassFile.FieldType.array Jvm.ClassFile.FieldType.byte))) ∈ lw_all := lw_g (lw_at lw_m2 162 rfl) rfl
theorem q514 : (Jvm.Cond.methodLink "java/util/Arrays" (310 : Nat) ({ cls := "[B", name := "clone", desc := "()Ljava/lang/Object;" } : Jvm.MethodName)) ∈ lw_all := lw_g (lw_at lw_m2 163 rfl) rfl
theorem q520 : (Jvm.Cond.classLink "java/util/Arrays" (311 : Nat) "[B") ∈ lw_all := lw_g (lw_at lw_m2 169 rfl) rfl
theorem q521 : (Jvm.Cond.methodLink "java/util/Arrays" (304 : Nat) ({ cls := "java/lang/Math", name := "min", desc := "(II)I" } : Jvm.MethodName)) ∈ lw_all := lw_g (lw_at lw_m2 170 rfl) rfl
theorem q524 : (Jvm.Cond.methodLink "java/util/Arrays" (150 : Nat) ({ cls := "java/lang/System", name := "arraycopy", desc := "(Ljava/lang/Object;ILjava/lang/Object;II)V" } : Jvm.MethodName)) ∈ lw_all := lw_g (lw_at lw_m2 173 rfl) rfl
theorem q605 : (Jvm.Cond.static ({ cls := "java/util/Arrays", name := "copyOfRange", desc := "([BII)[B" } : Jvm.MethodName)) ∈ lw_all := lw_g (lw_at lw_m3 14 rfl) rfl
theorem q606 : (Jvm.Cond.code ({ cls := "java/util/Arrays", name := "copyOfRange", desc := "([BII)[B" } : Jvm.MethodName) prog_46_method_132_code (3 : Nat) (Option.some (Jvm.ClassFile.FieldType.array Jvm.ClassFile.FieldType.byte))) ∈ lw_all := lw_g (lw_at lw_m3 15 rfl) rfl
theorem q607 : (Jvm.Cond.methodLink "java/util/Arrays" (339 : Nat) ({ cls := "java/util/Arrays", name := "copyOfRangeByte", desc := "([BII)[B" } : Jvm.MethodName)) ∈ lw_all := lw_g (lw_at lw_m3 16 rfl) rfl
theorem q608 : (Jvm.Cond.static ({ cls := "java/util/Arrays", name := "copyOfRangeByte", desc := "([BII)[B" } : Jvm.MethodName)) ∈ lw_all := lw_g (lw_at lw_m3 17 rfl) rfl
theorem q609 : (Jvm.Cond.code ({ cls := "java/util/Arrays", name := "copyOfRangeByte", desc := "([BII)[B" } : Jvm.MethodName) prog_46_method_133_code (5 : Nat) (Option.some (Jvm.ClassFile.FieldType.array Jvm.ClassFile.FieldType.byte))) ∈ lw_all := lw_g (lw_at lw_m3 18 rfl) rfl
theorem q610 : (Jvm.Cond.methodLink "java/util/Arrays" (343 : Nat) ({ cls := "java/util/Arrays", name := "checkLength", desc := "(II)V" } : Jvm.MethodName)) ∈ lw_all := lw_g (lw_at lw_m3 19 rfl) rfl
theorem q611 : (Jvm.Cond.static ({ cls := "java/util/Arrays", name := "checkLength", desc := "(II)V" } : Jvm.MethodName)) ∈ lw_all := lw_g (lw_at lw_m3 20 rfl) rfl
theorem q612 : (Jvm.Cond.code ({ cls := "java/util/Arrays", name := "checkLength", desc := "(II)V" } : Jvm.MethodName) prog_46_method_131_code (2 : Nat) (Option.none : Option Jvm.ClassFile.FieldType)) ∈ lw_all := lw_g (lw_at lw_m3 21 rfl) rfl
theorem q613 : (Jvm.Cond.classLink "java/util/Arrays" (43 : Nat) "java/lang/IllegalArgumentException") ∈ lw_all := lw_g (lw_at lw_m3 22 rfl) rfl
theorem q622 : (Jvm.Cond.classLink "java/util/Arrays" (45 : Nat) "java/lang/StringBuilder") ∈ lw_all := lw_g (lw_at lw_m3 31 rfl) rfl
theorem q623 : (Jvm.Cond.methodLink "java/util/Arrays" (47 : Nat) ({ cls := "java/lang/StringBuilder", name := "<init>", desc := "()V" } : Jvm.MethodName)) ∈ lw_all := lw_g (lw_at lw_m3 32 rfl) rfl
theorem q626 : (Jvm.Cond.methodLink "java/util/Arrays" (54 : Nat) ({ cls := "java/lang/StringBuilder", name := "append", desc := "(I)Ljava/lang/StringBuilder;" } : Jvm.MethodName)) ∈ lw_all := lw_g (lw_at lw_m3 35 rfl) rfl
theorem q660 : (Jvm.Cond.stringRef "java/util/Arrays" (337 : Nat) " > ") ∈ lw_tbl := lw_at lw_m3 69 rfl
theorem q661 : (Jvm.Cond.methodLink "java/util/Arrays" (50 : Nat) ({ cls := "java/lang/StringBuilder", name := "append", desc := "(Ljava/lang/String;)Ljava/lang/StringBuilder;" } : Jvm.MethodName)) ∈ lw_all := lw_g (lw_at lw_m3 70 rfl) rfl
theorem q699 : (Jvm.Cond.methodLink "java/util/Arrays" (61 : Nat) ({ cls := "java/lang/StringBuilder", name := "toString", desc := "()Ljava/lang/String;" } : Jvm.MethodName)) ∈ lw_all := lw_g (lw_at lw_m3 108 rfl) rfl
theorem q700 : (Jvm.Cond.methodLink "java/util/Arrays" (65 : Nat) ({ cls := "java/lang/IllegalArgumentException", name := "<init>", desc := "(Ljava/lang/String;)V" } : Jvm.MethodName)) ∈ lw_all := lw_g (lw_at lw_m3 109 rfl) rfl
theorem q828 : (Jvm.Cond.static ({ cls := "java/util/Arrays", name := "fill", desc := "([II)V" } : Jvm.MethodName)) ∈ lw_all := lw_g (lw_at lw_m3 237 rfl) rfl
theorem q829 : (Jvm.Cond.code ({ cls := "java/util/Arrays", name := "fill", desc := "([II)V" } : Jvm.MethodName) prog_46_method_103_code (4 : Nat) (Option.none : Option Jvm.ClassFile.FieldType)) ∈ lw_all := lw_g (lw_at lw_m3 238 rfl) rfl
theorem q1027 : (Jvm.Cond.static ({ cls := "java/util/Arrays", name := "copyOf", desc := "([Ljava/lang/Object;I)[Ljava/lang/Object;" } : Jvm.MethodName)) ∈ lw_all := lw_g (lw_at lw_m4 196 rfl) rfl
theorem q1028 : (Jvm.Cond.code ({ cls := "java/util/Arrays", name := "copyOf", desc := "([Ljava/lang/Object;I)[Ljava/lang/Object;" } : Jvm.MethodName) prog_46_method_119_code (2 : Nat) (Option.some (Jvm.ClassFile.FieldType.array (Jvm.ClassFile.FieldType.object "java/lang/Object")))) ∈ lw_all := lw_g (lw_at lw_m4 197 rfl) rfl
theorem q1029 : (Jvm.Cond.methodLink "java/util/Arrays" (86 : Nat) ({ cls := "java/lang/Object", name := "getClass", desc := "()Ljava/lang/Class;" } : Jvm.MethodName)) ∈ lw_all := lw_g (lw_at lw_m4 198 rfl) rfl
theorem q1053 : (Jvm.Cond.methodLink "java/util/Arrays" (300 : Nat) ({ cls := "java/util/Arrays", name := "copyOf", desc := "([Ljava/lang/Object;ILjava/lang/Class;)[Ljava/lang/Object;" } : Jvm.MethodName)) ∈ lw_all := lw_g (lw_at lw_m4 222 rfl) rfl
theorem q1054 : (Jvm.Cond.static ({ cls := "java/util/Arrays", name := "copyOf", desc := "([Ljava/lang/Object;ILjava/lang/Class;)[Ljava/lang/Object;" } : Jvm.MethodName)) ∈ lw_all := lw_g (lw_at lw_m4 223 rfl) rfl
theorem q1055 : (Jvm.Cond.code ({ cls := "java/util/Arrays", name := "copyOf", desc := "([Ljava/lang/Object;ILjava/lang/Class;)[Ljava/lang/Object;" } : Jvm.MethodName) prog_46_method_120_code (4 : Nat) (Option.some (Jvm.ClassFile.FieldType.array (Jvm.ClassFile.FieldType.object "java/lang/Object")))) ∈ lw_all := lw_g (lw_at lw_m4 224 rfl) rfl
theorem q1056 : (Jvm.Cond.classLink "java/util/Arrays" (110 : Nat) "[Ljava/lang/Object;") ∈ lw_all := lw_g (lw_at lw_m4 225 rfl) rfl
theorem q1057 : (Jvm.Cond.classLink "java/util/Arrays" (2 : Nat) "java/lang/Object") ∈ lw_all := lw_g (lw_at lw_m4 226 rfl) rfl
theorem q1300 : (Jvm.Cond.static ({ cls := "java/util/Arrays", name := "fill", desc := "([Ljava/lang/Object;Ljava/lang/Object;)V" } : Jvm.MethodName)) ∈ lw_all := lw_g (lw_at lw_m5 229 rfl) rfl
theorem q1301 : (Jvm.Cond.code ({ cls := "java/util/Arrays", name := "fill", desc := "([Ljava/lang/Object;Ljava/lang/Object;)V" } : Jvm.MethodName) prog_46_method_117_code (4 : Nat) (Option.none : Option Jvm.ClassFile.FieldType)) ∈ lw_all := lw_g (lw_at lw_m5 230 rfl) rfl
/-! java/lang/StringLatin1 -/
set_option maxRecDepth 100000
def RJ16 : String := "java/lang/StringLatin1"
abbrev cJ16_canEncode : ByteArray := prog_35_method_3_code
def yJ16_canEncode : MethodName := ⟨RJ16, "canEncode", "(C)Z"⟩
def dkwJ16_canEncode_0 : List UInt8 := [26, 17, 0, 255, 163, 0, 7, 4, 167, 0, 4, 3, 172]
abbrev dktJ16_canEncode_0 : List UInt8 := dkwJ16_canEncode_0 ++ []
theorem dksJ16_canEncode_0 : cJ16_canEncode.data.toList.drop 0 = dktJ16_canEncode_0 := by decide +kernel
theorem dJ16_canEncode_0 : decode cJ16_canEncode 0 = .ok (.iload_n 0, 1) := dk_26 (dk_at dksJ16_canEncode_0 0 rfl rfl)
theorem dJ16_canEncode_1 : decode cJ16_canEncode 1 = .ok (.sipush 255, 3) := dk_17 0 255 (dk_at dksJ16_canEncode_0 1 rfl rfl)
theorem dJ16_canEncode_4 : decode cJ16_canEncode 4 = .ok (.if_icmp .gt 7, 3) := dk_163 0 7 (dk_at dksJ16_canEncode_0 4 rfl rfl)
theorem dJ16_canEncode_7 : decode cJ16_canEncode 7 = .ok (.iconst 1, 1) := dk_4 (dk_at dksJ16_canEncode_0 7 rfl rfl)
theorem dJ16_canEncode_8 : decode cJ16_canEncode 8 = .ok (.goto 4, 3) := dk_167 0 4 (dk_at dksJ16_canEncode_0 8 rfl rfl)
theorem dJ16_canEncode_11 : decode cJ16_canEncode 11 = .ok (.iconst 0, 1) := dk_3 (dk_at dksJ16_canEncode_0 11 rfl rfl)
theorem dJ16_canEncode_12 : decode cJ16_canEncode 12 = .ok (.ireturn, 1) := dk_172 (dk_at dksJ16_canEncode_0 12 rfl rfl)
abbrev cJ16_inflate : ByteArray := prog_35_method_50_code
def yJ16_inflate : MethodName := ⟨RJ16, "inflate", "([BI[BII)V"⟩
def dkwJ16_inflate_0 : List UInt8 := [42, 27, 44, 29, 21, 4, 184, 0, 240, 177]
abbrev dktJ16_inflate_0 : List UInt8 := dkwJ16_inflate_0 ++ []
theorem dksJ16_inflate_0 : cJ16_inflate.data.toList.drop 0 = dktJ16_inflate_0 := by decide +kernel
theorem dJ16_inflate_0 : decode cJ16_inflate 0 = .ok (.aload_n 0, 1) := dk_42 (dk_at dksJ16_inflate_0 0 rfl rfl)
theorem dJ16_inflate_1 : decode cJ16_inflate 1 = .ok (.iload_n 1, 1) := dk_27 (dk_at dksJ16_inflate_0 1 rfl rfl)
theorem dJ16_inflate_2 : decode cJ16_inflate 2 = .ok (.aload_n 2, 1) := dk_44 (dk_at dksJ16_inflate_0 2 rfl rfl)
theorem dJ16_inflate_3 : decode cJ16_inflate 3 = .ok (.iload_n 3, 1) := dk_29 (dk_at dksJ16_inflate_0 3 rfl rfl)
theorem dJ16_inflate_4 : decode cJ16_inflate 4 = .ok (.iload 4, 2) := dk_21 4 (dk_at dksJ16_inflate_0 4 rfl rfl)
theorem dJ16_inflate_6 : decode cJ16_inflate 6 = .ok (.invokestatic 240, 3) := dk_184 0 240 (dk_at dksJ16_inflate_0 6 rfl rfl)
theorem dJ16_inflate_9 : decode cJ16_inflate 9 = .ok (.return_, 1) := dk_177 (dk_at dksJ16_inflate_0 9 rfl rfl)
abbrev cJ16_equals : ByteArray := prog_35_method_13_code
def yJ16_equals : MethodName := ⟨RJ16, "equals", "([B[B)Z"⟩
def dkwJ16_equals_1 : List UInt8 := [3, 172, 132, 2, 1, 167, 255, 236, 4, 172, 3, 172]
abbrev dktJ16_equals_1 : List UInt8 := dkwJ16_equals_1 ++ []
def dkwJ16_equals_0 : List UInt8 := [42, 190, 43, 190, 160, 0, 30, 3, 61, 28, 42, 190, 162, 0, 20, 42, 28, 51, 43, 28, 51, 159, 0, 5]
abbrev dktJ16_equals_0 : List UInt8 := dkwJ16_equals_0 ++ dktJ16_equals_1
theorem dksJ16_equals_0 : cJ16_equals.data.toList.drop 0 = dktJ16_equals_0 := by decide +kernel
theorem dksJ16_equals_1 : cJ16_equals.data.toList.drop 24 = dktJ16_equals_1 := dk_seg dksJ16_equals_0 24 rfl rfl
theorem dJ16_equals_0 : decode cJ16_equals 0 = .ok (.aload_n 0, 1) := dk_42 (dk_at dksJ16_equals_0 0 rfl rfl)
theorem dJ16_equals_1 : decode cJ16_equals 1 = .ok (.arraylength, 1) := dk_190 (dk_at dksJ16_equals_0 1 rfl rfl)
theorem dJ16_equals_2 : decode cJ16_equals 2 = .ok (.aload_n 1, 1) := dk_43 (dk_at dksJ16_equals_0 2 rfl rfl)
theorem dJ16_equals_3 : decode cJ16_equals 3 = .ok (.arraylength, 1) := dk_190 (dk_at dksJ16_equals_0 3 rfl rfl)
theorem dJ16_equals_4 : decode cJ16_equals 4 = .ok (.if_icmp .ne 30, 3) := dk_160 0 30 (dk_at dksJ16_equals_0 4 rfl rfl)
theorem dJ16_equals_7 : decode cJ16_equals 7 = .ok (.iconst 0, 1) := dk_3 (dk_at dksJ16_equals_0 7 rfl rfl)
theorem dJ16_equals_8 : decode cJ16_equals 8 = .ok (.istore_n 2, 1) := dk_61 (dk_at dksJ16_equals_0 8 rfl rfl)
theorem dJ16_equals_9 : decode cJ16_equals 9 = .ok (.iload_n 2, 1) := dk_28 (dk_at dksJ16_equals_0 9 rfl rfl)
theorem dJ16_equals_10 : decode cJ16_equals 10 = .ok (.aload_n 0, 1) := dk_42 (dk_at dksJ16_equals_0 10 rfl rfl)
theorem dJ16_equals_11 : decode cJ16_equals 11 = .ok (.arraylength, 1) := dk_190 (dk_at dksJ16_equals_0 11 rfl rfl)
theorem dJ16_equals_12 : decode cJ16_equals 12 = .ok (.if_icmp .ge 20, 3) := dk_162 0 20 (dk_at dksJ16_equals_0 12 rfl rfl)
theorem dJ16_equals_15 : decode cJ16_equals 15 = .ok (.aload_n 0, 1) := dk_42 (dk_at dksJ16_equals_0 15 rfl rfl)
theorem dJ16_equals_16 : decode cJ16_equals 16 = .ok (.iload_n 2, 1) := dk_28 (dk_at dksJ16_equals_0 16 rfl rfl)
theorem dJ16_equals_17 : decode cJ16_equals 17 = .ok (.baload, 1) := dk_51 (dk_at dksJ16_equals_0 17 rfl rfl)
theorem dJ16_equals_18 : decode cJ16_equals 18 = .ok (.aload_n 1, 1) := dk_43 (dk_at dksJ16_equals_0 18 rfl rfl)
theorem dJ16_equals_19 : decode cJ16_equals 19 = .ok (.iload_n 2, 1) := dk_28 (dk_at dksJ16_equals_0 19 rfl rfl)
theorem dJ16_equals_20 : decode cJ16_equals 20 = .ok (.baload, 1) := dk_51 (dk_at dksJ16_equals_0 20 rfl rfl)
theorem dJ16_equals_21 : decode cJ16_equals 21 = .ok (.if_icmp .eq 5, 3) := dk_159 0 5 (dk_at dksJ16_equals_0 21 rfl rfl)
theorem dJ16_equals_24 : decode cJ16_equals 24 = .ok (.iconst 0, 1) := dk_3 (dk_at dksJ16_equals_1 0 rfl rfl)
theorem dJ16_equals_25 : decode cJ16_equals 25 = .ok (.ireturn, 1) := dk_172 (dk_at dksJ16_equals_1 1 rfl rfl)
theorem dJ16_equals_26 : decode cJ16_equals 26 = .ok (.iinc 2 1, 3) := dk_132 2 1 (dk_at dksJ16_equals_1 2 rfl rfl)
theorem dJ16_equals_29 : decode cJ16_equals 29 = .ok (.goto (-20), 3) := dk_167 255 236 (dk_at dksJ16_equals_1 5 rfl rfl)
theorem dJ16_equals_32 : decode cJ16_equals 32 = .ok (.iconst 1, 1) := dk_4 (dk_at dksJ16_equals_1 8 rfl rfl)
theorem dJ16_equals_33 : decode cJ16_equals 33 = .ok (.ireturn, 1) := dk_172 (dk_at dksJ16_equals_1 9 rfl rfl)
theorem dJ16_equals_34 : decode cJ16_equals 34 = .ok (.iconst 0, 1) := dk_3 (dk_at dksJ16_equals_1 10 rfl rfl)
theorem dJ16_equals_35 : decode cJ16_equals 35 = .ok (.ireturn, 1) := dk_172 (dk_at dksJ16_equals_1 11 rfl rfl)
abbrev cJ16_hashCode : ByteArray := prog_35_method_21_code
def yJ16_hashCode : MethodName := ⟨RJ16, "hashCode", "([B)I"⟩
def dkwJ16_hashCode_2 : List UInt8 := [3, 167, 0, 22, 42, 3, 51, 17, 0, 255, 126, 167, 0, 12, 42, 3, 42, 190, 3, 7, 184, 0, 84, 172]
abbrev dktJ16_hashCode_2 : List UInt8 := dkwJ16_hashCode_2 ++ []
def dkwJ16_hashCode_1 : List UInt8 := [171, 0, 0, 0, 0, 40, 0, 0, 0, 2, 0, 0, 0, 0, 0, 0, 0, 26, 0, 0, 0, 1, 0, 0, 0, 30]
abbrev dktJ16_hashCode_1 : List UInt8 := dkwJ16_hashCode_1 ++ dktJ16_hashCode_2
def dkwJ16_hashCode_0 : List UInt8 := [42, 190]
abbrev dktJ16_hashCode_0 : List UInt8 := dkwJ16_hashCode_0 ++ dktJ16_hashCode_1
theorem dksJ16_hashCode_0 : cJ16_hashCode.data.toList.drop 0 = dktJ16_hashCode_0 := by decide +kernel
theorem dksJ16_hashCode_1 : cJ16_hashCode.data.toList.drop 2 = dktJ16_hashCode_1 := dk_seg dksJ16_hashCode_0 2 rfl rfl
theorem dksJ16_hashCode_2 : cJ16_hashCode.data.toList.drop 28 = dktJ16_hashCode_2 := dk_seg dksJ16_hashCode_1 26 rfl rfl
theorem dJ16_hashCode_0 : decode cJ16_hashCode 0 = .ok (.aload_n 0, 1) := dk_42 (dk_at dksJ16_hashCode_0 0 rfl rfl)
theorem dJ16_hashCode_1 : decode cJ16_hashCode 1 = .ok (.arraylength, 1) := dk_190 (dk_at dksJ16_hashCode_0 1 rfl rfl)
theorem dJ16_hashCode_2 : decode cJ16_hashCode 2 = .ok (.lookupswitch 40 #[(0, 26), (1, 30)], 26) := by decide +kernel
theorem dJ16_hashCode_28 : decode cJ16_hashCode 28 = .ok (.iconst 0, 1) := dk_3 (dk_at dksJ16_hashCode_2 0 rfl rfl)
theorem dJ16_hashCode_29 : decode cJ16_hashCode 29 = .ok (.goto 22, 3) := dk_167 0 22 (dk_at dksJ16_hashCode_2 1 rfl rfl)
theorem dJ16_hashCode_32 : decode cJ16_hashCode 32 = .ok (.aload_n 0, 1) := dk_42 (dk_at dksJ16_hashCode_2 4 rfl rfl)
theorem dJ16_hashCode_33 : decode cJ16_hashCode 33 = .ok (.iconst 0, 1) := dk_3 (dk_at dksJ16_hashCode_2 5 rfl rfl)
theorem dJ16_hashCode_34 : decode cJ16_hashCode 34 = .ok (.baload, 1) := dk_51 (dk_at dksJ16_hashCode_2 6 rfl rfl)
theorem dJ16_hashCode_35 : decode cJ16_hashCode 35 = .ok (.sipush 255, 3) := dk_17 0 255 (dk_at dksJ16_hashCode_2 7 rfl rfl)
theorem dJ16_hashCode_38 : decode cJ16_hashCode 38 = .ok (.iand, 1) := dk_126 (dk_at dksJ16_hashCode_2 10 rfl rfl)
theorem dJ16_hashCode_39 : decode cJ16_hashCode 39 = .ok (.goto 12, 3) := dk_167 0 12 (dk_at dksJ16_hashCode_2 11 rfl rfl)
theorem dJ16_hashCode_42 : decode cJ16_hashCode 42 = .ok (.aload_n 0, 1) := dk_42 (dk_at dksJ16_hashCode_2 14 rfl rfl)
theorem dJ16_hashCode_43 : decode cJ16_hashCode 43 = .ok (.iconst 0, 1) := dk_3 (dk_at dksJ16_hashCode_2 15 rfl rfl)
theorem dJ16_hashCode_44 : decode cJ16_hashCode 44 = .ok (.aload_n 0, 1) := dk_42 (dk_at dksJ16_hashCode_2 16 rfl rfl)
theorem dJ16_hashCode_45 : decode cJ16_hashCode 45 = .ok (.arraylength, 1) := dk_190 (dk_at dksJ16_hashCode_2 17 rfl rfl)
theorem dJ16_hashCode_46 : decode cJ16_hashCode 46 = .ok (.iconst 0, 1) := dk_3 (dk_at dksJ16_hashCode_2 18 rfl rfl)
theorem dJ16_hashCode_47 : decode cJ16_hashCode 47 = .ok (.iconst 4, 1) := dk_7 (dk_at dksJ16_hashCode_2 19 rfl rfl)
theorem dJ16_hashCode_48 : decode cJ16_hashCode 48 = .ok (.invokestatic 84, 3) := dk_184 0 84 (dk_at dksJ16_hashCode_2 20 rfl rfl)
theorem dJ16_hashCode_51 : decode cJ16_hashCode 51 = .ok (.ireturn, 1) := dk_172 (dk_at dksJ16_hashCode_2 23 rfl rfl)
abbrev cJ16_charAt : ByteArray := prog_35_method_2_code
def yJ16_charAt : MethodName := ⟨RJ16, "charAt", "([BI)C"⟩
def dkwJ16_charAt_0 : List UInt8 := [27, 42, 190, 184, 0, 9, 42, 27, 51, 17, 0, 255, 126, 146, 172]
abbrev dktJ16_charAt_0 : List UInt8 := dkwJ16_charAt_0 ++ []
theorem dksJ16_charAt_0 : cJ16_charAt.data.toList.drop 0 = dktJ16_charAt_0 := by decide +kernel
theorem dJ16_charAt_0 : decode cJ16_charAt 0 = .ok (.iload_n 1, 1) := dk_27 (dk_at dksJ16_charAt_0 0 rfl rfl)
theorem dJ16_charAt_1 : decode cJ16_charAt 1 = .ok (.aload_n 0, 1) := dk_42 (dk_at dksJ16_charAt_0 1 rfl rfl)
theorem dJ16_charAt_2 : decode cJ16_charAt 2 = .ok (.arraylength, 1) := dk_190 (dk_at dksJ16_charAt_0 2 rfl rfl)
theorem dJ16_charAt_3 : decode cJ16_charAt 3 = .ok (.invokestatic 9, 3) := dk_184 0 9 (dk_at dksJ16_charAt_0 3 rfl rfl)
theorem dJ16_charAt_6 : decode cJ16_charAt 6 = .ok (.aload_n 0, 1) := dk_42 (dk_at dksJ16_charAt_0 6 rfl rfl)
theorem dJ16_charAt_7 : decode cJ16_charAt 7 = .ok (.iload_n 1, 1) := dk_27 (dk_at dksJ16_charAt_0 7 rfl rfl)
theorem dJ16_charAt_8 : decode cJ16_charAt 8 = .ok (.baload, 1) := dk_51 (dk_at dksJ16_charAt_0 8 rfl rfl)
theorem dJ16_charAt_9 : decode cJ16_charAt 9 = .ok (.sipush 255, 3) := dk_17 0 255 (dk_at dksJ16_charAt_0 9 rfl rfl)
theorem dJ16_charAt_12 : decode cJ16_charAt 12 = .ok (.iand, 1) := dk_126 (dk_at dksJ16_charAt_0 12 rfl rfl)
theorem dJ16_charAt_13 : decode cJ16_charAt 13 = .ok (.i2c, 1) := dk_146 (dk_at dksJ16_charAt_0 13 rfl rfl)
theorem dJ16_charAt_14 : decode cJ16_charAt 14 = .ok (.ireturn, 1) := dk_172 (dk_at dksJ16_charAt_0 14 rfl rfl)
theorem q134 : (Jvm.Cond.initialized "java/lang/StringLatin1") ∈ lw_all := lw_g (lw_at lw_m1 23 rfl) rfl
theorem q533 : (Jvm.Cond.static ({ cls := "java/lang/StringLatin1", name := "canEncode", desc := "(C)Z" } : Jvm.MethodName)) ∈ lw_all := lw_g (lw_at lw_m2 182 rfl) rfl
theorem q534 : (Jvm.Cond.code ({ cls := "java/lang/StringLatin1", name := "canEncode", desc := "(C)Z" } : Jvm.MethodName) prog_35_method_3_code (1 : Nat) (Option.some Jvm.ClassFile.FieldType.boolean)) ∈ lw_all := lw_g (lw_at lw_m2 183 rfl) rfl
theorem q540 : (Jvm.Cond.static ({ cls := "java/lang/StringLatin1", name := "inflate", desc := "([BI[BII)V" } : Jvm.MethodName)) ∈ lw_all := lw_g (lw_at lw_m2 189 rfl) rfl
theorem q541 : (Jvm.Cond.code ({ cls := "java/lang/StringLatin1", name := "inflate", desc := "([BI[BII)V" } : Jvm.MethodName) prog_35_method_50_code (5 : Nat) (Option.none : Option Jvm.ClassFile.FieldType)) ∈ lw_all := lw_g (lw_at lw_m2 190 rfl) rfl
theorem q542 : (Jvm.Cond.methodLink "java/lang/StringLatin1" (240 : Nat) ({ cls := "java/lang/StringUTF16", name := "inflate", desc := "([BI[BII)V" } : Jvm.MethodName)) ∈ lw_all := lw_g (lw_at lw_m2 191 rfl) rfl
theorem q751 : (Jvm.Cond.static ({ cls := "java/lang/StringLatin1", name := "equals", desc := "([B[B)Z" } : Jvm.MethodName)) ∈ lw_all := lw_g (lw_at lw_m3 160 rfl) rfl
theorem q752 : (Jvm.Cond.code ({ cls := "java/lang/StringLatin1", name := "equals", desc := "([B[B)Z" } : Jvm.MethodName) prog_35_method_13_code (3 : Nat) (Option.some Jvm.ClassFile.FieldType.boolean)) ∈ lw_all := lw_g (lw_at lw_m3 161 rfl) rfl
theorem q889 : (Jvm.Cond.static ({ cls := "java/lang/StringLatin1", name := "hashCode", desc := "([B)I" } : Jvm.MethodName)) ∈ lw_all := lw_g (lw_at lw_m4 58 rfl) rfl
theorem q890 : (Jvm.Cond.code ({ cls := "java/lang/StringLatin1", name := "hashCode", desc := "([B)I" } : Jvm.MethodName) prog_35_method_21_code (1 : Nat) (Option.some Jvm.ClassFile.FieldType.int)) ∈ lw_all := lw_g (lw_at lw_m4 59 rfl) rfl
theorem q891 : (Jvm.Cond.methodLink "java/lang/StringLatin1" (84 : Nat) ({ cls := "jdk/internal/util/ArraysSupport", name := "vectorizedHashCode", desc := "(Ljava/lang/Object;IIII)I" } : Jvm.MethodName)) ∈ lw_all := lw_g (lw_at lw_m4 60 rfl) rfl
theorem q1779 : (Jvm.Cond.static ({ cls := "java/lang/StringLatin1", name := "charAt", desc := "([BI)C" } : Jvm.MethodName)) ∈ lw_all := lw_g (lw_at lw_m7 228 rfl) rfl
theorem q1780 : (Jvm.Cond.code ({ cls := "java/lang/StringLatin1", name := "charAt", desc := "([BI)C" } : Jvm.MethodName) prog_35_method_2_code (2 : Nat) (Option.some Jvm.ClassFile.FieldType.char)) ∈ lw_all := lw_g (lw_at lw_m7 229 rfl) rfl
theorem q1781 : (Jvm.Cond.methodLink "java/lang/StringLatin1" (9 : Nat) ({ cls := "java/lang/String", name := "checkIndex", desc := "(II)V" } : Jvm.MethodName)) ∈ lw_all := lw_g (lw_at lw_m7 230 rfl) rfl
/-! java/lang/IllegalArgumentException -/
set_option maxRecDepth 100000
def RJ17 : String := "java/lang/IllegalArgumentException"
def TJ17 : u_T := fun k => match k with
  | 0 => ("java/lang/Throwable", "cause", "Ljava/lang/Throwable;", false)
  | 1 => ("java/lang/Throwable", "stackTrace", "[Ljava/lang/StackTraceElement;", false)
  | 2 => ("java/lang/Throwable", "suppressedExceptions", "Ljava/util/List;", false)
  | 3 => ("java/lang/Throwable", "detailMessage", "Ljava/lang/String;", false)
  | 4 => ("java/lang/Throwable", "backtrace", "Ljava/lang/Object;", false)
  | _ => ("java/lang/Throwable", "depth", "I", false)
def tyJ17 : Nat → FieldType := fun k => match k with
  | 0 => .object "java/lang/Throwable"
  | 1 => .array (.object "java/lang/StackTraceElement")
  | 2 => .object "java/util/List"
  | 3 => .object "java/lang/String"
  | 4 => .object "java/lang/Object"
  | _ => .int
abbrev wsJ170 : List Cond := u_ws RJ17 TJ17 6
theorem nmJ17 : ∀ a, a < 6 → ∀ b, b < 6 → a ≠ b → (TJ17 a).2.1 ≠ (TJ17 b).2.1 := by decide +kernel
theorem tyJ17_ok : ∀ k, k < 6 → parseFieldDescriptor (TJ17 k).2.2.1 = some (tyJ17 k) := by decide +kernel
abbrev cJ17_init : ByteArray := prog_24_method_2_code
def yJ17_init : MethodName := ⟨RJ17, "<init>", "(Ljava/lang/String;)V"⟩
def dkwJ17_init_0 : List UInt8 := [42, 43, 183, 0, 7, 177]
abbrev dktJ17_init_0 : List UInt8 := dkwJ17_init_0 ++ []
theorem dksJ17_init_0 : cJ17_init.data.toList.drop 0 = dktJ17_init_0 := by decide +kernel
theorem dJ17_init_0 : decode cJ17_init 0 = .ok (.aload_n 0, 1) := dk_42 (dk_at dksJ17_init_0 0 rfl rfl)
theorem dJ17_init_1 : decode cJ17_init 1 = .ok (.aload_n 1, 1) := dk_43 (dk_at dksJ17_init_0 1 rfl rfl)
theorem dJ17_init_2 : decode cJ17_init 2 = .ok (.invokespecial 7, 3) := dk_183 0 7 (dk_at dksJ17_init_0 2 rfl rfl)
theorem dJ17_init_5 : decode cJ17_init 5 = .ok (.return_, 1) := dk_177 (dk_at dksJ17_init_0 5 rfl rfl)
abbrev cJ17_init_2 : ByteArray := prog_24_method_1_code
def yJ17_init_2 : MethodName := ⟨RJ17, "<init>", "()V"⟩
theorem dJ17_init_2_0 : decode cJ17_init_2 0 = .ok (.aload_n 0, 1) := by decide +kernel
theorem dJ17_init_2_1 : decode cJ17_init_2 1 = .ok (.invokespecial 1, 3) := by decide +kernel
theorem dJ17_init_2_4 : decode cJ17_init_2 4 = .ok (.return_, 1) := by decide +kernel
theorem q135 : (Jvm.Cond.initialized "java/lang/IllegalArgumentException") ∈ lw_all := lw_g (lw_at lw_m1 24 rfl) rfl
theorem q314 : (Jvm.Cond.selects "java/lang/IllegalArgumentException" ({ cls := "java/lang/Throwable", name := "fillInStackTrace", desc := "()Ljava/lang/Throwable;" } : Jvm.MethodName) ({ cls := "java/lang/Throwable", name := "fillInStackTrace", desc := "()Ljava/lang/Throwable;" } : Jvm.MethodName)) ∈ lw_all := lw_g (lw_at lw_m1 203 rfl) rfl
theorem q614 : (Jvm.Cond.instantiable "java/lang/IllegalArgumentException" (6 : Nat)) ∈ lw_all := lw_g (lw_at lw_m3 23 rfl) rfl
theorem q615 : (Jvm.Cond.castable "java/lang/IllegalArgumentException" "java/lang/IllegalArgumentException") ∈ lw_tbl := lw_at lw_m3 24 rfl
theorem q616 : (Jvm.Cond.selects "java/lang/IllegalArgumentException" ({ cls := "java/lang/Throwable", name := "fillInStackTrace", desc := "(I)Ljava/lang/Throwable;" } : Jvm.MethodName) ({ cls := "java/lang/Throwable", name := "fillInStackTrace", desc := "(I)Ljava/lang/Throwable;" } : Jvm.MethodName)) ∈ lw_all := lw_g (lw_at lw_m3 25 rfl) rfl
theorem q617 : (Jvm.Cond.lays "java/lang/IllegalArgumentException" "java/lang/Throwable" "cause" "Ljava/lang/Throwable;") ∈ lw_all := lw_g (lw_at lw_m3 26 rfl) rfl
theorem q618 : (Jvm.Cond.lays "java/lang/IllegalArgumentException" "java/lang/Throwable" "stackTrace" "[Ljava/lang/StackTraceElement;") ∈ lw_all := lw_g (lw_at lw_m3 27 rfl) rfl
theorem q619 : (Jvm.Cond.lays "java/lang/IllegalArgumentException" "java/lang/Throwable" "suppressedExceptions" "Ljava/util/List;") ∈ lw_all := lw_g (lw_at lw_m3 28 rfl) rfl
theorem q620 : (Jvm.Cond.lays "java/lang/IllegalArgumentException" "java/lang/Throwable" "detailMessage" "Ljava/lang/String;") ∈ lw_all := lw_g (lw_at lw_m3 29 rfl) rfl
theorem q621 : (Jvm.Cond.lays "java/lang/IllegalArgumentException" "java/lang/Throwable" "backtrace" "Ljava/lang/Object;") ∈ lw_all := lw_g (lw_at lw_m3 30 rfl) rfl
theorem q701 : (Jvm.Cond.instanceMethod ({ cls := "java/lang/IllegalArgumentException", name := "<init>", desc := "(Ljava/lang/String;)V" } : Jvm.MethodName)) ∈ lw_all := lw_g (lw_at lw_m3 110 rfl) rfl
theorem q702 : (Jvm.Cond.code ({ cls := "java/lang/IllegalArgumentException", name := "<init>", desc := "(Ljava/lang/String;)V" } : Jvm.MethodName) prog_24_method_2_code (2 : Nat) (Option.none : Option Jvm.ClassFile.FieldType)) ∈ lw_all := lw_g (lw_at lw_m3 111 rfl) rfl
theorem q703 : (Jvm.Cond.methodLink "java/lang/IllegalArgumentException" (7 : Nat) ({ cls := "java/lang/RuntimeException", name := "<init>", desc := "(Ljava/lang/String;)V" } : Jvm.MethodName)) ∈ lw_all := lw_g (lw_at lw_m3 112 rfl) rfl
theorem q704 : (Jvm.Cond.lays "java/lang/IllegalArgumentException" "java/lang/Throwable" "depth" "I") ∈ lw_all := lw_g (lw_at lw_m3 113 rfl) rfl
theorem q705 : (Jvm.Cond.superclass "java/lang/IllegalArgumentException" "java/lang/RuntimeException") ∈ lw_all := lw_g (lw_at lw_m3 114 rfl) rfl
theorem q1044 : (Jvm.Cond.selects "java/lang/IllegalArgumentException" ({ cls := "java/lang/Object", name := "getClass", desc := "()Ljava/lang/Class;" } : Jvm.MethodName) ({ cls := "java/lang/Object", name := "getClass", desc := "()Ljava/lang/Class;" } : Jvm.MethodName)) ∈ lw_all := lw_g (lw_at lw_m4 213 rfl) rfl
theorem q1285 : (Jvm.Cond.instanceMethod ({ cls := "java/lang/IllegalArgumentException", name := "<init>", desc := "()V" } : Jvm.MethodName)) ∈ lw_all := lw_g (lw_at lw_m5 214 rfl) rfl
theorem q1286 : (Jvm.Cond.code ({ cls := "java/lang/IllegalArgumentException", name := "<init>", desc := "()V" } : Jvm.MethodName) prog_24_method_1_code (1 : Nat) (Option.none : Option Jvm.ClassFile.FieldType)) ∈ lw_all := lw_g (lw_at lw_m5 215 rfl) rfl
theorem q1287 : (Jvm.Cond.methodLink "java/lang/IllegalArgumentException" (1 : Nat) ({ cls := "java/lang/RuntimeException", name := "<init>", desc := "()V" } : Jvm.MethodName)) ∈ lw_all := lw_g (lw_at lw_m5 216 rfl) rfl
theorem q2583 : (Jvm.Cond.castable "java/lang/IllegalArgumentException" "java/lang/Object") ∈ lw_tbl := lw_at lw_m11 72 rfl
theorem in_J17 : ∀ w ∈ wsJ170, w ∈ lw_all := lw_in wsJ170 [617, 618, 619, 620, 621, 704] (by decide +kernel) (by decide +kernel)
/-! java/lang/Integer -/
set_option maxRecDepth 100000
def RJ18 : String := "java/lang/Integer"
abbrev cJ18_stringSize : ByteArray := prog_27_method_13_code
def yJ18_stringSize : MethodName := ⟨RJ18, "stringSize", "(I)I"⟩
def dkwJ18_stringSize_1 : List UInt8 := [164, 0, 7, 29, 27, 96, 172, 16, 10, 28, 104, 61, 132, 3, 1, 167, 255, 233, 16, 10, 27, 96, 172]
abbrev dktJ18_stringSize_1 : List UInt8 := dkwJ18_stringSize_1 ++ []
def dkwJ18_stringSize_0 : List UInt8 := [4, 60, 26, 155, 0, 8, 3, 60, 26, 116, 59, 16, 246, 61, 4, 62, 29, 16, 10, 162, 0, 23, 26, 28]
abbrev dktJ18_stringSize_0 : List UInt8 := dkwJ18_stringSize_0 ++ dktJ18_stringSize_1
theorem dksJ18_stringSize_0 : cJ18_stringSize.data.toList.drop 0 = dktJ18_stringSize_0 := by decide +kernel
theorem dksJ18_stringSize_1 : cJ18_stringSize.data.toList.drop 24 = dktJ18_stringSize_1 := dk_seg dksJ18_stringSize_0 24 rfl rfl
theorem dJ18_stringSize_0 : decode cJ18_stringSize 0 = .ok (.iconst 1, 1) := dk_4 (dk_at dksJ18_stringSize_0 0 rfl rfl)
theorem dJ18_stringSize_1 : decode cJ18_stringSize 1 = .ok (.istore_n 1, 1) := dk_60 (dk_at dksJ18_stringSize_0 1 rfl rfl)
theorem dJ18_stringSize_2 : decode cJ18_stringSize 2 = .ok (.iload_n 0, 1) := dk_26 (dk_at dksJ18_stringSize_0 2 rfl rfl)
theorem dJ18_stringSize_3 : decode cJ18_stringSize 3 = .ok (.ifCond .lt 8, 3) := dk_155 0 8 (dk_at dksJ18_stringSize_0 3 rfl rfl)
theorem dJ18_stringSize_6 : decode cJ18_stringSize 6 = .ok (.iconst 0, 1) := dk_3 (dk_at dksJ18_stringSize_0 6 rfl rfl)
theorem dJ18_stringSize_7 : decode cJ18_stringSize 7 = .ok (.istore_n 1, 1) := dk_60 (dk_at dksJ18_stringSize_0 7 rfl rfl)
theorem dJ18_stringSize_8 : decode cJ18_stringSize 8 = .ok (.iload_n 0, 1) := dk_26 (dk_at dksJ18_stringSize_0 8 rfl rfl)
theorem dJ18_stringSize_9 : decode cJ18_stringSize 9 = .ok (.ineg, 1) := dk_116 (dk_at dksJ18_stringSize_0 9 rfl rfl)
theorem dJ18_stringSize_10 : decode cJ18_stringSize 10 = .ok (.istore_n 0, 1) := dk_59 (dk_at dksJ18_stringSize_0 10 rfl rfl)
theorem dJ18_stringSize_11 : decode cJ18_stringSize 11 = .ok (.bipush (-10), 2) := dk_16 246 (dk_at dksJ18_stringSize_0 11 rfl rfl)
theorem dJ18_stringSize_13 : decode cJ18_stringSize 13 = .ok (.istore_n 2, 1) := dk_61 (dk_at dksJ18_stringSize_0 13 rfl rfl)
theorem dJ18_stringSize_14 : decode cJ18_stringSize 14 = .ok (.iconst 1, 1) := dk_4 (dk_at dksJ18_stringSize_0 14 rfl rfl)
theorem dJ18_stringSize_15 : decode cJ18_stringSize 15 = .ok (.istore_n 3, 1) := dk_62 (dk_at dksJ18_stringSize_0 15 rfl rfl)
theorem dJ18_stringSize_16 : decode cJ18_stringSize 16 = .ok (.iload_n 3, 1) := dk_29 (dk_at dksJ18_stringSize_0 16 rfl rfl)
theorem dJ18_stringSize_17 : decode cJ18_stringSize 17 = .ok (.bipush 10, 2) := dk_16 10 (dk_at dksJ18_stringSize_0 17 rfl rfl)
theorem dJ18_stringSize_19 : decode cJ18_stringSize 19 = .ok (.if_icmp .ge 23, 3) := dk_162 0 23 (dk_at dksJ18_stringSize_0 19 rfl rfl)
theorem dJ18_stringSize_22 : decode cJ18_stringSize 22 = .ok (.iload_n 0, 1) := dk_26 (dk_at dksJ18_stringSize_0 22 rfl rfl)
theorem dJ18_stringSize_23 : decode cJ18_stringSize 23 = .ok (.iload_n 2, 1) := dk_28 (dk_at dksJ18_stringSize_0 23 rfl rfl)
theorem dJ18_stringSize_24 : decode cJ18_stringSize 24 = .ok (.if_icmp .le 7, 3) := dk_164 0 7 (dk_at dksJ18_stringSize_1 0 rfl rfl)
theorem dJ18_stringSize_27 : decode cJ18_stringSize 27 = .ok (.iload_n 3, 1) := dk_29 (dk_at dksJ18_stringSize_1 3 rfl rfl)
theorem dJ18_stringSize_28 : decode cJ18_stringSize 28 = .ok (.iload_n 1, 1) := dk_27 (dk_at dksJ18_stringSize_1 4 rfl rfl)
theorem dJ18_stringSize_29 : decode cJ18_stringSize 29 = .ok (.iadd, 1) := dk_96 (dk_at dksJ18_stringSize_1 5 rfl rfl)
theorem dJ18_stringSize_30 : decode cJ18_stringSize 30 = .ok (.ireturn, 1) := dk_172 (dk_at dksJ18_stringSize_1 6 rfl rfl)
theorem dJ18_stringSize_31 : decode cJ18_stringSize 31 = .ok (.bipush 10, 2) := dk_16 10 (dk_at dksJ18_stringSize_1 7 rfl rfl)
theorem dJ18_stringSize_33 : decode cJ18_stringSize 33 = .ok (.iload_n 2, 1) := dk_28 (dk_at dksJ18_stringSize_1 9 rfl rfl)
theorem dJ18_stringSize_34 : decode cJ18_stringSize 34 = .ok (.imul, 1) := dk_104 (dk_at dksJ18_stringSize_1 10 rfl rfl)
theorem dJ18_stringSize_35 : decode cJ18_stringSize 35 = .ok (.istore_n 2, 1) := dk_61 (dk_at dksJ18_stringSize_1 11 rfl rfl)
theorem dJ18_stringSize_36 : decode cJ18_stringSize 36 = .ok (.iinc 3 1, 3) := dk_132 3 1 (dk_at dksJ18_stringSize_1 12 rfl rfl)
theorem dJ18_stringSize_39 : decode cJ18_stringSize 39 = .ok (.goto (-23), 3) := dk_167 255 233 (dk_at dksJ18_stringSize_1 15 rfl rfl)
theorem dJ18_stringSize_42 : decode cJ18_stringSize 42 = .ok (.bipush 10, 2) := dk_16 10 (dk_at dksJ18_stringSize_1 18 rfl rfl)
theorem dJ18_stringSize_44 : decode cJ18_stringSize 44 = .ok (.iload_n 1, 1) := dk_27 (dk_at dksJ18_stringSize_1 20 rfl rfl)
theorem dJ18_stringSize_45 : decode cJ18_stringSize 45 = .ok (.iadd, 1) := dk_96 (dk_at dksJ18_stringSize_1 21 rfl rfl)
theorem dJ18_stringSize_46 : decode cJ18_stringSize 46 = .ok (.ireturn, 1) := dk_172 (dk_at dksJ18_stringSize_1 22 rfl rfl)
abbrev cJ18_getChars : ByteArray := prog_27_method_12_code
def yJ18_getChars : MethodName := ⟨RJ18, "getChars", "(II[B)I"⟩
def dkwJ18_getChars_5 : List UInt8 := [16, 45, 84, 21, 5, 172]
abbrev dktJ18_getChars_5 : List UInt8 := dkwJ18_getChars_5 ++ []
def dkwJ18_getChars_4 : List UInt8 := [132, 5, 255, 21, 5, 178, 0, 87, 26, 116, 51, 84, 21, 6, 153, 0, 12, 44, 132, 5, 255, 21, 5]
abbrev dktJ18_getChars_4 : List UInt8 := dkwJ18_getChars_4 ++ dktJ18_getChars_5
def dkwJ18_getChars_3 : List UInt8 := [167, 255, 209, 44, 132, 5, 255, 21, 5, 178, 0, 83, 26, 116, 51, 84, 26, 16, 247, 162, 0, 16, 44]
abbrev dktJ18_getChars_3 : List UInt8 := dkwJ18_getChars_3 ++ dktJ18_getChars_4
def dkwJ18_getChars_2 : List UInt8 := [21, 5, 178, 0, 83, 21, 4, 51, 84, 44, 132, 5, 255, 21, 5, 178, 0, 87, 21, 4, 51, 84]
abbrev dktJ18_getChars_2 : List UInt8 := dkwJ18_getChars_2 ++ dktJ18_getChars_3
def dkwJ18_getChars_1 : List UInt8 := [16, 156, 163, 0, 47, 26, 16, 100, 108, 62, 29, 16, 100, 104, 26, 100, 54, 4, 29, 59, 44, 132, 5, 255]
abbrev dktJ18_getChars_1 : List UInt8 := dkwJ18_getChars_1 ++ dktJ18_getChars_2
def dkwJ18_getChars_0 : List UInt8 := [27, 54, 5, 26, 156, 0, 7, 4, 167, 0, 4, 3, 54, 6, 21, 6, 154, 0, 6, 26, 116, 59, 26]
abbrev dktJ18_getChars_0 : List UInt8 := dkwJ18_getChars_0 ++ dktJ18_getChars_1
theorem dksJ18_getChars_0 : cJ18_getChars.data.toList.drop 0 = dktJ18_getChars_0 := by decide +kernel
theorem dksJ18_getChars_1 : cJ18_getChars.data.toList.drop 23 = dktJ18_getChars_1 := dk_seg dksJ18_getChars_0 23 rfl rfl
theorem dksJ18_getChars_2 : cJ18_getChars.data.toList.drop 47 = dktJ18_getChars_2 := dk_seg dksJ18_getChars_1 24 rfl rfl
theorem dksJ18_getChars_3 : cJ18_getChars.data.toList.drop 69 = dktJ18_getChars_3 := dk_seg dksJ18_getChars_2 22 rfl rfl
theorem dksJ18_getChars_4 : cJ18_getChars.data.toList.drop 92 = dktJ18_getChars_4 := dk_seg dksJ18_getChars_3 23 rfl rfl
theorem dksJ18_getChars_5 : cJ18_getChars.data.toList.drop 115 = dktJ18_getChars_5 := dk_seg dksJ18_getChars_4 23 rfl rfl
theorem dJ18_getChars_0 : decode cJ18_getChars 0 = .ok (.iload_n 1, 1) := dk_27 (dk_at dksJ18_getChars_0 0 rfl rfl)
theorem dJ18_getChars_1 : decode cJ18_getChars 1 = .ok (.istore 5, 2) := dk_54 5 (dk_at dksJ18_getChars_0 1 rfl rfl)
theorem dJ18_getChars_3 : decode cJ18_getChars 3 = .ok (.iload_n 0, 1) := dk_26 (dk_at dksJ18_getChars_0 3 rfl rfl)
theorem dJ18_getChars_4 : decode cJ18_getChars 4 = .ok (.ifCond .ge 7, 3) := dk_156 0 7 (dk_at dksJ18_getChars_0 4 rfl rfl)
theorem dJ18_getChars_7 : decode cJ18_getChars 7 = .ok (.iconst 1, 1) := dk_4 (dk_at dksJ18_getChars_0 7 rfl rfl)
theorem dJ18_getChars_8 : decode cJ18_getChars 8 = .ok (.goto 4, 3) := dk_167 0 4 (dk_at dksJ18_getChars_0 8 rfl rfl)
theorem dJ18_getChars_11 : decode cJ18_getChars 11 = .ok (.iconst 0, 1) := dk_3 (dk_at dksJ18_getChars_0 11 rfl rfl)
theorem dJ18_getChars_12 : decode cJ18_getChars 12 = .ok (.istore 6, 2) := dk_54 6 (dk_at dksJ18_getChars_0 12 rfl rfl)
theorem dJ18_getChars_14 : decode cJ18_getChars 14 = .ok (.iload 6, 2) := dk_21 6 (dk_at dksJ18_getChars_0 14 rfl rfl)
theorem dJ18_getChars_16 : decode cJ18_getChars 16 = .ok (.ifCond .ne 6, 3) := dk_154 0 6 (dk_at dksJ18_getChars_0 16 rfl rfl)
theorem dJ18_getChars_19 : decode cJ18_getChars 19 = .ok (.iload_n 0, 1) := dk_26 (dk_at dksJ18_getChars_0 19 rfl rfl)
theorem dJ18_getChars_20 : decode cJ18_getChars 20 = .ok (.ineg, 1) := dk_116 (dk_at dksJ18_getChars_0 20 rfl rfl)
theorem dJ18_getChars_21 : decode cJ18_getChars 21 = .ok (.istore_n 0, 1) := dk_59 (dk_at dksJ18_getChars_0 21 rfl rfl)
theorem dJ18_getChars_22 : decode cJ18_getChars 22 = .ok (.iload_n 0, 1) := dk_26 (dk_at dksJ18_getChars_0 22 rfl rfl)
theorem dJ18_getChars_23 : decode cJ18_getChars 23 = .ok (.bipush (-100), 2) := dk_16 156 (dk_at dksJ18_getChars_1 0 rfl rfl)
theorem dJ18_getChars_25 : decode cJ18_getChars 25 = .ok (.if_icmp .gt 47, 3) := dk_163 0 47 (dk_at dksJ18_getChars_1 2 rfl rfl)
theorem dJ18_getChars_28 : decode cJ18_getChars 28 = .ok (.iload_n 0, 1) := dk_26 (dk_at dksJ18_getChars_1 5 rfl rfl)
theorem dJ18_getChars_29 : decode cJ18_getChars 29 = .ok (.bipush 100, 2) := dk_16 100 (dk_at dksJ18_getChars_1 6 rfl rfl)
theorem dJ18_getChars_31 : decode cJ18_getChars 31 = .ok (.idiv, 1) := dk_108 (dk_at dksJ18_getChars_1 8 rfl rfl)
theorem dJ18_getChars_32 : decode cJ18_getChars 32 = .ok (.istore_n 3, 1) := dk_62 (dk_at dksJ18_getChars_1 9 rfl rfl)
theorem dJ18_getChars_33 : decode cJ18_getChars 33 = .ok (.iload_n 3, 1) := dk_29 (dk_at dksJ18_getChars_1 10 rfl rfl)
theorem dJ18_getChars_34 : decode cJ18_getChars 34 = .ok (.bipush 100, 2) := dk_16 100 (dk_at dksJ18_getChars_1 11 rfl rfl)
theorem dJ18_getChars_36 : decode cJ18_getChars 36 = .ok (.imul, 1) := dk_104 (dk_at dksJ18_getChars_1 13 rfl rfl)
theorem dJ18_getChars_37 : decode cJ18_getChars 37 = .ok (.iload_n 0, 1) := dk_26 (dk_at dksJ18_getChars_1 14 rfl rfl)
theorem dJ18_getChars_38 : decode cJ18_getChars 38 = .ok (.isub, 1) := dk_100 (dk_at dksJ18_getChars_1 15 rfl rfl)
theorem dJ18_getChars_39 : decode cJ18_getChars 39 = .ok (.istore 4, 2) := dk_54 4 (dk_at dksJ18_getChars_1 16 rfl rfl)
theorem dJ18_getChars_41 : decode cJ18_getChars 41 = .ok (.iload_n 3, 1) := dk_29 (dk_at dksJ18_getChars_1 18 rfl rfl)
theorem dJ18_getChars_42 : decode cJ18_getChars 42 = .ok (.istore_n 0, 1) := dk_59 (dk_at dksJ18_getChars_1 19 rfl rfl)
theorem dJ18_getChars_43 : decode cJ18_getChars 43 = .ok (.aload_n 2, 1) := dk_44 (dk_at dksJ18_getChars_1 20 rfl rfl)
theorem dJ18_getChars_44 : decode cJ18_getChars 44 = .ok (.iinc 5 (-1), 3) := dk_132 5 255 (dk_at dksJ18_getChars_1 21 rfl rfl)
theorem dJ18_getChars_47 : decode cJ18_getChars 47 = .ok (.iload 5, 2) := dk_21 5 (dk_at dksJ18_getChars_2 0 rfl rfl)
theorem dJ18_getChars_49 : decode cJ18_getChars 49 = .ok (.getstatic 83, 3) := dk_178 0 83 (dk_at dksJ18_getChars_2 2 rfl rfl)
theorem dJ18_getChars_52 : decode cJ18_getChars 52 = .ok (.iload 4, 2) := dk_21 4 (dk_at dksJ18_getChars_2 5 rfl rfl)
theorem dJ18_getChars_54 : decode cJ18_getChars 54 = .ok (.baload, 1) := dk_51 (dk_at dksJ18_getChars_2 7 rfl rfl)
theorem dJ18_getChars_55 : decode cJ18_getChars 55 = .ok (.bastore, 1) := dk_84 (dk_at dksJ18_getChars_2 8 rfl rfl)
theorem dJ18_getChars_56 : decode cJ18_getChars 56 = .ok (.aload_n 2, 1) := dk_44 (dk_at dksJ18_getChars_2 9 rfl rfl)
theorem dJ18_getChars_57 : decode cJ18_getChars 57 = .ok (.iinc 5 (-1), 3) := dk_132 5 255 (dk_at dksJ18_getChars_2 10 rfl rfl)
theorem dJ18_getChars_60 : decode cJ18_getChars 60 = .ok (.iload 5, 2) := dk_21 5 (dk_at dksJ18_getChars_2 13 rfl rfl)
theorem dJ18_getChars_62 : decode cJ18_getChars 62 = .ok (.getstatic 87, 3) := dk_178 0 87 (dk_at dksJ18_getChars_2 15 rfl rfl)
theorem dJ18_getChars_65 : decode cJ18_getChars 65 = .ok (.iload 4, 2) := dk_21 4 (dk_at dksJ18_getChars_2 18 rfl rfl)
theorem dJ18_getChars_67 : decode cJ18_getChars 67 = .ok (.baload, 1) := dk_51 (dk_at dksJ18_getChars_2 20 rfl rfl)
theorem dJ18_getChars_68 : decode cJ18_getChars 68 = .ok (.bastore, 1) := dk_84 (dk_at dksJ18_getChars_2 21 rfl rfl)
theorem dJ18_getChars_69 : decode cJ18_getChars 69 = .ok (.goto (-47), 3) := dk_167 255 209 (dk_at dksJ18_getChars_3 0 rfl rfl)
theorem dJ18_getChars_72 : decode cJ18_getChars 72 = .ok (.aload_n 2, 1) := dk_44 (dk_at dksJ18_getChars_3 3 rfl rfl)
theorem dJ18_getChars_73 : decode cJ18_getChars 73 = .ok (.iinc 5 (-1), 3) := dk_132 5 255 (dk_at dksJ18_getChars_3 4 rfl rfl)
theorem dJ18_getChars_76 : decode cJ18_getChars 76 = .ok (.iload 5, 2) := dk_21 5 (dk_at dksJ18_getChars_3 7 rfl rfl)
theorem dJ18_getChars_78 : decode cJ18_getChars 78 = .ok (.getstatic 83, 3) := dk_178 0 83 (dk_at dksJ18_getChars_3 9 rfl rfl)
theorem dJ18_getChars_81 : decode cJ18_getChars 81 = .ok (.iload_n 0, 1) := dk_26 (dk_at dksJ18_getChars_3 12 rfl rfl)
theorem dJ18_getChars_82 : decode cJ18_getChars 82 = .ok (.ineg, 1) := dk_116 (dk_at dksJ18_getChars_3 13 rfl rfl)
theorem dJ18_getChars_83 : decode cJ18_getChars 83 = .ok (.baload, 1) := dk_51 (dk_at dksJ18_getChars_3 14 rfl rfl)
theorem dJ18_getChars_84 : decode cJ18_getChars 84 = .ok (.bastore, 1) := dk_84 (dk_at dksJ18_getChars_3 15 rfl rfl)
theorem dJ18_getChars_85 : decode cJ18_getChars 85 = .ok (.iload_n 0, 1) := dk_26 (dk_at dksJ18_getChars_3 16 rfl rfl)
theorem dJ18_getChars_86 : decode cJ18_getChars 86 = .ok (.bipush (-9), 2) := dk_16 247 (dk_at dksJ18_getChars_3 17 rfl rfl)
theorem dJ18_getChars_88 : decode cJ18_getChars 88 = .ok (.if_icmp .ge 16, 3) := dk_162 0 16 (dk_at dksJ18_getChars_3 19 rfl rfl)
theorem dJ18_getChars_91 : decode cJ18_getChars 91 = .ok (.aload_n 2, 1) := dk_44 (dk_at dksJ18_getChars_3 22 rfl rfl)
theorem dJ18_getChars_92 : decode cJ18_getChars 92 = .ok (.iinc 5 (-1), 3) := dk_132 5 255 (dk_at dksJ18_getChars_4 0 rfl rfl)
theorem dJ18_getChars_95 : decode cJ18_getChars 95 = .ok (.iload 5, 2) := dk_21 5 (dk_at dksJ18_getChars_4 3 rfl rfl)
theorem dJ18_getChars_97 : decode cJ18_getChars 97 = .ok (.getstatic 87, 3) := dk_178 0 87 (dk_at dksJ18_getChars_4 5 rfl rfl)
theorem dJ18_getChars_100 : decode cJ18_getChars 100 = .ok (.iload_n 0, 1) := dk_26 (dk_at dksJ18_getChars_4 8 rfl rfl)
theorem dJ18_getChars_101 : decode cJ18_getChars 101 = .ok (.ineg, 1) := dk_116 (dk_at dksJ18_getChars_4 9 rfl rfl)
theorem dJ18_getChars_102 : decode cJ18_getChars 102 = .ok (.baload, 1) := dk_51 (dk_at dksJ18_getChars_4 10 rfl rfl)
theorem dJ18_getChars_103 : decode cJ18_getChars 103 = .ok (.bastore, 1) := dk_84 (dk_at dksJ18_getChars_4 11 rfl rfl)
theorem dJ18_getChars_104 : decode cJ18_getChars 104 = .ok (.iload 6, 2) := dk_21 6 (dk_at dksJ18_getChars_4 12 rfl rfl)
theorem dJ18_getChars_106 : decode cJ18_getChars 106 = .ok (.ifCond .eq 12, 3) := dk_153 0 12 (dk_at dksJ18_getChars_4 14 rfl rfl)
theorem dJ18_getChars_109 : decode cJ18_getChars 109 = .ok (.aload_n 2, 1) := dk_44 (dk_at dksJ18_getChars_4 17 rfl rfl)
theorem dJ18_getChars_110 : decode cJ18_getChars 110 = .ok (.iinc 5 (-1), 3) := dk_132 5 255 (dk_at dksJ18_getChars_4 18 rfl rfl)
theorem dJ18_getChars_113 : decode cJ18_getChars 113 = .ok (.iload 5, 2) := dk_21 5 (dk_at dksJ18_getChars_4 21 rfl rfl)
theorem dJ18_getChars_115 : decode cJ18_getChars 115 = .ok (.bipush 45, 2) := dk_16 45 (dk_at dksJ18_getChars_5 0 rfl rfl)
theorem dJ18_getChars_117 : decode cJ18_getChars 117 = .ok (.bastore, 1) := dk_84 (dk_at dksJ18_getChars_5 2 rfl rfl)
theorem dJ18_getChars_118 : decode cJ18_getChars 118 = .ok (.iload 5, 2) := dk_21 5 (dk_at dksJ18_getChars_5 3 rfl rfl)
theorem dJ18_getChars_120 : decode cJ18_getChars 120 = .ok (.ireturn, 1) := dk_172 (dk_at dksJ18_getChars_5 5 rfl rfl)
theorem q137 : (Jvm.Cond.initialized "java/lang/Integer") ∈ lw_all := lw_g (lw_at lw_m1 26 rfl) rfl
theorem q634 : (Jvm.Cond.static ({ cls := "java/lang/Integer", name := "stringSize", desc := "(I)I" } : Jvm.MethodName)) ∈ lw_all := lw_g (lw_at lw_m3 43 rfl) rfl
theorem q635 : (Jvm.Cond.code ({ cls := "java/lang/Integer", name := "stringSize", desc := "(I)I" } : Jvm.MethodName) prog_27_method_13_code (4 : Nat) (Option.some Jvm.ClassFile.FieldType.int)) ∈ lw_all := lw_g (lw_at lw_m3 44 rfl) rfl
theorem q637 : (Jvm.Cond.static ({ cls := "java/lang/Integer", name := "getChars", desc := "(II[B)I" } : Jvm.MethodName)) ∈ lw_all := lw_g (lw_at lw_m3 46 rfl) rfl
theorem q638 : (Jvm.Cond.code ({ cls := "java/lang/Integer", name := "getChars", desc := "(II[B)I" } : Jvm.MethodName) prog_27_method_12_code (7 : Nat) (Option.some Jvm.ClassFile.FieldType.int)) ∈ lw_all := lw_g (lw_at lw_m3 47 rfl) rfl
theorem q639 : (Jvm.Cond.fieldLink "java/lang/Integer" (83 : Nat) "java/lang/Integer" "DigitOnes" "[B") ∈ lw_all := lw_g (lw_at lw_m3 48 rfl) rfl
theorem q640 : (Jvm.Cond.laysStatic "java/lang/Integer" "DigitOnes" "[B") ∈ lw_tbl := lw_at lw_m3 49 rfl
theorem q641 : (Jvm.Cond.fieldLink "java/lang/Integer" (87 : Nat) "java/lang/Integer" "DigitTens" "[B") ∈ lw_all := lw_g (lw_at lw_m3 50 rfl) rfl
theorem q642 : (Jvm.Cond.laysStatic "java/lang/Integer" "DigitTens" "[B") ∈ lw_tbl := lw_at lw_m3 51 rfl
/-! java/util/AbstractList -/
set_option maxRecDepth 100000
def RJ19 : String := "java/util/AbstractList"
abbrev cJ19_init : ByteArray := prog_43_method_1_code
def yJ19_init : MethodName := ⟨RJ19, "<init>", "()V"⟩
def dkwJ19_init_0 : List UInt8 := [42, 183, 0, 1, 42, 3, 181, 0, 7, 177]
abbrev dktJ19_init_0 : List UInt8 := dkwJ19_init_0 ++ []
theorem dksJ19_init_0 : cJ19_init.data.toList.drop 0 = dktJ19_init_0 := by decide +kernel
theorem dJ19_init_0 : decode cJ19_init 0 = .ok (.aload_n 0, 1) := dk_42 (dk_at dksJ19_init_0 0 rfl rfl)
theorem dJ19_init_1 : decode cJ19_init 1 = .ok (.invokespecial 1, 3) := dk_183 0 1 (dk_at dksJ19_init_0 1 rfl rfl)
theorem dJ19_init_4 : decode cJ19_init 4 = .ok (.aload_n 0, 1) := dk_42 (dk_at dksJ19_init_0 4 rfl rfl)
theorem dJ19_init_5 : decode cJ19_init 5 = .ok (.iconst 0, 1) := dk_3 (dk_at dksJ19_init_0 5 rfl rfl)
theorem dJ19_init_6 : decode cJ19_init 6 = .ok (.putfield 7, 3) := dk_181 0 7 (dk_at dksJ19_init_0 6 rfl rfl)
theorem dJ19_init_9 : decode cJ19_init 9 = .ok (.return_, 1) := dk_177 (dk_at dksJ19_init_0 9 rfl rfl)
theorem q140 : (Jvm.Cond.initialized "java/util/AbstractList") ∈ lw_all := lw_g (lw_at lw_m1 29 rfl) rfl
theorem q801 : (Jvm.Cond.instanceMethod ({ cls := "java/util/AbstractList", name := "<init>", desc := "()V" } : Jvm.MethodName)) ∈ lw_all := lw_g (lw_at lw_m3 210 rfl) rfl
theorem q802 : (Jvm.Cond.code ({ cls := "java/util/AbstractList", name := "<init>", desc := "()V" } : Jvm.MethodName) prog_43_method_1_code (1 : Nat) (Option.none : Option Jvm.ClassFile.FieldType)) ∈ lw_all := lw_g (lw_at lw_m3 211 rfl) rfl
theorem q803 : (Jvm.Cond.methodLink "java/util/AbstractList" (1 : Nat) ({ cls := "java/util/AbstractCollection", name := "<init>", desc := "()V" } : Jvm.MethodName)) ∈ lw_all := lw_g (lw_at lw_m3 212 rfl) rfl
theorem q817 : (Jvm.Cond.fieldLink "java/util/AbstractList" (7 : Nat) "java/util/AbstractList" "modCount" "I") ∈ lw_all := lw_g (lw_at lw_m3 226 rfl) rfl
theorem q825 : (Jvm.Cond.soleField "java/util/AbstractList" "modCount") ∈ lw_all := lw_g (lw_at lw_m3 234 rfl) rfl
/-! java/util/ArrayList -/
set_option maxRecDepth 100000
def RJ20 : String := "java/util/ArrayList"
def TJ20 : u_T := fun k => match k with
  | 0 => ("java/util/AbstractList", "modCount", "I", false)
  | 1 => ("java/util/ArrayList", "elementData", "[Ljava/lang/Object;", false)
  | _ => ("java/util/ArrayList", "size", "I", false)
def tyJ20 : Nat → FieldType := fun k => match k with
  | 0 => .int
  | 1 => .array (.object "java/lang/Object")
  | _ => .int
abbrev wsJ200 : List Cond := u_ws RJ20 TJ20 3
theorem nmJ20 : ∀ a, a < 3 → ∀ b, b < 3 → a ≠ b → (TJ20 a).2.1 ≠ (TJ20 b).2.1 := by decide +kernel
theorem tyJ20_ok : ∀ k, k < 3 → parseFieldDescriptor (TJ20 k).2.2.1 = some (tyJ20 k) := by decide +kernel
abbrev cJ20_get : ByteArray := prog_45_method_20_code
def yJ20_get : MethodName := ⟨RJ20, "get", "(I)Ljava/lang/Object;"⟩
def dkwJ20_get_0 : List UInt8 := [27, 42, 180, 0, 48, 184, 0, 118, 87, 42, 27, 182, 0, 123, 176]
abbrev dktJ20_get_0 : List UInt8 := dkwJ20_get_0 ++ []
theorem dksJ20_get_0 : cJ20_get.data.toList.drop 0 = dktJ20_get_0 := by decide +kernel
theorem dJ20_get_0 : decode cJ20_get 0 = .ok (.iload_n 1, 1) := dk_27 (dk_at dksJ20_get_0 0 rfl rfl)
theorem dJ20_get_1 : decode cJ20_get 1 = .ok (.aload_n 0, 1) := dk_42 (dk_at dksJ20_get_0 1 rfl rfl)
theorem dJ20_get_2 : decode cJ20_get 2 = .ok (.getfield 48, 3) := dk_180 0 48 (dk_at dksJ20_get_0 2 rfl rfl)
theorem dJ20_get_5 : decode cJ20_get 5 = .ok (.invokestatic 118, 3) := dk_184 0 118 (dk_at dksJ20_get_0 5 rfl rfl)
theorem dJ20_get_8 : decode cJ20_get 8 = .ok (.pop, 1) := dk_87 (dk_at dksJ20_get_0 8 rfl rfl)
theorem dJ20_get_9 : decode cJ20_get 9 = .ok (.aload_n 0, 1) := dk_42 (dk_at dksJ20_get_0 9 rfl rfl)
theorem dJ20_get_10 : decode cJ20_get 10 = .ok (.iload_n 1, 1) := dk_27 (dk_at dksJ20_get_0 10 rfl rfl)
theorem dJ20_get_11 : decode cJ20_get 11 = .ok (.invokevirtual 123, 3) := dk_182 0 123 (dk_at dksJ20_get_0 11 rfl rfl)
theorem dJ20_get_14 : decode cJ20_get 14 = .ok (.areturn, 1) := dk_176 (dk_at dksJ20_get_0 14 rfl rfl)
abbrev cJ20_elementData : ByteArray := prog_45_method_18_code
def yJ20_elementData : MethodName := ⟨RJ20, "elementData", "(I)Ljava/lang/Object;"⟩
def dkwJ20_elementData_0 : List UInt8 := [42, 180, 0, 9, 27, 50, 176]
abbrev dktJ20_elementData_0 : List UInt8 := dkwJ20_elementData_0 ++ []
theorem dksJ20_elementData_0 : cJ20_elementData.data.toList.drop 0 = dktJ20_elementData_0 := by decide +kernel
theorem dJ20_elementData_0 : decode cJ20_elementData 0 = .ok (.aload_n 0, 1) := dk_42 (dk_at dksJ20_elementData_0 0 rfl rfl)
theorem dJ20_elementData_1 : decode cJ20_elementData 1 = .ok (.getfield 9, 3) := dk_180 0 9 (dk_at dksJ20_elementData_0 1 rfl rfl)
theorem dJ20_elementData_4 : decode cJ20_elementData 4 = .ok (.iload_n 1, 1) := dk_27 (dk_at dksJ20_elementData_0 4 rfl rfl)
theorem dJ20_elementData_5 : decode cJ20_elementData 5 = .ok (.aaload, 1) := dk_50 (dk_at dksJ20_elementData_0 5 rfl rfl)
theorem dJ20_elementData_6 : decode cJ20_elementData 6 = .ok (.areturn, 1) := dk_176 (dk_at dksJ20_elementData_0 6 rfl rfl)
abbrev cJ20_init : ByteArray := prog_45_method_1_code
def yJ20_init : MethodName := ⟨RJ20, "<init>", "(I)V"⟩
def dkwJ20_init_2 : List UInt8 := [182, 0, 25, 27, 182, 0, 29, 182, 0, 32, 183, 0, 36, 191, 177]
abbrev dktJ20_init_2 : List UInt8 := dkwJ20_init_2 ++ []
def dkwJ20_init_1 : List UInt8 := [178, 0, 15, 181, 0, 9, 167, 0, 30, 187, 0, 18, 89, 187, 0, 20, 89, 183, 0, 22, 18, 23]
abbrev dktJ20_init_1 : List UInt8 := dkwJ20_init_1 ++ dktJ20_init_2
def dkwJ20_init_0 : List UInt8 := [42, 183, 0, 1, 27, 158, 0, 14, 42, 27, 189, 0, 7, 181, 0, 9, 167, 0, 44, 27, 154, 0, 13, 42]
abbrev dktJ20_init_0 : List UInt8 := dkwJ20_init_0 ++ dktJ20_init_1
theorem dksJ20_init_0 : cJ20_init.data.toList.drop 0 = dktJ20_init_0 := by decide +kernel
theorem dksJ20_init_1 : cJ20_init.data.toList.drop 24 = dktJ20_init_1 := dk_seg dksJ20_init_0 24 rfl rfl
theorem dksJ20_init_2 : cJ20_init.data.toList.drop 46 = dktJ20_init_2 := dk_seg dksJ20_init_1 22 rfl rfl
theorem dJ20_init_0 : decode cJ20_init 0 = .ok (.aload_n 0, 1) := dk_42 (dk_at dksJ20_init_0 0 rfl rfl)
theorem dJ20_init_1 : decode cJ20_init 1 = .ok (.invokespecial 1, 3) := dk_183 0 1 (dk_at dksJ20_init_0 1 rfl rfl)
theorem dJ20_init_4 : decode cJ20_init 4 = .ok (.iload_n 1, 1) := dk_27 (dk_at dksJ20_init_0 4 rfl rfl)
theorem dJ20_init_5 : decode cJ20_init 5 = .ok (.ifCond .le 14, 3) := dk_158 0 14 (dk_at dksJ20_init_0 5 rfl rfl)
theorem dJ20_init_8 : decode cJ20_init 8 = .ok (.aload_n 0, 1) := dk_42 (dk_at dksJ20_init_0 8 rfl rfl)
theorem dJ20_init_9 : decode cJ20_init 9 = .ok (.iload_n 1, 1) := dk_27 (dk_at dksJ20_init_0 9 rfl rfl)
theorem dJ20_init_10 : decode cJ20_init 10 = .ok (.anewarray 7, 3) := dk_189 0 7 (dk_at dksJ20_init_0 10 rfl rfl)
theorem dJ20_init_13 : decode cJ20_init 13 = .ok (.putfield 9, 3) := dk_181 0 9 (dk_at dksJ20_init_0 13 rfl rfl)
theorem dJ20_init_16 : decode cJ20_init 16 = .ok (.goto 44, 3) := dk_167 0 44 (dk_at dksJ20_init_0 16 rfl rfl)
theorem dJ20_init_19 : decode cJ20_init 19 = .ok (.iload_n 1, 1) := dk_27 (dk_at dksJ20_init_0 19 rfl rfl)
theorem dJ20_init_20 : decode cJ20_init 20 = .ok (.ifCond .ne 13, 3) := dk_154 0 13 (dk_at dksJ20_init_0 20 rfl rfl)
theorem dJ20_init_23 : decode cJ20_init 23 = .ok (.aload_n 0, 1) := dk_42 (dk_at dksJ20_init_0 23 rfl rfl)
theorem dJ20_init_24 : decode cJ20_init 24 = .ok (.getstatic 15, 3) := dk_178 0 15 (dk_at dksJ20_init_1 0 rfl rfl)
theorem dJ20_init_27 : decode cJ20_init 27 = .ok (.putfield 9, 3) := dk_181 0 9 (dk_at dksJ20_init_1 3 rfl rfl)
theorem dJ20_init_30 : decode cJ20_init 30 = .ok (.goto 30, 3) := dk_167 0 30 (dk_at dksJ20_init_1 6 rfl rfl)
theorem dJ20_init_33 : decode cJ20_init 33 = .ok (.new 18, 3) := dk_187 0 18 (dk_at dksJ20_init_1 9 rfl rfl)
theorem dJ20_init_36 : decode cJ20_init 36 = .ok (.dup, 1) := dk_89 (dk_at dksJ20_init_1 12 rfl rfl)
theorem dJ20_init_37 : decode cJ20_init 37 = .ok (.new 20, 3) := dk_187 0 20 (dk_at dksJ20_init_1 13 rfl rfl)
theorem dJ20_init_40 : decode cJ20_init 40 = .ok (.dup, 1) := dk_89 (dk_at dksJ20_init_1 16 rfl rfl)
theorem dJ20_init_41 : decode cJ20_init 41 = .ok (.invokespecial 22, 3) := dk_183 0 22 (dk_at dksJ20_init_1 17 rfl rfl)
theorem dJ20_init_44 : decode cJ20_init 44 = .ok (.ldc 23, 2) := dk_18 23 (dk_at dksJ20_init_1 20 rfl rfl)
theorem dJ20_init_46 : decode cJ20_init 46 = .ok (.invokevirtual 25, 3) := dk_182 0 25 (dk_at dksJ20_init_2 0 rfl rfl)
theorem dJ20_init_49 : decode cJ20_init 49 = .ok (.iload_n 1, 1) := dk_27 (dk_at dksJ20_init_2 3 rfl rfl)
theorem dJ20_init_50 : decode cJ20_init 50 = .ok (.invokevirtual 29, 3) := dk_182 0 29 (dk_at dksJ20_init_2 4 rfl rfl)
theorem dJ20_init_53 : decode cJ20_init 53 = .ok (.invokevirtual 32, 3) := dk_182 0 32 (dk_at dksJ20_init_2 7 rfl rfl)
theorem dJ20_init_56 : decode cJ20_init 56 = .ok (.invokespecial 36, 3) := dk_183 0 36 (dk_at dksJ20_init_2 10 rfl rfl)
theorem dJ20_init_59 : decode cJ20_init 59 = .ok (.athrow, 1) := dk_191 (dk_at dksJ20_init_2 13 rfl rfl)
theorem dJ20_init_60 : decode cJ20_init 60 = .ok (.return_, 1) := dk_177 (dk_at dksJ20_init_2 14 rfl rfl)
abbrev cJ20_size : ByteArray := prog_45_method_8_code
def yJ20_size : MethodName := ⟨RJ20, "size", "()I"⟩
theorem dJ20_size_0 : decode cJ20_size 0 = .ok (.aload_n 0, 1) := by decide +kernel
theorem dJ20_size_1 : decode cJ20_size 1 = .ok (.getfield 48, 3) := by decide +kernel
theorem dJ20_size_4 : decode cJ20_size 4 = .ok (.ireturn, 1) := by decide +kernel
abbrev cJ20_add : ByteArray := prog_45_method_25_code
def yJ20_add : MethodName := ⟨RJ20, "add", "(Ljava/lang/Object;)Z"⟩
def dkwJ20_add_1 : List UInt8 := [172]
abbrev dktJ20_add_1 : List UInt8 := dkwJ20_add_1 ++ []
def dkwJ20_add_0 : List UInt8 := [42, 89, 180, 0, 63, 4, 96, 181, 0, 63, 42, 43, 42, 180, 0, 9, 42, 180, 0, 48, 182, 0, 131, 4]
abbrev dktJ20_add_0 : List UInt8 := dkwJ20_add_0 ++ dktJ20_add_1
theorem dksJ20_add_0 : cJ20_add.data.toList.drop 0 = dktJ20_add_0 := by decide +kernel
theorem dksJ20_add_1 : cJ20_add.data.toList.drop 24 = dktJ20_add_1 := dk_seg dksJ20_add_0 24 rfl rfl
theorem dJ20_add_0 : decode cJ20_add 0 = .ok (.aload_n 0, 1) := dk_42 (dk_at dksJ20_add_0 0 rfl rfl)
theorem dJ20_add_1 : decode cJ20_add 1 = .ok (.dup, 1) := dk_89 (dk_at dksJ20_add_0 1 rfl rfl)
theorem dJ20_add_2 : decode cJ20_add 2 = .ok (.getfield 63, 3) := dk_180 0 63 (dk_at dksJ20_add_0 2 rfl rfl)
theorem dJ20_add_5 : decode cJ20_add 5 = .ok (.iconst 1, 1) := dk_4 (dk_at dksJ20_add_0 5 rfl rfl)
theorem dJ20_add_6 : decode cJ20_add 6 = .ok (.iadd, 1) := dk_96 (dk_at dksJ20_add_0 6 rfl rfl)
theorem dJ20_add_7 : decode cJ20_add 7 = .ok (.putfield 63, 3) := dk_181 0 63 (dk_at dksJ20_add_0 7 rfl rfl)
theorem dJ20_add_10 : decode cJ20_add 10 = .ok (.aload_n 0, 1) := dk_42 (dk_at dksJ20_add_0 10 rfl rfl)
theorem dJ20_add_11 : decode cJ20_add 11 = .ok (.aload_n 1, 1) := dk_43 (dk_at dksJ20_add_0 11 rfl rfl)
theorem dJ20_add_12 : decode cJ20_add 12 = .ok (.aload_n 0, 1) := dk_42 (dk_at dksJ20_add_0 12 rfl rfl)
theorem dJ20_add_13 : decode cJ20_add 13 = .ok (.getfield 9, 3) := dk_180 0 9 (dk_at dksJ20_add_0 13 rfl rfl)
theorem dJ20_add_16 : decode cJ20_add 16 = .ok (.aload_n 0, 1) := dk_42 (dk_at dksJ20_add_0 16 rfl rfl)
theorem dJ20_add_17 : decode cJ20_add 17 = .ok (.getfield 48, 3) := dk_180 0 48 (dk_at dksJ20_add_0 17 rfl rfl)
theorem dJ20_add_20 : decode cJ20_add 20 = .ok (.invokevirtual 131, 3) := dk_182 0 131 (dk_at dksJ20_add_0 20 rfl rfl)
theorem dJ20_add_23 : decode cJ20_add 23 = .ok (.iconst 1, 1) := dk_4 (dk_at dksJ20_add_0 23 rfl rfl)
theorem dJ20_add_24 : decode cJ20_add 24 = .ok (.ireturn, 1) := dk_172 (dk_at dksJ20_add_1 0 rfl rfl)
abbrev cJ20_add_2 : ByteArray := prog_45_method_24_code
def yJ20_add_2 : MethodName := ⟨RJ20, "add", "(Ljava/lang/Object;[Ljava/lang/Object;I)V"⟩
def dkwJ20_add_2_0 : List UInt8 := [29, 44, 190, 160, 0, 8, 42, 182, 0, 129, 77, 44, 29, 43, 83, 42, 29, 4, 96, 181, 0, 48, 177]
abbrev dktJ20_add_2_0 : List UInt8 := dkwJ20_add_2_0 ++ []
theorem dksJ20_add_2_0 : cJ20_add_2.data.toList.drop 0 = dktJ20_add_2_0 := by decide +kernel
theorem dJ20_add_2_0 : decode cJ20_add_2 0 = .ok (.iload_n 3, 1) := dk_29 (dk_at dksJ20_add_2_0 0 rfl rfl)
theorem dJ20_add_2_1 : decode cJ20_add_2 1 = .ok (.aload_n 2, 1) := dk_44 (dk_at dksJ20_add_2_0 1 rfl rfl)
theorem dJ20_add_2_2 : decode cJ20_add_2 2 = .ok (.arraylength, 1) := dk_190 (dk_at dksJ20_add_2_0 2 rfl rfl)
theorem dJ20_add_2_3 : decode cJ20_add_2 3 = .ok (.if_icmp .ne 8, 3) := dk_160 0 8 (dk_at dksJ20_add_2_0 3 rfl rfl)
theorem dJ20_add_2_6 : decode cJ20_add_2 6 = .ok (.aload_n 0, 1) := dk_42 (dk_at dksJ20_add_2_0 6 rfl rfl)
theorem dJ20_add_2_7 : decode cJ20_add_2 7 = .ok (.invokevirtual 129, 3) := dk_182 0 129 (dk_at dksJ20_add_2_0 7 rfl rfl)
theorem dJ20_add_2_10 : decode cJ20_add_2 10 = .ok (.astore_n 2, 1) := dk_77 (dk_at dksJ20_add_2_0 10 rfl rfl)
theorem dJ20_add_2_11 : decode cJ20_add_2 11 = .ok (.aload_n 2, 1) := dk_44 (dk_at dksJ20_add_2_0 11 rfl rfl)
theorem dJ20_add_2_12 : decode cJ20_add_2 12 = .ok (.iload_n 3, 1) := dk_29 (dk_at dksJ20_add_2_0 12 rfl rfl)
theorem dJ20_add_2_13 : decode cJ20_add_2 13 = .ok (.aload_n 1, 1) := dk_43 (dk_at dksJ20_add_2_0 13 rfl rfl)
theorem dJ20_add_2_14 : decode cJ20_add_2 14 = .ok (.aastore, 1) := dk_83 (dk_at dksJ20_add_2_0 14 rfl rfl)
theorem dJ20_add_2_15 : decode cJ20_add_2 15 = .ok (.aload_n 0, 1) := dk_42 (dk_at dksJ20_add_2_0 15 rfl rfl)
theorem dJ20_add_2_16 : decode cJ20_add_2 16 = .ok (.iload_n 3, 1) := dk_29 (dk_at dksJ20_add_2_0 16 rfl rfl)
theorem dJ20_add_2_17 : decode cJ20_add_2 17 = .ok (.iconst 1, 1) := dk_4 (dk_at dksJ20_add_2_0 17 rfl rfl)
theorem dJ20_add_2_18 : decode cJ20_add_2 18 = .ok (.iadd, 1) := dk_96 (dk_at dksJ20_add_2_0 18 rfl rfl)
theorem dJ20_add_2_19 : decode cJ20_add_2 19 = .ok (.putfield 48, 3) := dk_181 0 48 (dk_at dksJ20_add_2_0 19 rfl rfl)
theorem dJ20_add_2_22 : decode cJ20_add_2 22 = .ok (.return_, 1) := dk_177 (dk_at dksJ20_add_2_0 22 rfl rfl)
abbrev cJ20_grow : ByteArray := prog_45_method_7_code
def yJ20_grow : MethodName := ⟨RJ20, "grow", "()[Ljava/lang/Object;"⟩
def dkwJ20_grow_0 : List UInt8 := [42, 42, 180, 0, 48, 4, 96, 182, 0, 69, 176]
abbrev dktJ20_grow_0 : List UInt8 := dkwJ20_grow_0 ++ []
theorem dksJ20_grow_0 : cJ20_grow.data.toList.drop 0 = dktJ20_grow_0 := by decide +kernel
theorem dJ20_grow_0 : decode cJ20_grow 0 = .ok (.aload_n 0, 1) := dk_42 (dk_at dksJ20_grow_0 0 rfl rfl)
theorem dJ20_grow_1 : decode cJ20_grow 1 = .ok (.aload_n 0, 1) := dk_42 (dk_at dksJ20_grow_0 1 rfl rfl)
theorem dJ20_grow_2 : decode cJ20_grow 2 = .ok (.getfield 48, 3) := dk_180 0 48 (dk_at dksJ20_grow_0 2 rfl rfl)
theorem dJ20_grow_5 : decode cJ20_grow 5 = .ok (.iconst 1, 1) := dk_4 (dk_at dksJ20_grow_0 5 rfl rfl)
theorem dJ20_grow_6 : decode cJ20_grow 6 = .ok (.iadd, 1) := dk_96 (dk_at dksJ20_grow_0 6 rfl rfl)
theorem dJ20_grow_7 : decode cJ20_grow 7 = .ok (.invokevirtual 69, 3) := dk_182 0 69 (dk_at dksJ20_grow_0 7 rfl rfl)
theorem dJ20_grow_10 : decode cJ20_grow 10 = .ok (.areturn, 1) := dk_176 (dk_at dksJ20_grow_0 10 rfl rfl)
abbrev cJ20_grow_2 : ByteArray := prog_45_method_6_code
def yJ20_grow_2 : MethodName := ⟨RJ20, "grow", "(I)[Ljava/lang/Object;"⟩
def dkwJ20_grow_2_2 : List UInt8 := [27, 184, 0, 79, 189, 0, 7, 90, 181, 0, 9, 176]
abbrev dktJ20_grow_2_2 : List UInt8 := dkwJ20_grow_2_2 ++ []
def dkwJ20_grow_2_1 : List UInt8 := [28, 4, 122, 184, 0, 73, 62, 42, 42, 180, 0, 9, 29, 184, 0, 66, 90, 181, 0, 9, 176, 42, 16, 10]
abbrev dktJ20_grow_2_1 : List UInt8 := dkwJ20_grow_2_1 ++ dktJ20_grow_2_2
def dkwJ20_grow_2_0 : List UInt8 := [42, 180, 0, 9, 190, 61, 28, 157, 0, 13, 42, 180, 0, 9, 178, 0, 39, 165, 0, 28, 28, 27, 28, 100]
abbrev dktJ20_grow_2_0 : List UInt8 := dkwJ20_grow_2_0 ++ dktJ20_grow_2_1
theorem dksJ20_grow_2_0 : cJ20_grow_2.data.toList.drop 0 = dktJ20_grow_2_0 := by decide +kernel
theorem dksJ20_grow_2_1 : cJ20_grow_2.data.toList.drop 24 = dktJ20_grow_2_1 := dk_seg dksJ20_grow_2_0 24 rfl rfl
theorem dksJ20_grow_2_2 : cJ20_grow_2.data.toList.drop 48 = dktJ20_grow_2_2 := dk_seg dksJ20_grow_2_1 24 rfl rfl
theorem dJ20_grow_2_0 : decode cJ20_grow_2 0 = .ok (.aload_n 0, 1) := dk_42 (dk_at dksJ20_grow_2_0 0 rfl rfl)
theorem dJ20_grow_2_1 : decode cJ20_grow_2 1 = .ok (.getfield 9, 3) := dk_180 0 9 (dk_at dksJ20_grow_2_0 1 rfl rfl)
theorem dJ20_grow_2_4 : decode cJ20_grow_2 4 = .ok (.arraylength, 1) := dk_190 (dk_at dksJ20_grow_2_0 4 rfl rfl)
theorem dJ20_grow_2_5 : decode cJ20_grow_2 5 = .ok (.istore_n 2, 1) := dk_61 (dk_at dksJ20_grow_2_0 5 rfl rfl)
theorem dJ20_grow_2_6 : decode cJ20_grow_2 6 = .ok (.iload_n 2, 1) := dk_28 (dk_at dksJ20_grow_2_0 6 rfl rfl)
theorem dJ20_grow_2_7 : decode cJ20_grow_2 7 = .ok (.ifCond .gt 13, 3) := dk_157 0 13 (dk_at dksJ20_grow_2_0 7 rfl rfl)
theorem dJ20_grow_2_10 : decode cJ20_grow_2 10 = .ok (.aload_n 0, 1) := dk_42 (dk_at dksJ20_grow_2_0 10 rfl rfl)
theorem dJ20_grow_2_11 : decode cJ20_grow_2 11 = .ok (.getfield 9, 3) := dk_180 0 9 (dk_at dksJ20_grow_2_0 11 rfl rfl)
theorem dJ20_grow_2_14 : decode cJ20_grow_2 14 = .ok (.getstatic 39, 3) := dk_178 0 39 (dk_at dksJ20_grow_2_0 14 rfl rfl)
theorem dJ20_grow_2_17 : decode cJ20_grow_2 17 = .ok (.if_acmp .eq 28, 3) := dk_165 0 28 (dk_at dksJ20_grow_2_0 17 rfl rfl)
theorem dJ20_grow_2_20 : decode cJ20_grow_2 20 = .ok (.iload_n 2, 1) := dk_28 (dk_at dksJ20_grow_2_0 20 rfl rfl)
theorem dJ20_grow_2_21 : decode cJ20_grow_2 21 = .ok (.iload_n 1, 1) := dk_27 (dk_at dksJ20_grow_2_0 21 rfl rfl)
theorem dJ20_grow_2_22 : decode cJ20_grow_2 22 = .ok (.iload_n 2, 1) := dk_28 (dk_at dksJ20_grow_2_0 22 rfl rfl)
theorem dJ20_grow_2_23 : decode cJ20_grow_2 23 = .ok (.isub, 1) := dk_100 (dk_at dksJ20_grow_2_0 23 rfl rfl)
theorem dJ20_grow_2_24 : decode cJ20_grow_2 24 = .ok (.iload_n 2, 1) := dk_28 (dk_at dksJ20_grow_2_1 0 rfl rfl)
theorem dJ20_grow_2_25 : decode cJ20_grow_2 25 = .ok (.iconst 1, 1) := dk_4 (dk_at dksJ20_grow_2_1 1 rfl rfl)
theorem dJ20_grow_2_26 : decode cJ20_grow_2 26 = .ok (.ishr, 1) := dk_122 (dk_at dksJ20_grow_2_1 2 rfl rfl)
theorem dJ20_grow_2_27 : decode cJ20_grow_2 27 = .ok (.invokestatic 73, 3) := dk_184 0 73 (dk_at dksJ20_grow_2_1 3 rfl rfl)
theorem dJ20_grow_2_30 : decode cJ20_grow_2 30 = .ok (.istore_n 3, 1) := dk_62 (dk_at dksJ20_grow_2_1 6 rfl rfl)
theorem dJ20_grow_2_31 : decode cJ20_grow_2 31 = .ok (.aload_n 0, 1) := dk_42 (dk_at dksJ20_grow_2_1 7 rfl rfl)
theorem dJ20_grow_2_32 : decode cJ20_grow_2 32 = .ok (.aload_n 0, 1) := dk_42 (dk_at dksJ20_grow_2_1 8 rfl rfl)
theorem dJ20_grow_2_33 : decode cJ20_grow_2 33 = .ok (.getfield 9, 3) := dk_180 0 9 (dk_at dksJ20_grow_2_1 9 rfl rfl)
theorem dJ20_grow_2_36 : decode cJ20_grow_2 36 = .ok (.iload_n 3, 1) := dk_29 (dk_at dksJ20_grow_2_1 12 rfl rfl)
theorem dJ20_grow_2_37 : decode cJ20_grow_2 37 = .ok (.invokestatic 66, 3) := dk_184 0 66 (dk_at dksJ20_grow_2_1 13 rfl rfl)
theorem dJ20_grow_2_40 : decode cJ20_grow_2 40 = .ok (.dup_x1, 1) := dk_90 (dk_at dksJ20_grow_2_1 16 rfl rfl)
theorem dJ20_grow_2_41 : decode cJ20_grow_2 41 = .ok (.putfield 9, 3) := dk_181 0 9 (dk_at dksJ20_grow_2_1 17 rfl rfl)
theorem dJ20_grow_2_44 : decode cJ20_grow_2 44 = .ok (.areturn, 1) := dk_176 (dk_at dksJ20_grow_2_1 20 rfl rfl)
theorem dJ20_grow_2_45 : decode cJ20_grow_2 45 = .ok (.aload_n 0, 1) := dk_42 (dk_at dksJ20_grow_2_1 21 rfl rfl)
theorem dJ20_grow_2_46 : decode cJ20_grow_2 46 = .ok (.bipush 10, 2) := dk_16 10 (dk_at dksJ20_grow_2_1 22 rfl rfl)
theorem dJ20_grow_2_48 : decode cJ20_grow_2 48 = .ok (.iload_n 1, 1) := dk_27 (dk_at dksJ20_grow_2_2 0 rfl rfl)
theorem dJ20_grow_2_49 : decode cJ20_grow_2 49 = .ok (.invokestatic 79, 3) := dk_184 0 79 (dk_at dksJ20_grow_2_2 1 rfl rfl)
theorem dJ20_grow_2_52 : decode cJ20_grow_2 52 = .ok (.anewarray 7, 3) := dk_189 0 7 (dk_at dksJ20_grow_2_2 4 rfl rfl)
theorem dJ20_grow_2_55 : decode cJ20_grow_2 55 = .ok (.dup_x1, 1) := dk_90 (dk_at dksJ20_grow_2_2 7 rfl rfl)
theorem dJ20_grow_2_56 : decode cJ20_grow_2 56 = .ok (.putfield 9, 3) := dk_181 0 9 (dk_at dksJ20_grow_2_2 8 rfl rfl)
theorem dJ20_grow_2_59 : decode cJ20_grow_2 59 = .ok (.areturn, 1) := dk_176 (dk_at dksJ20_grow_2_2 11 rfl rfl)
abbrev cJ20_isEmpty : ByteArray := prog_45_method_9_code
def yJ20_isEmpty : MethodName := ⟨RJ20, "isEmpty", "()Z"⟩
def dkwJ20_isEmpty_0 : List UInt8 := [42, 180, 0, 48, 154, 0, 7, 4, 167, 0, 4, 3, 172]
abbrev dktJ20_isEmpty_0 : List UInt8 := dkwJ20_isEmpty_0 ++ []
theorem dksJ20_isEmpty_0 : cJ20_isEmpty.data.toList.drop 0 = dktJ20_isEmpty_0 := by decide +kernel
theorem dJ20_isEmpty_0 : decode cJ20_isEmpty 0 = .ok (.aload_n 0, 1) := dk_42 (dk_at dksJ20_isEmpty_0 0 rfl rfl)
theorem dJ20_isEmpty_1 : decode cJ20_isEmpty 1 = .ok (.getfield 48, 3) := dk_180 0 48 (dk_at dksJ20_isEmpty_0 1 rfl rfl)
theorem dJ20_isEmpty_4 : decode cJ20_isEmpty 4 = .ok (.ifCond .ne 7, 3) := dk_154 0 7 (dk_at dksJ20_isEmpty_0 4 rfl rfl)
theorem dJ20_isEmpty_7 : decode cJ20_isEmpty 7 = .ok (.iconst 1, 1) := dk_4 (dk_at dksJ20_isEmpty_0 7 rfl rfl)
theorem dJ20_isEmpty_8 : decode cJ20_isEmpty 8 = .ok (.goto 4, 3) := dk_167 0 4 (dk_at dksJ20_isEmpty_0 8 rfl rfl)
theorem dJ20_isEmpty_11 : decode cJ20_isEmpty 11 = .ok (.iconst 0, 1) := dk_3 (dk_at dksJ20_isEmpty_0 11 rfl rfl)
theorem dJ20_isEmpty_12 : decode cJ20_isEmpty 12 = .ok (.ireturn, 1) := dk_172 (dk_at dksJ20_isEmpty_0 12 rfl rfl)
theorem q141 : (Jvm.Cond.initialized "java/util/ArrayList") ∈ lw_all := lw_g (lw_at lw_m1 30 rfl) rfl
theorem q195 : (Jvm.Cond.castable "java/util/ArrayList" "java/util/List") ∈ lw_tbl := lw_at lw_m1 84 rfl
theorem q196 : (Jvm.Cond.selects "java/util/ArrayList" ({ cls := "java/util/List", name := "get", desc := "(I)Ljava/lang/Object;" } : Jvm.MethodName) ({ cls := "java/util/ArrayList", name := "get", desc := "(I)Ljava/lang/Object;" } : Jvm.MethodName)) ∈ lw_all := lw_g (lw_at lw_m1 85 rfl) rfl
theorem q197 : (Jvm.Cond.unhidden "java/util/ArrayList" "get" "(I)Ljava/lang/Object;") ∈ lw_tbl := lw_at lw_m1 86 rfl
theorem q198 : (Jvm.Cond.instanceMethod ({ cls := "java/util/ArrayList", name := "get", desc := "(I)Ljava/lang/Object;" } : Jvm.MethodName)) ∈ lw_all := lw_g (lw_at lw_m1 87 rfl) rfl
theorem q199 : (Jvm.Cond.publicMethod ({ cls := "java/util/ArrayList", name := "get", desc := "(I)Ljava/lang/Object;" } : Jvm.MethodName)) ∈ lw_tbl := lw_at lw_m1 88 rfl
theorem q200 : (Jvm.Cond.code ({ cls := "java/util/ArrayList", name := "get", desc := "(I)Ljava/lang/Object;" } : Jvm.MethodName) prog_45_method_20_code (2 : Nat) (Option.some (Jvm.ClassFile.FieldType.object "java/lang/Object"))) ∈ lw_all := lw_g (lw_at lw_m1 89 rfl) rfl
theorem q201 : (Jvm.Cond.methodLink "java/util/ArrayList" (118 : Nat) ({ cls := "java/util/Objects", name := "checkIndex", desc := "(II)I" } : Jvm.MethodName)) ∈ lw_all := lw_g (lw_at lw_m1 90 rfl) rfl
theorem q207 : (Jvm.Cond.methodLink "java/util/ArrayList" (123 : Nat) ({ cls := "java/util/ArrayList", name := "elementData", desc := "(I)Ljava/lang/Object;" } : Jvm.MethodName)) ∈ lw_all := lw_g (lw_at lw_m1 96 rfl) rfl
theorem q208 : (Jvm.Cond.instanceMethod ({ cls := "java/util/ArrayList", name := "elementData", desc := "(I)Ljava/lang/Object;" } : Jvm.MethodName)) ∈ lw_all := lw_g (lw_at lw_m1 97 rfl) rfl
theorem q209 : (Jvm.Cond.selects "java/util/ArrayList" ({ cls := "java/util/ArrayList", name := "elementData", desc := "(I)Ljava/lang/Object;" } : Jvm.MethodName) ({ cls := "java/util/ArrayList", name := "elementData", desc := "(I)Ljava/lang/Object;" } : Jvm.MethodName)) ∈ lw_all := lw_g (lw_at lw_m1 98 rfl) rfl
theorem q210 : (Jvm.Cond.code ({ cls := "java/util/ArrayList", name := "elementData", desc := "(I)Ljava/lang/Object;" } : Jvm.MethodName) prog_45_method_18_code (2 : Nat) (Option.some (Jvm.ClassFile.FieldType.object "java/lang/Object"))) ∈ lw_all := lw_g (lw_at lw_m1 99 rfl) rfl
theorem q796 : (Jvm.Cond.instantiable "java/util/ArrayList" (3 : Nat)) ∈ lw_all := lw_g (lw_at lw_m3 205 rfl) rfl
theorem q798 : (Jvm.Cond.instanceMethod ({ cls := "java/util/ArrayList", name := "<init>", desc := "(I)V" } : Jvm.MethodName)) ∈ lw_all := lw_g (lw_at lw_m3 207 rfl) rfl
theorem q799 : (Jvm.Cond.code ({ cls := "java/util/ArrayList", name := "<init>", desc := "(I)V" } : Jvm.MethodName) prog_45_method_1_code (2 : Nat) (Option.none : Option Jvm.ClassFile.FieldType)) ∈ lw_all := lw_g (lw_at lw_m3 208 rfl) rfl
theorem q800 : (Jvm.Cond.methodLink "java/util/ArrayList" (1 : Nat) ({ cls := "java/util/AbstractList", name := "<init>", desc := "()V" } : Jvm.MethodName)) ∈ lw_all := lw_g (lw_at lw_m3 209 rfl) rfl
theorem q804 : (Jvm.Cond.classLink "java/util/ArrayList" (7 : Nat) "java/lang/Object") ∈ lw_all := lw_g (lw_at lw_m3 213 rfl) rfl
theorem q805 : (Jvm.Cond.fieldLink "java/util/ArrayList" (15 : Nat) "java/util/ArrayList" "EMPTY_ELEMENTDATA" "[Ljava/lang/Object;") ∈ lw_all := lw_g (lw_at lw_m3 214 rfl) rfl
theorem q806 : (Jvm.Cond.laysStatic "java/util/ArrayList" "EMPTY_ELEMENTDATA" "[Ljava/lang/Object;") ∈ lw_tbl := lw_at lw_m3 215 rfl
theorem q807 : (Jvm.Cond.classLink "java/util/ArrayList" (18 : Nat) "java/lang/IllegalArgumentException") ∈ lw_all := lw_g (lw_at lw_m3 216 rfl) rfl
theorem q808 : (Jvm.Cond.classLink "java/util/ArrayList" (20 : Nat) "java/lang/StringBuilder") ∈ lw_all := lw_g (lw_at lw_m3 217 rfl) rfl
theorem q809 : (Jvm.Cond.methodLink "java/util/ArrayList" (22 : Nat) ({ cls := "java/lang/StringBuilder", name := "<init>", desc := "()V" } : Jvm.MethodName)) ∈ lw_all := lw_g (lw_at lw_m3 218 rfl) rfl
theorem q810 : (Jvm.Cond.stringRef "java/util/ArrayList" (23 : Nat) "Illegal Capacity: ") ∈ lw_tbl := lw_at lw_m3 219 rfl
theorem q811 : (Jvm.Cond.methodLink "java/util/ArrayList" (25 : Nat) ({ cls := "java/lang/StringBuilder", name := "append", desc := "(Ljava/lang/String;)Ljava/lang/StringBuilder;" } : Jvm.MethodName)) ∈ lw_all := lw_g (lw_at lw_m3 220 rfl) rfl
theorem q812 : (Jvm.Cond.methodLink "java/util/ArrayList" (29 : Nat) ({ cls := "java/lang/StringBuilder", name := "append", desc := "(I)Ljava/lang/StringBuilder;" } : Jvm.MethodName)) ∈ lw_all := lw_g (lw_at lw_m3 221 rfl) rfl
theorem q813 : (Jvm.Cond.methodLink "java/util/ArrayList" (32 : Nat) ({ cls := "java/lang/StringBuilder", name := "toString", desc := "()Ljava/lang/String;" } : Jvm.MethodName)) ∈ lw_all := lw_g (lw_at lw_m3 222 rfl) rfl
theorem q814 : (Jvm.Cond.methodLink "java/util/ArrayList" (36 : Nat) ({ cls := "java/lang/IllegalArgumentException", name := "<init>", desc := "(Ljava/lang/String;)V" } : Jvm.MethodName)) ∈ lw_all := lw_g (lw_at lw_m3 223 rfl) rfl
theorem q815 : (Jvm.Cond.fieldLink "java/util/ArrayList" (9 : Nat) "java/util/ArrayList" "elementData" "[Ljava/lang/Object;") ∈ lw_all := lw_g (lw_at lw_m3 224 rfl) rfl
theorem q816 : (Jvm.Cond.fieldLink "java/util/ArrayList" (48 : Nat) "java/util/ArrayList" "size" "I") ∈ lw_all := lw_g (lw_at lw_m3 225 rfl) rfl
theorem q818 : (Jvm.Cond.fieldLink "java/util/ArrayList" (63 : Nat) "java/util/ArrayList" "modCount" "I") ∈ lw_all := lw_g (lw_at lw_m3 227 rfl) rfl
theorem q819 : (Jvm.Cond.sameField "java/util/ArrayList" "java/util/AbstractList" "modCount" "I") ∈ lw_all := lw_g (lw_at lw_m3 228 rfl) rfl
theorem q820 : (Jvm.Cond.lays "java/util/ArrayList" "java/util/ArrayList" "elementData" "[Ljava/lang/Object;") ∈ lw_all := lw_g (lw_at lw_m3 229 rfl) rfl
theorem q821 : (Jvm.Cond.soleField "java/util/ArrayList" "elementData") ∈ lw_all := lw_g (lw_at lw_m3 230 rfl) rfl
theorem q822 : (Jvm.Cond.lays "java/util/ArrayList" "java/util/ArrayList" "size" "I") ∈ lw_all := lw_g (lw_at lw_m3 231 rfl) rfl
theorem q823 : (Jvm.Cond.soleField "java/util/ArrayList" "size") ∈ lw_all := lw_g (lw_at lw_m3 232 rfl) rfl
theorem q824 : (Jvm.Cond.lays "java/util/ArrayList" "java/util/AbstractList" "modCount" "I") ∈ lw_all := lw_g (lw_at lw_m3 233 rfl) rfl
theorem q826 : (Jvm.Cond.superclass "java/util/ArrayList" "java/util/AbstractList") ∈ lw_all := lw_g (lw_at lw_m3 235 rfl) rfl
theorem q954 : (Jvm.Cond.selects "java/util/ArrayList" ({ cls := "java/util/List", name := "size", desc := "()I" } : Jvm.MethodName) ({ cls := "java/util/ArrayList", name := "size", desc := "()I" } : Jvm.MethodName)) ∈ lw_all := lw_g (lw_at lw_m4 123 rfl) rfl
theorem q955 : (Jvm.Cond.unhidden "java/util/ArrayList" "size" "()I") ∈ lw_tbl := lw_at lw_m4 124 rfl
theorem q956 : (Jvm.Cond.instanceMethod ({ cls := "java/util/ArrayList", name := "size", desc := "()I" } : Jvm.MethodName)) ∈ lw_all := lw_g (lw_at lw_m4 125 rfl) rfl
theorem q957 : (Jvm.Cond.publicMethod ({ cls := "java/util/ArrayList", name := "size", desc := "()I" } : Jvm.MethodName)) ∈ lw_tbl := lw_at lw_m4 126 rfl
theorem q958 : (Jvm.Cond.code ({ cls := "java/util/ArrayList", name := "size", desc := "()I" } : Jvm.MethodName) prog_45_method_8_code (1 : Nat) (Option.some Jvm.ClassFile.FieldType.int)) ∈ lw_all := lw_g (lw_at lw_m4 127 rfl) rfl
theorem q1006 : (Jvm.Cond.selects "java/util/ArrayList" ({ cls := "java/util/List", name := "add", desc := "(Ljava/lang/Object;)Z" } : Jvm.MethodName) ({ cls := "java/util/ArrayList", name := "add", desc := "(Ljava/lang/Object;)Z" } : Jvm.MethodName)) ∈ lw_all := lw_g (lw_at lw_m4 175 rfl) rfl
theorem q1007 : (Jvm.Cond.unhidden "java/util/ArrayList" "add" "(Ljava/lang/Object;)Z") ∈ lw_tbl := lw_at lw_m4 176 rfl
theorem q1008 : (Jvm.Cond.instanceMethod ({ cls := "java/util/ArrayList", name := "add", desc := "(Ljava/lang/Object;)Z" } : Jvm.MethodName)) ∈ lw_all := lw_g (lw_at lw_m4 177 rfl) rfl
theorem q1009 : (Jvm.Cond.publicMethod ({ cls := "java/util/ArrayList", name := "add", desc := "(Ljava/lang/Object;)Z" } : Jvm.MethodName)) ∈ lw_tbl := lw_at lw_m4 178 rfl
theorem q1010 : (Jvm.Cond.code ({ cls := "java/util/ArrayList", name := "add", desc := "(Ljava/lang/Object;)Z" } : Jvm.MethodName) prog_45_method_25_code (2 : Nat) (Option.some Jvm.ClassFile.FieldType.boolean)) ∈ lw_all := lw_g (lw_at lw_m4 179 rfl) rfl
theorem q1011 : (Jvm.Cond.methodLink "java/util/ArrayList" (131 : Nat) ({ cls := "java/util/ArrayList", name := "add", desc := "(Ljava/lang/Object;[Ljava/lang/Object;I)V" } : Jvm.MethodName)) ∈ lw_all := lw_g (lw_at lw_m4 180 rfl) rfl
theorem q1012 : (Jvm.Cond.privateMethod ({ cls := "java/util/ArrayList", name := "add", desc := "(Ljava/lang/Object;[Ljava/lang/Object;I)V" } : Jvm.MethodName)) ∈ lw_tbl := lw_at lw_m4 181 rfl
theorem q1013 : (Jvm.Cond.instanceMethod ({ cls := "java/util/ArrayList", name := "add", desc := "(Ljava/lang/Object;[Ljava/lang/Object;I)V" } : Jvm.MethodName)) ∈ lw_all := lw_g (lw_at lw_m4 182 rfl) rfl
theorem q1014 : (Jvm.Cond.code ({ cls := "java/util/ArrayList", name := "add", desc := "(Ljava/lang/Object;[Ljava/lang/Object;I)V" } : Jvm.MethodName) prog_45_method_24_code (4 : Nat) (Option.none : Option Jvm.ClassFile.FieldType)) ∈ lw_all := lw_g (lw_at lw_m4 183 rfl) rfl
theorem q1015 : (Jvm.Cond.methodLink "java/util/ArrayList" (129 : Nat) ({ cls := "java/util/ArrayList", name := "grow", desc := "()[Ljava/lang/Object;" } : Jvm.MethodName)) ∈ lw_all := lw_g (lw_at lw_m4 184 rfl) rfl
theorem q1016 : (Jvm.Cond.privateMethod ({ cls := "java/util/ArrayList", name := "grow", desc := "()[Ljava/lang/Object;" } : Jvm.MethodName)) ∈ lw_tbl := lw_at lw_m4 185 rfl
theorem q1017 : (Jvm.Cond.instanceMethod ({ cls := "java/util/ArrayList", name := "grow", desc := "()[Ljava/lang/Object;" } : Jvm.MethodName)) ∈ lw_all := lw_g (lw_at lw_m4 186 rfl) rfl
theorem q1018 : (Jvm.Cond.code ({ cls := "java/util/ArrayList", name := "grow", desc := "()[Ljava/lang/Object;" } : Jvm.MethodName) prog_45_method_7_code (1 : Nat) (Option.some (Jvm.ClassFile.FieldType.array (Jvm.ClassFile.FieldType.object "java/lang/Object")))) ∈ lw_all := lw_g (lw_at lw_m4 187 rfl) rfl
theorem q1019 : (Jvm.Cond.methodLink "java/util/ArrayList" (69 : Nat) ({ cls := "java/util/ArrayList", name := "grow", desc := "(I)[Ljava/lang/Object;" } : Jvm.MethodName)) ∈ lw_all := lw_g (lw_at lw_m4 188 rfl) rfl
theorem q1020 : (Jvm.Cond.privateMethod ({ cls := "java/util/ArrayList", name := "grow", desc := "(I)[Ljava/lang/Object;" } : Jvm.MethodName)) ∈ lw_tbl := lw_at lw_m4 189 rfl
theorem q1021 : (Jvm.Cond.instanceMethod ({ cls := "java/util/ArrayList", name := "grow", desc := "(I)[Ljava/lang/Object;" } : Jvm.MethodName)) ∈ lw_all := lw_g (lw_at lw_m4 190 rfl) rfl
theorem q1022 : (Jvm.Cond.code ({ cls := "java/util/ArrayList", name := "grow", desc := "(I)[Ljava/lang/Object;" } : Jvm.MethodName) prog_45_method_6_code (4 : Nat) (Option.some (Jvm.ClassFile.FieldType.array (Jvm.ClassFile.FieldType.object "java/lang/Object")))) ∈ lw_all := lw_g (lw_at lw_m4 191 rfl) rfl
theorem q1023 : (Jvm.Cond.fieldLink "java/util/ArrayList" (39 : Nat) "java/util/ArrayList" "DEFAULTCAPACITY_EMPTY_ELEMENTDATA" "[Ljava/lang/Object;") ∈ lw_all := lw_g (lw_at lw_m4 192 rfl) rfl
theorem q1024 : (Jvm.Cond.laysStatic "java/util/ArrayList" "DEFAULTCAPACITY_EMPTY_ELEMENTDATA" "[Ljava/lang/Object;") ∈ lw_tbl := lw_at lw_m4 193 rfl
theorem q1025 : (Jvm.Cond.methodLink "java/util/ArrayList" (73 : Nat) ({ cls := "jdk/internal/util/ArraysSupport", name := "newLength", desc := "(III)I" } : Jvm.MethodName)) ∈ lw_all := lw_g (lw_at lw_m4 194 rfl) rfl
theorem q1026 : (Jvm.Cond.methodLink "java/util/ArrayList" (66 : Nat) ({ cls := "java/util/Arrays", name := "copyOf", desc := "([Ljava/lang/Object;I)[Ljava/lang/Object;" } : Jvm.MethodName)) ∈ lw_all := lw_g (lw_at lw_m4 195 rfl) rfl
theorem q1051 : (Jvm.Cond.selects "java/util/ArrayList" ({ cls := "java/lang/Object", name := "getClass", desc := "()Ljava/lang/Class;" } : Jvm.MethodName) ({ cls := "java/lang/Object", name := "getClass", desc := "()Ljava/lang/Class;" } : Jvm.MethodName)) ∈ lw_all := lw_g (lw_at lw_m4 220 rfl) rfl
theorem q1058 : (Jvm.Cond.methodLink "java/util/ArrayList" (79 : Nat) ({ cls := "java/lang/Math", name := "max", desc := "(II)I" } : Jvm.MethodName)) ∈ lw_all := lw_g (lw_at lw_m4 227 rfl) rfl
theorem q1278 : (Jvm.Cond.selects "java/util/ArrayList" ({ cls := "java/util/List", name := "isEmpty", desc := "()Z" } : Jvm.MethodName) ({ cls := "java/util/ArrayList", name := "isEmpty", desc := "()Z" } : Jvm.MethodName)) ∈ lw_all := lw_g (lw_at lw_m5 207 rfl) rfl
theorem q1279 : (Jvm.Cond.unhidden "java/util/ArrayList" "isEmpty" "()Z") ∈ lw_tbl := lw_at lw_m5 208 rfl
theorem q1280 : (Jvm.Cond.instanceMethod ({ cls := "java/util/ArrayList", name := "isEmpty", desc := "()Z" } : Jvm.MethodName)) ∈ lw_all := lw_g (lw_at lw_m5 209 rfl) rfl
theorem q1281 : (Jvm.Cond.publicMethod ({ cls := "java/util/ArrayList", name := "isEmpty", desc := "()Z" } : Jvm.MethodName)) ∈ lw_tbl := lw_at lw_m5 210 rfl
theorem q1282 : (Jvm.Cond.code ({ cls := "java/util/ArrayList", name := "isEmpty", desc := "()Z" } : Jvm.MethodName) prog_45_method_9_code (1 : Nat) (Option.some Jvm.ClassFile.FieldType.boolean)) ∈ lw_all := lw_g (lw_at lw_m5 211 rfl) rfl
theorem q2585 : (Jvm.Cond.castable "java/util/ArrayList" "java/lang/Object") ∈ lw_tbl := lw_at lw_m11 74 rfl
theorem in_J20 : ∀ w ∈ wsJ200, w ∈ lw_all := lw_in wsJ200 [824, 820, 822] (by decide +kernel) (by decide +kernel)
/-! java/lang/Record -/
set_option maxRecDepth 100000
def RJ21 : String := "java/lang/Record"
abbrev cJ21_init : ByteArray := prog_31_method_1_code
def yJ21_init : MethodName := ⟨RJ21, "<init>", "()V"⟩
theorem dJ21_init_0 : decode cJ21_init 0 = .ok (.aload_n 0, 1) := by decide +kernel
theorem dJ21_init_1 : decode cJ21_init 1 = .ok (.invokespecial 1, 3) := by decide +kernel
theorem dJ21_init_4 : decode cJ21_init 4 = .ok (.return_, 1) := by decide +kernel
theorem q142 : (Jvm.Cond.initialized "java/lang/Record") ∈ lw_all := lw_g (lw_at lw_m1 31 rfl) rfl
theorem q989 : (Jvm.Cond.instanceMethod ({ cls := "java/lang/Record", name := "<init>", desc := "()V" } : Jvm.MethodName)) ∈ lw_all := lw_g (lw_at lw_m4 158 rfl) rfl
theorem q990 : (Jvm.Cond.code ({ cls := "java/lang/Record", name := "<init>", desc := "()V" } : Jvm.MethodName) prog_31_method_1_code (1 : Nat) (Option.none : Option Jvm.ClassFile.FieldType)) ∈ lw_all := lw_g (lw_at lw_m4 159 rfl) rfl
theorem q991 : (Jvm.Cond.methodLink "java/lang/Record" (1 : Nat) ({ cls := "java/lang/Object", name := "<init>", desc := "()V" } : Jvm.MethodName)) ∈ lw_all := lw_g (lw_at lw_m4 160 rfl) rfl
/-! java/lang/IllegalStateException -/
set_option maxRecDepth 100000
def RJ22 : String := "java/lang/IllegalStateException"
def TJ22 : u_T := fun k => match k with
  | 0 => ("java/lang/Throwable", "cause", "Ljava/lang/Throwable;", false)
  | 1 => ("java/lang/Throwable", "stackTrace", "[Ljava/lang/StackTraceElement;", false)
  | 2 => ("java/lang/Throwable", "suppressedExceptions", "Ljava/util/List;", false)
  | 3 => ("java/lang/Throwable", "detailMessage", "Ljava/lang/String;", false)
  | 4 => ("java/lang/Throwable", "backtrace", "Ljava/lang/Object;", false)
  | _ => ("java/lang/Throwable", "depth", "I", false)
def tyJ22 : Nat → FieldType := fun k => match k with
  | 0 => .object "java/lang/Throwable"
  | 1 => .array (.object "java/lang/StackTraceElement")
  | 2 => .object "java/util/List"
  | 3 => .object "java/lang/String"
  | 4 => .object "java/lang/Object"
  | _ => .int
abbrev wsJ220 : List Cond := u_ws RJ22 TJ22 6
theorem nmJ22 : ∀ a, a < 6 → ∀ b, b < 6 → a ≠ b → (TJ22 a).2.1 ≠ (TJ22 b).2.1 := by decide +kernel
theorem tyJ22_ok : ∀ k, k < 6 → parseFieldDescriptor (TJ22 k).2.2.1 = some (tyJ22 k) := by decide +kernel
abbrev cJ22_init : ByteArray := prog_25_method_1_code
def yJ22_init : MethodName := ⟨RJ22, "<init>", "()V"⟩
theorem dJ22_init_0 : decode cJ22_init 0 = .ok (.aload_n 0, 1) := by decide +kernel
theorem dJ22_init_1 : decode cJ22_init 1 = .ok (.invokespecial 1, 3) := by decide +kernel
theorem dJ22_init_4 : decode cJ22_init 4 = .ok (.return_, 1) := by decide +kernel
abbrev cJ22_init_2 : ByteArray := prog_25_method_2_code
def yJ22_init_2 : MethodName := ⟨RJ22, "<init>", "(Ljava/lang/String;)V"⟩
def dkwJ22_init_2_0 : List UInt8 := [42, 43, 183, 0, 7, 177]
abbrev dktJ22_init_2_0 : List UInt8 := dkwJ22_init_2_0 ++ []
theorem dksJ22_init_2_0 : cJ22_init_2.data.toList.drop 0 = dktJ22_init_2_0 := by decide +kernel
theorem dJ22_init_2_0 : decode cJ22_init_2 0 = .ok (.aload_n 0, 1) := dk_42 (dk_at dksJ22_init_2_0 0 rfl rfl)
theorem dJ22_init_2_1 : decode cJ22_init_2 1 = .ok (.aload_n 1, 1) := dk_43 (dk_at dksJ22_init_2_0 1 rfl rfl)
theorem dJ22_init_2_2 : decode cJ22_init_2 2 = .ok (.invokespecial 7, 3) := dk_183 0 7 (dk_at dksJ22_init_2_0 2 rfl rfl)
theorem dJ22_init_2_5 : decode cJ22_init_2 5 = .ok (.return_, 1) := dk_177 (dk_at dksJ22_init_2_0 5 rfl rfl)
theorem q149 : (Jvm.Cond.initialized "java/lang/IllegalStateException") ∈ lw_all := lw_g (lw_at lw_m1 38 rfl) rfl
theorem q315 : (Jvm.Cond.selects "java/lang/IllegalStateException" ({ cls := "java/lang/Throwable", name := "fillInStackTrace", desc := "()Ljava/lang/Throwable;" } : Jvm.MethodName) ({ cls := "java/lang/Throwable", name := "fillInStackTrace", desc := "()Ljava/lang/Throwable;" } : Jvm.MethodName)) ∈ lw_all := lw_g (lw_at lw_m1 204 rfl) rfl
theorem q1045 : (Jvm.Cond.selects "java/lang/IllegalStateException" ({ cls := "java/lang/Object", name := "getClass", desc := "()Ljava/lang/Class;" } : Jvm.MethodName) ({ cls := "java/lang/Object", name := "getClass", desc := "()Ljava/lang/Class;" } : Jvm.MethodName)) ∈ lw_all := lw_g (lw_at lw_m4 214 rfl) rfl
theorem q1317 : (Jvm.Cond.instantiable "java/lang/IllegalStateException" (6 : Nat)) ∈ lw_all := lw_g (lw_at lw_m6 6 rfl) rfl
theorem q1318 : (Jvm.Cond.castable "java/lang/IllegalStateException" "java/lang/IllegalStateException") ∈ lw_tbl := lw_at lw_m6 7 rfl
theorem q1319 : (Jvm.Cond.selects "java/lang/IllegalStateException" ({ cls := "java/lang/Throwable", name := "fillInStackTrace", desc := "(I)Ljava/lang/Throwable;" } : Jvm.MethodName) ({ cls := "java/lang/Throwable", name := "fillInStackTrace", desc := "(I)Ljava/lang/Throwable;" } : Jvm.MethodName)) ∈ lw_all := lw_g (lw_at lw_m6 8 rfl) rfl
theorem q1320 : (Jvm.Cond.lays "java/lang/IllegalStateException" "java/lang/Throwable" "cause" "Ljava/lang/Throwable;") ∈ lw_all := lw_g (lw_at lw_m6 9 rfl) rfl
theorem q1321 : (Jvm.Cond.lays "java/lang/IllegalStateException" "java/lang/Throwable" "stackTrace" "[Ljava/lang/StackTraceElement;") ∈ lw_all := lw_g (lw_at lw_m6 10 rfl) rfl
theorem q1322 : (Jvm.Cond.lays "java/lang/IllegalStateException" "java/lang/Throwable" "suppressedExceptions" "Ljava/util/List;") ∈ lw_all := lw_g (lw_at lw_m6 11 rfl) rfl
theorem q1323 : (Jvm.Cond.lays "java/lang/IllegalStateException" "java/lang/Throwable" "detailMessage" "Ljava/lang/String;") ∈ lw_all := lw_g (lw_at lw_m6 12 rfl) rfl
theorem q1324 : (Jvm.Cond.lays "java/lang/IllegalStateException" "java/lang/Throwable" "backtrace" "Ljava/lang/Object;") ∈ lw_all := lw_g (lw_at lw_m6 13 rfl) rfl
theorem q1326 : (Jvm.Cond.instanceMethod ({ cls := "java/lang/IllegalStateException", name := "<init>", desc := "()V" } : Jvm.MethodName)) ∈ lw_all := lw_g (lw_at lw_m6 15 rfl) rfl
theorem q1327 : (Jvm.Cond.code ({ cls := "java/lang/IllegalStateException", name := "<init>", desc := "()V" } : Jvm.MethodName) prog_25_method_1_code (1 : Nat) (Option.none : Option Jvm.ClassFile.FieldType)) ∈ lw_all := lw_g (lw_at lw_m6 16 rfl) rfl
theorem q1328 : (Jvm.Cond.methodLink "java/lang/IllegalStateException" (1 : Nat) ({ cls := "java/lang/RuntimeException", name := "<init>", desc := "()V" } : Jvm.MethodName)) ∈ lw_all := lw_g (lw_at lw_m6 17 rfl) rfl
theorem q1329 : (Jvm.Cond.lays "java/lang/IllegalStateException" "java/lang/Throwable" "depth" "I") ∈ lw_all := lw_g (lw_at lw_m6 18 rfl) rfl
theorem q1330 : (Jvm.Cond.superclass "java/lang/IllegalStateException" "java/lang/RuntimeException") ∈ lw_all := lw_g (lw_at lw_m6 19 rfl) rfl
theorem q1836 : (Jvm.Cond.instanceMethod ({ cls := "java/lang/IllegalStateException", name := "<init>", desc := "(Ljava/lang/String;)V" } : Jvm.MethodName)) ∈ lw_all := lw_g (lw_at lw_m8 45 rfl) rfl
theorem q1837 : (Jvm.Cond.code ({ cls := "java/lang/IllegalStateException", name := "<init>", desc := "(Ljava/lang/String;)V" } : Jvm.MethodName) prog_25_method_2_code (2 : Nat) (Option.none : Option Jvm.ClassFile.FieldType)) ∈ lw_all := lw_g (lw_at lw_m8 46 rfl) rfl
theorem q1838 : (Jvm.Cond.methodLink "java/lang/IllegalStateException" (7 : Nat) ({ cls := "java/lang/RuntimeException", name := "<init>", desc := "(Ljava/lang/String;)V" } : Jvm.MethodName)) ∈ lw_all := lw_g (lw_at lw_m8 47 rfl) rfl
theorem q2592 : (Jvm.Cond.castable "java/lang/IllegalStateException" "java/lang/Object") ∈ lw_tbl := lw_at lw_m11 81 rfl
theorem in_J22 : ∀ w ∈ wsJ220, w ∈ lw_all := lw_in wsJ220 [1320, 1321, 1322, 1323, 1324, 1329] (by decide +kernel) (by decide +kernel)
/-! java/lang/Object -/
set_option maxRecDepth 100000
def RJ23 : String := "java/lang/Object"
abbrev cJ23_init : ByteArray := object_method_1_code
def yJ23_init : MethodName := ⟨RJ23, "<init>", "()V"⟩
theorem dJ23_init_0 : decode cJ23_init 0 = .ok (.return_, 1) := by decide +kernel
theorem q156 : (Jvm.Cond.instanceMethod ({ cls := "java/lang/Object", name := "<init>", desc := "()V" } : Jvm.MethodName)) ∈ lw_all := lw_g (lw_at lw_m1 45 rfl) rfl
theorem q157 : (Jvm.Cond.code ({ cls := "java/lang/Object", name := "<init>", desc := "()V" } : Jvm.MethodName) object_method_1_code (1 : Nat) (Option.none : Option Jvm.ClassFile.FieldType)) ∈ lw_all := lw_g (lw_at lw_m1 46 rfl) rfl
theorem q516 : (Jvm.Cond.native ({ cls := "java/lang/Object", name := "clone", desc := "()Ljava/lang/Object;" } : Jvm.MethodName)) ∈ lw_all := lw_g (lw_at lw_m2 165 rfl) rfl
theorem q517 : (Jvm.Cond.instanceMethod ({ cls := "java/lang/Object", name := "clone", desc := "()Ljava/lang/Object;" } : Jvm.MethodName)) ∈ lw_all := lw_g (lw_at lw_m2 166 rfl) rfl
theorem q1030 : (Jvm.Cond.instanceMethod ({ cls := "java/lang/Object", name := "getClass", desc := "()Ljava/lang/Class;" } : Jvm.MethodName)) ∈ lw_all := lw_g (lw_at lw_m4 199 rfl) rfl
theorem q1031 : (Jvm.Cond.sameMethod "java/lang/Object" "java/lang/Object" "getClass" "()Ljava/lang/Class;") ∈ lw_all := lw_g (lw_at lw_m4 200 rfl) rfl
theorem q1052 : (Jvm.Cond.native ({ cls := "java/lang/Object", name := "getClass", desc := "()Ljava/lang/Class;" } : Jvm.MethodName)) ∈ lw_all := lw_g (lw_at lw_m4 221 rfl) rfl
theorem q2570 : (Jvm.Cond.initialized "java/lang/Object") ∈ lw_all := lw_g (lw_at lw_m11 59 rfl) rfl
theorem q2596 : (Jvm.Cond.declares ({ cls := "java/lang/Object", name := "getClass", desc := "()Ljava/lang/Class;" } : Jvm.MethodName)) ∈ lw_tbl := lw_at lw_m11 85 rfl
theorem q2607 : (Jvm.Cond.instantiable "java/lang/Object" (0 : Nat)) ∈ lw_all := lw_g (lw_at lw_m11 96 rfl) rfl
/-! java/lang/System$2 -/
set_option maxRecDepth 100000
def RJ24 : String := "java/lang/System$2"
abbrev cJ24_getUTF16Char : ByteArray := prog_38_method_45_code
def yJ24_getUTF16Char : MethodName := ⟨RJ24, "getUTF16Char", "([BI)C"⟩
def dkwJ24_getUTF16Char_0 : List UInt8 := [43, 28, 184, 0, 185, 172]
abbrev dktJ24_getUTF16Char_0 : List UInt8 := dkwJ24_getUTF16Char_0 ++ []
theorem dksJ24_getUTF16Char_0 : cJ24_getUTF16Char.data.toList.drop 0 = dktJ24_getUTF16Char_0 := by decide +kernel
theorem dJ24_getUTF16Char_0 : decode cJ24_getUTF16Char 0 = .ok (.aload_n 1, 1) := dk_43 (dk_at dksJ24_getUTF16Char_0 0 rfl rfl)
theorem dJ24_getUTF16Char_1 : decode cJ24_getUTF16Char 1 = .ok (.iload_n 2, 1) := dk_28 (dk_at dksJ24_getUTF16Char_0 1 rfl rfl)
theorem dJ24_getUTF16Char_2 : decode cJ24_getUTF16Char 2 = .ok (.invokestatic 185, 3) := dk_184 0 185 (dk_at dksJ24_getUTF16Char_0 2 rfl rfl)
theorem dJ24_getUTF16Char_5 : decode cJ24_getUTF16Char 5 = .ok (.ireturn, 1) := dk_172 (dk_at dksJ24_getUTF16Char_0 5 rfl rfl)
theorem q907 : (Jvm.Cond.castable "java/lang/System$2" "jdk/internal/access/JavaLangAccess") ∈ lw_tbl := lw_at lw_m4 76 rfl
theorem q908 : (Jvm.Cond.selects "java/lang/System$2" ({ cls := "jdk/internal/access/JavaLangAccess", name := "getUTF16Char", desc := "([BI)C" } : Jvm.MethodName) ({ cls := "java/lang/System$2", name := "getUTF16Char", desc := "([BI)C" } : Jvm.MethodName)) ∈ lw_all := lw_g (lw_at lw_m4 77 rfl) rfl
theorem q909 : (Jvm.Cond.unhidden "java/lang/System$2" "getUTF16Char" "([BI)C") ∈ lw_tbl := lw_at lw_m4 78 rfl
theorem q910 : (Jvm.Cond.instanceMethod ({ cls := "java/lang/System$2", name := "getUTF16Char", desc := "([BI)C" } : Jvm.MethodName)) ∈ lw_all := lw_g (lw_at lw_m4 79 rfl) rfl
theorem q911 : (Jvm.Cond.publicMethod ({ cls := "java/lang/System$2", name := "getUTF16Char", desc := "([BI)C" } : Jvm.MethodName)) ∈ lw_tbl := lw_at lw_m4 80 rfl
theorem q912 : (Jvm.Cond.code ({ cls := "java/lang/System$2", name := "getUTF16Char", desc := "([BI)C" } : Jvm.MethodName) prog_38_method_45_code (3 : Nat) (Option.some Jvm.ClassFile.FieldType.char)) ∈ lw_all := lw_g (lw_at lw_m4 81 rfl) rfl
theorem q913 : (Jvm.Cond.methodLink "java/lang/System$2" (185 : Nat) ({ cls := "java/lang/StringUTF16", name := "getChar", desc := "([BI)C" } : Jvm.MethodName)) ∈ lw_all := lw_g (lw_at lw_m4 82 rfl) rfl
theorem q1049 : (Jvm.Cond.selects "java/lang/System$2" ({ cls := "java/lang/Object", name := "getClass", desc := "()Ljava/lang/Class;" } : Jvm.MethodName) ({ cls := "java/lang/Object", name := "getClass", desc := "()Ljava/lang/Class;" } : Jvm.MethodName)) ∈ lw_all := lw_g (lw_at lw_m4 218 rfl) rfl
theorem q2586 : (Jvm.Cond.castable "java/lang/System$2" "java/lang/Object") ∈ lw_tbl := lw_at lw_m11 75 rfl
