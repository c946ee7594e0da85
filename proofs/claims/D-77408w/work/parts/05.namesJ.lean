/-! java/lang/AbstractStringBuilder -/
set_option maxRecDepth 100000
def RJ0 : String := "java/lang/AbstractStringBuilder"
abbrev cJ0_init : ByteArray := prog_20_method_2_code
def yJ0_init : MethodName := ⟨RJ0, "<init>", "(I)V"⟩
def dkwJ0_init_1 : List UInt8 := [167, 0, 16, 42, 27, 184, 0, 26, 181, 0, 15, 42, 4, 181, 0, 22, 177]
abbrev dktJ0_init_1 : List UInt8 := dkwJ0_init_1 ++ []
def dkwJ0_init_0 : List UInt8 := [42, 183, 0, 3, 178, 0, 18, 153, 0, 18, 42, 27, 188, 8, 181, 0, 15, 42, 3, 181, 0, 22]
abbrev dktJ0_init_0 : List UInt8 := dkwJ0_init_0 ++ dktJ0_init_1
theorem dksJ0_init_0 : cJ0_init.data.toList.drop 0 = dktJ0_init_0 := by decide +kernel
theorem dksJ0_init_1 : cJ0_init.data.toList.drop 22 = dktJ0_init_1 := dk_seg dksJ0_init_0 22 rfl rfl
theorem dJ0_init_0 : decode cJ0_init 0 = .ok (.aload_n 0, 1) := dk_42 (dk_at dksJ0_init_0 0 rfl rfl)
theorem dJ0_init_1 : decode cJ0_init 1 = .ok (.invokespecial 3, 3) := dk_183 0 3 (dk_at dksJ0_init_0 1 rfl rfl)
theorem dJ0_init_4 : decode cJ0_init 4 = .ok (.getstatic 18, 3) := dk_178 0 18 (dk_at dksJ0_init_0 4 rfl rfl)
theorem dJ0_init_7 : decode cJ0_init 7 = .ok (.ifCond .eq 18, 3) := dk_153 0 18 (dk_at dksJ0_init_0 7 rfl rfl)
theorem dJ0_init_10 : decode cJ0_init 10 = .ok (.aload_n 0, 1) := dk_42 (dk_at dksJ0_init_0 10 rfl rfl)
theorem dJ0_init_11 : decode cJ0_init 11 = .ok (.iload_n 1, 1) := dk_27 (dk_at dksJ0_init_0 11 rfl rfl)
theorem dJ0_init_12 : decode cJ0_init 12 = .ok (.newarray .byte, 2) := dk_188_8 (dk_at dksJ0_init_0 12 rfl rfl)
theorem dJ0_init_14 : decode cJ0_init 14 = .ok (.putfield 15, 3) := dk_181 0 15 (dk_at dksJ0_init_0 14 rfl rfl)
theorem dJ0_init_17 : decode cJ0_init 17 = .ok (.aload_n 0, 1) := dk_42 (dk_at dksJ0_init_0 17 rfl rfl)
theorem dJ0_init_18 : decode cJ0_init 18 = .ok (.iconst 0, 1) := dk_3 (dk_at dksJ0_init_0 18 rfl rfl)
theorem dJ0_init_19 : decode cJ0_init 19 = .ok (.putfield 22, 3) := dk_181 0 22 (dk_at dksJ0_init_0 19 rfl rfl)
theorem dJ0_init_22 : decode cJ0_init 22 = .ok (.goto 16, 3) := dk_167 0 16 (dk_at dksJ0_init_1 0 rfl rfl)
theorem dJ0_init_25 : decode cJ0_init 25 = .ok (.aload_n 0, 1) := dk_42 (dk_at dksJ0_init_1 3 rfl rfl)
theorem dJ0_init_26 : decode cJ0_init 26 = .ok (.iload_n 1, 1) := dk_27 (dk_at dksJ0_init_1 4 rfl rfl)
theorem dJ0_init_27 : decode cJ0_init 27 = .ok (.invokestatic 26, 3) := dk_184 0 26 (dk_at dksJ0_init_1 5 rfl rfl)
theorem dJ0_init_30 : decode cJ0_init 30 = .ok (.putfield 15, 3) := dk_181 0 15 (dk_at dksJ0_init_1 8 rfl rfl)
theorem dJ0_init_33 : decode cJ0_init 33 = .ok (.aload_n 0, 1) := dk_42 (dk_at dksJ0_init_1 11 rfl rfl)
theorem dJ0_init_34 : decode cJ0_init 34 = .ok (.iconst 1, 1) := dk_4 (dk_at dksJ0_init_1 12 rfl rfl)
theorem dJ0_init_35 : decode cJ0_init 35 = .ok (.putfield 22, 3) := dk_181 0 22 (dk_at dksJ0_init_1 13 rfl rfl)
theorem dJ0_init_38 : decode cJ0_init 38 = .ok (.return_, 1) := dk_177 (dk_at dksJ0_init_1 16 rfl rfl)
abbrev cJ0_length : ByteArray := prog_20_method_6_code
def yJ0_length : MethodName := ⟨RJ0, "length", "()I"⟩
theorem dJ0_length_0 : decode cJ0_length 0 = .ok (.aload_n 0, 1) := by decide +kernel
theorem dJ0_length_1 : decode cJ0_length 1 = .ok (.getfield 79, 3) := by decide +kernel
theorem dJ0_length_4 : decode cJ0_length 4 = .ok (.ireturn, 1) := by decide +kernel
abbrev cJ0_append : ByteArray := prog_20_method_31_code
def yJ0_append : MethodName := ⟨RJ0, "append", "(C)Ljava/lang/AbstractStringBuilder;"⟩
def dkwJ0_append_3 : List UInt8 := [181, 0, 79, 27, 184, 0, 197, 42, 176]
abbrev dktJ0_append_3 : List UInt8 := dkwJ0_append_3 ++ []
def dkwJ0_append_2 : List UInt8 := [182, 0, 83, 153, 0, 7, 42, 182, 0, 195, 42, 180, 0, 15, 42, 89, 180, 0, 79, 90, 4, 96]
abbrev dktJ0_append_2 : List UInt8 := dkwJ0_append_2 ++ dktJ0_append_3
def dkwJ0_append_1 : List UInt8 := [42, 180, 0, 15, 42, 89, 180, 0, 79, 90, 4, 96, 181, 0, 79, 27, 145, 84, 167, 0, 33, 42]
abbrev dktJ0_append_1 : List UInt8 := dkwJ0_append_1 ++ dktJ0_append_2
def dkwJ0_append_0 : List UInt8 := [42, 42, 180, 0, 79, 4, 96, 182, 0, 100, 42, 182, 0, 83, 153, 0, 31, 27, 184, 0, 191, 153, 0, 24]
abbrev dktJ0_append_0 : List UInt8 := dkwJ0_append_0 ++ dktJ0_append_1
theorem dksJ0_append_0 : cJ0_append.data.toList.drop 0 = dktJ0_append_0 := by decide +kernel
theorem dksJ0_append_1 : cJ0_append.data.toList.drop 24 = dktJ0_append_1 := dk_seg dksJ0_append_0 24 rfl rfl
theorem dksJ0_append_2 : cJ0_append.data.toList.drop 46 = dktJ0_append_2 := dk_seg dksJ0_append_1 22 rfl rfl
theorem dksJ0_append_3 : cJ0_append.data.toList.drop 68 = dktJ0_append_3 := dk_seg dksJ0_append_2 22 rfl rfl
theorem dJ0_append_0 : decode cJ0_append 0 = .ok (.aload_n 0, 1) := dk_42 (dk_at dksJ0_append_0 0 rfl rfl)
theorem dJ0_append_1 : decode cJ0_append 1 = .ok (.aload_n 0, 1) := dk_42 (dk_at dksJ0_append_0 1 rfl rfl)
theorem dJ0_append_2 : decode cJ0_append 2 = .ok (.getfield 79, 3) := dk_180 0 79 (dk_at dksJ0_append_0 2 rfl rfl)
theorem dJ0_append_5 : decode cJ0_append 5 = .ok (.iconst 1, 1) := dk_4 (dk_at dksJ0_append_0 5 rfl rfl)
theorem dJ0_append_6 : decode cJ0_append 6 = .ok (.iadd, 1) := dk_96 (dk_at dksJ0_append_0 6 rfl rfl)
theorem dJ0_append_7 : decode cJ0_append 7 = .ok (.invokevirtual 100, 3) := dk_182 0 100 (dk_at dksJ0_append_0 7 rfl rfl)
theorem dJ0_append_10 : decode cJ0_append 10 = .ok (.aload_n 0, 1) := dk_42 (dk_at dksJ0_append_0 10 rfl rfl)
theorem dJ0_append_11 : decode cJ0_append 11 = .ok (.invokevirtual 83, 3) := dk_182 0 83 (dk_at dksJ0_append_0 11 rfl rfl)
theorem dJ0_append_14 : decode cJ0_append 14 = .ok (.ifCond .eq 31, 3) := dk_153 0 31 (dk_at dksJ0_append_0 14 rfl rfl)
theorem dJ0_append_17 : decode cJ0_append 17 = .ok (.iload_n 1, 1) := dk_27 (dk_at dksJ0_append_0 17 rfl rfl)
theorem dJ0_append_18 : decode cJ0_append 18 = .ok (.invokestatic 191, 3) := dk_184 0 191 (dk_at dksJ0_append_0 18 rfl rfl)
theorem dJ0_append_21 : decode cJ0_append 21 = .ok (.ifCond .eq 24, 3) := dk_153 0 24 (dk_at dksJ0_append_0 21 rfl rfl)
theorem dJ0_append_24 : decode cJ0_append 24 = .ok (.aload_n 0, 1) := dk_42 (dk_at dksJ0_append_1 0 rfl rfl)
theorem dJ0_append_25 : decode cJ0_append 25 = .ok (.getfield 15, 3) := dk_180 0 15 (dk_at dksJ0_append_1 1 rfl rfl)
theorem dJ0_append_28 : decode cJ0_append 28 = .ok (.aload_n 0, 1) := dk_42 (dk_at dksJ0_append_1 4 rfl rfl)
theorem dJ0_append_29 : decode cJ0_append 29 = .ok (.dup, 1) := dk_89 (dk_at dksJ0_append_1 5 rfl rfl)
theorem dJ0_append_30 : decode cJ0_append 30 = .ok (.getfield 79, 3) := dk_180 0 79 (dk_at dksJ0_append_1 6 rfl rfl)
theorem dJ0_append_33 : decode cJ0_append 33 = .ok (.dup_x1, 1) := dk_90 (dk_at dksJ0_append_1 9 rfl rfl)
theorem dJ0_append_34 : decode cJ0_append 34 = .ok (.iconst 1, 1) := dk_4 (dk_at dksJ0_append_1 10 rfl rfl)
theorem dJ0_append_35 : decode cJ0_append 35 = .ok (.iadd, 1) := dk_96 (dk_at dksJ0_append_1 11 rfl rfl)
theorem dJ0_append_36 : decode cJ0_append 36 = .ok (.putfield 79, 3) := dk_181 0 79 (dk_at dksJ0_append_1 12 rfl rfl)
theorem dJ0_append_39 : decode cJ0_append 39 = .ok (.iload_n 1, 1) := dk_27 (dk_at dksJ0_append_1 15 rfl rfl)
theorem dJ0_append_40 : decode cJ0_append 40 = .ok (.i2b, 1) := dk_145 (dk_at dksJ0_append_1 16 rfl rfl)
theorem dJ0_append_41 : decode cJ0_append 41 = .ok (.bastore, 1) := dk_84 (dk_at dksJ0_append_1 17 rfl rfl)
theorem dJ0_append_42 : decode cJ0_append 42 = .ok (.goto 33, 3) := dk_167 0 33 (dk_at dksJ0_append_1 18 rfl rfl)
theorem dJ0_append_45 : decode cJ0_append 45 = .ok (.aload_n 0, 1) := dk_42 (dk_at dksJ0_append_1 21 rfl rfl)
theorem dJ0_append_46 : decode cJ0_append 46 = .ok (.invokevirtual 83, 3) := dk_182 0 83 (dk_at dksJ0_append_2 0 rfl rfl)
theorem dJ0_append_49 : decode cJ0_append 49 = .ok (.ifCond .eq 7, 3) := dk_153 0 7 (dk_at dksJ0_append_2 3 rfl rfl)
theorem dJ0_append_52 : decode cJ0_append 52 = .ok (.aload_n 0, 1) := dk_42 (dk_at dksJ0_append_2 6 rfl rfl)
theorem dJ0_append_53 : decode cJ0_append 53 = .ok (.invokevirtual 195, 3) := dk_182 0 195 (dk_at dksJ0_append_2 7 rfl rfl)
theorem dJ0_append_56 : decode cJ0_append 56 = .ok (.aload_n 0, 1) := dk_42 (dk_at dksJ0_append_2 10 rfl rfl)
theorem dJ0_append_57 : decode cJ0_append 57 = .ok (.getfield 15, 3) := dk_180 0 15 (dk_at dksJ0_append_2 11 rfl rfl)
theorem dJ0_append_60 : decode cJ0_append 60 = .ok (.aload_n 0, 1) := dk_42 (dk_at dksJ0_append_2 14 rfl rfl)
theorem dJ0_append_61 : decode cJ0_append 61 = .ok (.dup, 1) := dk_89 (dk_at dksJ0_append_2 15 rfl rfl)
theorem dJ0_append_62 : decode cJ0_append 62 = .ok (.getfield 79, 3) := dk_180 0 79 (dk_at dksJ0_append_2 16 rfl rfl)
theorem dJ0_append_65 : decode cJ0_append 65 = .ok (.dup_x1, 1) := dk_90 (dk_at dksJ0_append_2 19 rfl rfl)
theorem dJ0_append_66 : decode cJ0_append 66 = .ok (.iconst 1, 1) := dk_4 (dk_at dksJ0_append_2 20 rfl rfl)
theorem dJ0_append_67 : decode cJ0_append 67 = .ok (.iadd, 1) := dk_96 (dk_at dksJ0_append_2 21 rfl rfl)
theorem dJ0_append_68 : decode cJ0_append 68 = .ok (.putfield 79, 3) := dk_181 0 79 (dk_at dksJ0_append_3 0 rfl rfl)
theorem dJ0_append_71 : decode cJ0_append 71 = .ok (.iload_n 1, 1) := dk_27 (dk_at dksJ0_append_3 3 rfl rfl)
theorem dJ0_append_72 : decode cJ0_append 72 = .ok (.invokestatic 197, 3) := dk_184 0 197 (dk_at dksJ0_append_3 4 rfl rfl)
theorem dJ0_append_75 : decode cJ0_append 75 = .ok (.aload_n 0, 1) := dk_42 (dk_at dksJ0_append_3 7 rfl rfl)
theorem dJ0_append_76 : decode cJ0_append 76 = .ok (.areturn, 1) := dk_176 (dk_at dksJ0_append_3 8 rfl rfl)
abbrev cJ0_ensureCapacityInternal : ByteArray := prog_20_method_9_code
def yJ0_ensureCapacityInternal : MethodName := ⟨RJ0, "ensureCapacityInternal", "(I)V"⟩
def dkwJ0_ensureCapacityInternal_1 : List UInt8 := [182, 0, 104, 42, 180, 0, 22, 120, 184, 0, 108, 181, 0, 15, 177]
abbrev dktJ0_ensureCapacityInternal_1 : List UInt8 := dkwJ0_ensureCapacityInternal_1 ++ []
def dkwJ0_ensureCapacityInternal_0 : List UInt8 := [42, 180, 0, 15, 190, 42, 180, 0, 22, 122, 61, 27, 28, 100, 158, 0, 24, 42, 42, 180, 0, 15, 42, 27]
abbrev dktJ0_ensureCapacityInternal_0 : List UInt8 := dkwJ0_ensureCapacityInternal_0 ++ dktJ0_ensureCapacityInternal_1
theorem dksJ0_ensureCapacityInternal_0 : cJ0_ensureCapacityInternal.data.toList.drop 0 = dktJ0_ensureCapacityInternal_0 := by decide +kernel
theorem dksJ0_ensureCapacityInternal_1 : cJ0_ensureCapacityInternal.data.toList.drop 24 = dktJ0_ensureCapacityInternal_1 := dk_seg dksJ0_ensureCapacityInternal_0 24 rfl rfl
theorem dJ0_ensureCapacityInternal_0 : decode cJ0_ensureCapacityInternal 0 = .ok (.aload_n 0, 1) := dk_42 (dk_at dksJ0_ensureCapacityInternal_0 0 rfl rfl)
theorem dJ0_ensureCapacityInternal_1 : decode cJ0_ensureCapacityInternal 1 = .ok (.getfield 15, 3) := dk_180 0 15 (dk_at dksJ0_ensureCapacityInternal_0 1 rfl rfl)
theorem dJ0_ensureCapacityInternal_4 : decode cJ0_ensureCapacityInternal 4 = .ok (.arraylength, 1) := dk_190 (dk_at dksJ0_ensureCapacityInternal_0 4 rfl rfl)
theorem dJ0_ensureCapacityInternal_5 : decode cJ0_ensureCapacityInternal 5 = .ok (.aload_n 0, 1) := dk_42 (dk_at dksJ0_ensureCapacityInternal_0 5 rfl rfl)
theorem dJ0_ensureCapacityInternal_6 : decode cJ0_ensureCapacityInternal 6 = .ok (.getfield 22, 3) := dk_180 0 22 (dk_at dksJ0_ensureCapacityInternal_0 6 rfl rfl)
theorem dJ0_ensureCapacityInternal_9 : decode cJ0_ensureCapacityInternal 9 = .ok (.ishr, 1) := dk_122 (dk_at dksJ0_ensureCapacityInternal_0 9 rfl rfl)
theorem dJ0_ensureCapacityInternal_10 : decode cJ0_ensureCapacityInternal 10 = .ok (.istore_n 2, 1) := dk_61 (dk_at dksJ0_ensureCapacityInternal_0 10 rfl rfl)
theorem dJ0_ensureCapacityInternal_11 : decode cJ0_ensureCapacityInternal 11 = .ok (.iload_n 1, 1) := dk_27 (dk_at dksJ0_ensureCapacityInternal_0 11 rfl rfl)
theorem dJ0_ensureCapacityInternal_12 : decode cJ0_ensureCapacityInternal 12 = .ok (.iload_n 2, 1) := dk_28 (dk_at dksJ0_ensureCapacityInternal_0 12 rfl rfl)
theorem dJ0_ensureCapacityInternal_13 : decode cJ0_ensureCapacityInternal 13 = .ok (.isub, 1) := dk_100 (dk_at dksJ0_ensureCapacityInternal_0 13 rfl rfl)
theorem dJ0_ensureCapacityInternal_14 : decode cJ0_ensureCapacityInternal 14 = .ok (.ifCond .le 24, 3) := dk_158 0 24 (dk_at dksJ0_ensureCapacityInternal_0 14 rfl rfl)
theorem dJ0_ensureCapacityInternal_17 : decode cJ0_ensureCapacityInternal 17 = .ok (.aload_n 0, 1) := dk_42 (dk_at dksJ0_ensureCapacityInternal_0 17 rfl rfl)
theorem dJ0_ensureCapacityInternal_18 : decode cJ0_ensureCapacityInternal 18 = .ok (.aload_n 0, 1) := dk_42 (dk_at dksJ0_ensureCapacityInternal_0 18 rfl rfl)
theorem dJ0_ensureCapacityInternal_19 : decode cJ0_ensureCapacityInternal 19 = .ok (.getfield 15, 3) := dk_180 0 15 (dk_at dksJ0_ensureCapacityInternal_0 19 rfl rfl)
theorem dJ0_ensureCapacityInternal_22 : decode cJ0_ensureCapacityInternal 22 = .ok (.aload_n 0, 1) := dk_42 (dk_at dksJ0_ensureCapacityInternal_0 22 rfl rfl)
theorem dJ0_ensureCapacityInternal_23 : decode cJ0_ensureCapacityInternal 23 = .ok (.iload_n 1, 1) := dk_27 (dk_at dksJ0_ensureCapacityInternal_0 23 rfl rfl)
theorem dJ0_ensureCapacityInternal_24 : decode cJ0_ensureCapacityInternal 24 = .ok (.invokevirtual 104, 3) := dk_182 0 104 (dk_at dksJ0_ensureCapacityInternal_1 0 rfl rfl)
theorem dJ0_ensureCapacityInternal_27 : decode cJ0_ensureCapacityInternal 27 = .ok (.aload_n 0, 1) := dk_42 (dk_at dksJ0_ensureCapacityInternal_1 3 rfl rfl)
theorem dJ0_ensureCapacityInternal_28 : decode cJ0_ensureCapacityInternal 28 = .ok (.getfield 22, 3) := dk_180 0 22 (dk_at dksJ0_ensureCapacityInternal_1 4 rfl rfl)
theorem dJ0_ensureCapacityInternal_31 : decode cJ0_ensureCapacityInternal 31 = .ok (.ishl, 1) := dk_120 (dk_at dksJ0_ensureCapacityInternal_1 7 rfl rfl)
theorem dJ0_ensureCapacityInternal_32 : decode cJ0_ensureCapacityInternal 32 = .ok (.invokestatic 108, 3) := dk_184 0 108 (dk_at dksJ0_ensureCapacityInternal_1 8 rfl rfl)
theorem dJ0_ensureCapacityInternal_35 : decode cJ0_ensureCapacityInternal 35 = .ok (.putfield 15, 3) := dk_181 0 15 (dk_at dksJ0_ensureCapacityInternal_1 11 rfl rfl)
theorem dJ0_ensureCapacityInternal_38 : decode cJ0_ensureCapacityInternal 38 = .ok (.return_, 1) := dk_177 (dk_at dksJ0_ensureCapacityInternal_1 14 rfl rfl)
abbrev cJ0_newCapacity : ByteArray := prog_20_method_10_code
def yJ0_newCapacity : MethodName := ⟨RJ0, "newCapacity", "(I)I"⟩
def dkwJ0_newCapacity_2 : List UInt8 := [183, 0, 124, 191, 21, 5, 42, 180, 0, 22, 122, 172]
abbrev dktJ0_newCapacity_2 : List UInt8 := dkwJ0_newCapacity_2 ++ []
def dkwJ0_newCapacity_1 : List UInt8 := [180, 0, 22, 120, 96, 184, 0, 114, 54, 5, 21, 5, 18, 39, 160, 0, 13, 187, 0, 120, 89, 18, 122]
abbrev dktJ0_newCapacity_1 : List UInt8 := dkwJ0_newCapacity_1 ++ dktJ0_newCapacity_2
def dkwJ0_newCapacity_0 : List UInt8 := [42, 180, 0, 15, 190, 61, 27, 42, 180, 0, 22, 120, 62, 29, 28, 100, 54, 4, 28, 21, 4, 28, 5, 42]
abbrev dktJ0_newCapacity_0 : List UInt8 := dkwJ0_newCapacity_0 ++ dktJ0_newCapacity_1
theorem dksJ0_newCapacity_0 : cJ0_newCapacity.data.toList.drop 0 = dktJ0_newCapacity_0 := by decide +kernel
theorem dksJ0_newCapacity_1 : cJ0_newCapacity.data.toList.drop 24 = dktJ0_newCapacity_1 := dk_seg dksJ0_newCapacity_0 24 rfl rfl
theorem dksJ0_newCapacity_2 : cJ0_newCapacity.data.toList.drop 47 = dktJ0_newCapacity_2 := dk_seg dksJ0_newCapacity_1 23 rfl rfl
theorem dJ0_newCapacity_0 : decode cJ0_newCapacity 0 = .ok (.aload_n 0, 1) := dk_42 (dk_at dksJ0_newCapacity_0 0 rfl rfl)
theorem dJ0_newCapacity_1 : decode cJ0_newCapacity 1 = .ok (.getfield 15, 3) := dk_180 0 15 (dk_at dksJ0_newCapacity_0 1 rfl rfl)
theorem dJ0_newCapacity_4 : decode cJ0_newCapacity 4 = .ok (.arraylength, 1) := dk_190 (dk_at dksJ0_newCapacity_0 4 rfl rfl)
theorem dJ0_newCapacity_5 : decode cJ0_newCapacity 5 = .ok (.istore_n 2, 1) := dk_61 (dk_at dksJ0_newCapacity_0 5 rfl rfl)
theorem dJ0_newCapacity_6 : decode cJ0_newCapacity 6 = .ok (.iload_n 1, 1) := dk_27 (dk_at dksJ0_newCapacity_0 6 rfl rfl)
theorem dJ0_newCapacity_7 : decode cJ0_newCapacity 7 = .ok (.aload_n 0, 1) := dk_42 (dk_at dksJ0_newCapacity_0 7 rfl rfl)
theorem dJ0_newCapacity_8 : decode cJ0_newCapacity 8 = .ok (.getfield 22, 3) := dk_180 0 22 (dk_at dksJ0_newCapacity_0 8 rfl rfl)
theorem dJ0_newCapacity_11 : decode cJ0_newCapacity 11 = .ok (.ishl, 1) := dk_120 (dk_at dksJ0_newCapacity_0 11 rfl rfl)
theorem dJ0_newCapacity_12 : decode cJ0_newCapacity 12 = .ok (.istore_n 3, 1) := dk_62 (dk_at dksJ0_newCapacity_0 12 rfl rfl)
theorem dJ0_newCapacity_13 : decode cJ0_newCapacity 13 = .ok (.iload_n 3, 1) := dk_29 (dk_at dksJ0_newCapacity_0 13 rfl rfl)
theorem dJ0_newCapacity_14 : decode cJ0_newCapacity 14 = .ok (.iload_n 2, 1) := dk_28 (dk_at dksJ0_newCapacity_0 14 rfl rfl)
theorem dJ0_newCapacity_15 : decode cJ0_newCapacity 15 = .ok (.isub, 1) := dk_100 (dk_at dksJ0_newCapacity_0 15 rfl rfl)
theorem dJ0_newCapacity_16 : decode cJ0_newCapacity 16 = .ok (.istore 4, 2) := dk_54 4 (dk_at dksJ0_newCapacity_0 16 rfl rfl)
theorem dJ0_newCapacity_18 : decode cJ0_newCapacity 18 = .ok (.iload_n 2, 1) := dk_28 (dk_at dksJ0_newCapacity_0 18 rfl rfl)
theorem dJ0_newCapacity_19 : decode cJ0_newCapacity 19 = .ok (.iload 4, 2) := dk_21 4 (dk_at dksJ0_newCapacity_0 19 rfl rfl)
theorem dJ0_newCapacity_21 : decode cJ0_newCapacity 21 = .ok (.iload_n 2, 1) := dk_28 (dk_at dksJ0_newCapacity_0 21 rfl rfl)
theorem dJ0_newCapacity_22 : decode cJ0_newCapacity 22 = .ok (.iconst 2, 1) := dk_5 (dk_at dksJ0_newCapacity_0 22 rfl rfl)
theorem dJ0_newCapacity_23 : decode cJ0_newCapacity 23 = .ok (.aload_n 0, 1) := dk_42 (dk_at dksJ0_newCapacity_0 23 rfl rfl)
theorem dJ0_newCapacity_24 : decode cJ0_newCapacity 24 = .ok (.getfield 22, 3) := dk_180 0 22 (dk_at dksJ0_newCapacity_1 0 rfl rfl)
theorem dJ0_newCapacity_27 : decode cJ0_newCapacity 27 = .ok (.ishl, 1) := dk_120 (dk_at dksJ0_newCapacity_1 3 rfl rfl)
theorem dJ0_newCapacity_28 : decode cJ0_newCapacity 28 = .ok (.iadd, 1) := dk_96 (dk_at dksJ0_newCapacity_1 4 rfl rfl)
theorem dJ0_newCapacity_29 : decode cJ0_newCapacity 29 = .ok (.invokestatic 114, 3) := dk_184 0 114 (dk_at dksJ0_newCapacity_1 5 rfl rfl)
theorem dJ0_newCapacity_32 : decode cJ0_newCapacity 32 = .ok (.istore 5, 2) := dk_54 5 (dk_at dksJ0_newCapacity_1 8 rfl rfl)
theorem dJ0_newCapacity_34 : decode cJ0_newCapacity 34 = .ok (.iload 5, 2) := dk_21 5 (dk_at dksJ0_newCapacity_1 10 rfl rfl)
theorem dJ0_newCapacity_36 : decode cJ0_newCapacity 36 = .ok (.ldc 39, 2) := dk_18 39 (dk_at dksJ0_newCapacity_1 12 rfl rfl)
theorem dJ0_newCapacity_38 : decode cJ0_newCapacity 38 = .ok (.if_icmp .ne 13, 3) := dk_160 0 13 (dk_at dksJ0_newCapacity_1 14 rfl rfl)
theorem dJ0_newCapacity_41 : decode cJ0_newCapacity 41 = .ok (.new 120, 3) := dk_187 0 120 (dk_at dksJ0_newCapacity_1 17 rfl rfl)
theorem dJ0_newCapacity_44 : decode cJ0_newCapacity 44 = .ok (.dup, 1) := dk_89 (dk_at dksJ0_newCapacity_1 20 rfl rfl)
theorem dJ0_newCapacity_45 : decode cJ0_newCapacity 45 = .ok (.ldc 122, 2) := dk_18 122 (dk_at dksJ0_newCapacity_1 21 rfl rfl)
theorem dJ0_newCapacity_47 : decode cJ0_newCapacity 47 = .ok (.invokespecial 124, 3) := dk_183 0 124 (dk_at dksJ0_newCapacity_2 0 rfl rfl)
theorem dJ0_newCapacity_50 : decode cJ0_newCapacity 50 = .ok (.athrow, 1) := dk_191 (dk_at dksJ0_newCapacity_2 3 rfl rfl)
theorem dJ0_newCapacity_51 : decode cJ0_newCapacity 51 = .ok (.iload 5, 2) := dk_21 5 (dk_at dksJ0_newCapacity_2 4 rfl rfl)
theorem dJ0_newCapacity_53 : decode cJ0_newCapacity 53 = .ok (.aload_n 0, 1) := dk_42 (dk_at dksJ0_newCapacity_2 6 rfl rfl)
theorem dJ0_newCapacity_54 : decode cJ0_newCapacity 54 = .ok (.getfield 22, 3) := dk_180 0 22 (dk_at dksJ0_newCapacity_2 7 rfl rfl)
theorem dJ0_newCapacity_57 : decode cJ0_newCapacity 57 = .ok (.ishr, 1) := dk_122 (dk_at dksJ0_newCapacity_2 10 rfl rfl)
theorem dJ0_newCapacity_58 : decode cJ0_newCapacity 58 = .ok (.ireturn, 1) := dk_172 (dk_at dksJ0_newCapacity_2 11 rfl rfl)
abbrev cJ0_isLatin1 : ByteArray := prog_20_method_68_code
def yJ0_isLatin1 : MethodName := ⟨RJ0, "isLatin1", "()Z"⟩
def dkwJ0_isLatin1_0 : List UInt8 := [178, 0, 18, 153, 0, 14, 42, 180, 0, 22, 154, 0, 7, 4, 167, 0, 4, 3, 172]
abbrev dktJ0_isLatin1_0 : List UInt8 := dkwJ0_isLatin1_0 ++ []
theorem dksJ0_isLatin1_0 : cJ0_isLatin1.data.toList.drop 0 = dktJ0_isLatin1_0 := by decide +kernel
theorem dJ0_isLatin1_0 : decode cJ0_isLatin1 0 = .ok (.getstatic 18, 3) := dk_178 0 18 (dk_at dksJ0_isLatin1_0 0 rfl rfl)
theorem dJ0_isLatin1_3 : decode cJ0_isLatin1 3 = .ok (.ifCond .eq 14, 3) := dk_153 0 14 (dk_at dksJ0_isLatin1_0 3 rfl rfl)
theorem dJ0_isLatin1_6 : decode cJ0_isLatin1 6 = .ok (.aload_n 0, 1) := dk_42 (dk_at dksJ0_isLatin1_0 6 rfl rfl)
theorem dJ0_isLatin1_7 : decode cJ0_isLatin1 7 = .ok (.getfield 22, 3) := dk_180 0 22 (dk_at dksJ0_isLatin1_0 7 rfl rfl)
theorem dJ0_isLatin1_10 : decode cJ0_isLatin1 10 = .ok (.ifCond .ne 7, 3) := dk_154 0 7 (dk_at dksJ0_isLatin1_0 10 rfl rfl)
theorem dJ0_isLatin1_13 : decode cJ0_isLatin1 13 = .ok (.iconst 1, 1) := dk_4 (dk_at dksJ0_isLatin1_0 13 rfl rfl)
theorem dJ0_isLatin1_14 : decode cJ0_isLatin1 14 = .ok (.goto 4, 3) := dk_167 0 4 (dk_at dksJ0_isLatin1_0 14 rfl rfl)
theorem dJ0_isLatin1_17 : decode cJ0_isLatin1 17 = .ok (.iconst 0, 1) := dk_3 (dk_at dksJ0_isLatin1_0 17 rfl rfl)
theorem dJ0_isLatin1_18 : decode cJ0_isLatin1 18 = .ok (.ireturn, 1) := dk_172 (dk_at dksJ0_isLatin1_0 18 rfl rfl)
abbrev cJ0_inflate : ByteArray := prog_20_method_11_code
def yJ0_inflate : MethodName := ⟨RJ0, "inflate", "()V"⟩
def dkwJ0_inflate_1 : List UInt8 := [42, 180, 0, 79, 184, 0, 125, 42, 43, 181, 0, 15, 42, 4, 181, 0, 22, 177]
abbrev dktJ0_inflate_1 : List UInt8 := dkwJ0_inflate_1 ++ []
def dkwJ0_inflate_0 : List UInt8 := [42, 182, 0, 83, 154, 0, 4, 177, 42, 180, 0, 15, 190, 184, 0, 26, 76, 42, 180, 0, 15, 3, 43, 3]
abbrev dktJ0_inflate_0 : List UInt8 := dkwJ0_inflate_0 ++ dktJ0_inflate_1
theorem dksJ0_inflate_0 : cJ0_inflate.data.toList.drop 0 = dktJ0_inflate_0 := by decide +kernel
theorem dksJ0_inflate_1 : cJ0_inflate.data.toList.drop 24 = dktJ0_inflate_1 := dk_seg dksJ0_inflate_0 24 rfl rfl
theorem dJ0_inflate_0 : decode cJ0_inflate 0 = .ok (.aload_n 0, 1) := dk_42 (dk_at dksJ0_inflate_0 0 rfl rfl)
theorem dJ0_inflate_1 : decode cJ0_inflate 1 = .ok (.invokevirtual 83, 3) := dk_182 0 83 (dk_at dksJ0_inflate_0 1 rfl rfl)
theorem dJ0_inflate_4 : decode cJ0_inflate 4 = .ok (.ifCond .ne 4, 3) := dk_154 0 4 (dk_at dksJ0_inflate_0 4 rfl rfl)
theorem dJ0_inflate_7 : decode cJ0_inflate 7 = .ok (.return_, 1) := dk_177 (dk_at dksJ0_inflate_0 7 rfl rfl)
theorem dJ0_inflate_8 : decode cJ0_inflate 8 = .ok (.aload_n 0, 1) := dk_42 (dk_at dksJ0_inflate_0 8 rfl rfl)
theorem dJ0_inflate_9 : decode cJ0_inflate 9 = .ok (.getfield 15, 3) := dk_180 0 15 (dk_at dksJ0_inflate_0 9 rfl rfl)
theorem dJ0_inflate_12 : decode cJ0_inflate 12 = .ok (.arraylength, 1) := dk_190 (dk_at dksJ0_inflate_0 12 rfl rfl)
theorem dJ0_inflate_13 : decode cJ0_inflate 13 = .ok (.invokestatic 26, 3) := dk_184 0 26 (dk_at dksJ0_inflate_0 13 rfl rfl)
theorem dJ0_inflate_16 : decode cJ0_inflate 16 = .ok (.astore_n 1, 1) := dk_76 (dk_at dksJ0_inflate_0 16 rfl rfl)
theorem dJ0_inflate_17 : decode cJ0_inflate 17 = .ok (.aload_n 0, 1) := dk_42 (dk_at dksJ0_inflate_0 17 rfl rfl)
theorem dJ0_inflate_18 : decode cJ0_inflate 18 = .ok (.getfield 15, 3) := dk_180 0 15 (dk_at dksJ0_inflate_0 18 rfl rfl)
theorem dJ0_inflate_21 : decode cJ0_inflate 21 = .ok (.iconst 0, 1) := dk_3 (dk_at dksJ0_inflate_0 21 rfl rfl)
theorem dJ0_inflate_22 : decode cJ0_inflate 22 = .ok (.aload_n 1, 1) := dk_43 (dk_at dksJ0_inflate_0 22 rfl rfl)
theorem dJ0_inflate_23 : decode cJ0_inflate 23 = .ok (.iconst 0, 1) := dk_3 (dk_at dksJ0_inflate_0 23 rfl rfl)
theorem dJ0_inflate_24 : decode cJ0_inflate 24 = .ok (.aload_n 0, 1) := dk_42 (dk_at dksJ0_inflate_1 0 rfl rfl)
theorem dJ0_inflate_25 : decode cJ0_inflate 25 = .ok (.getfield 79, 3) := dk_180 0 79 (dk_at dksJ0_inflate_1 1 rfl rfl)
theorem dJ0_inflate_28 : decode cJ0_inflate 28 = .ok (.invokestatic 125, 3) := dk_184 0 125 (dk_at dksJ0_inflate_1 4 rfl rfl)
theorem dJ0_inflate_31 : decode cJ0_inflate 31 = .ok (.aload_n 0, 1) := dk_42 (dk_at dksJ0_inflate_1 7 rfl rfl)
theorem dJ0_inflate_32 : decode cJ0_inflate 32 = .ok (.aload_n 1, 1) := dk_43 (dk_at dksJ0_inflate_1 8 rfl rfl)
theorem dJ0_inflate_33 : decode cJ0_inflate 33 = .ok (.putfield 15, 3) := dk_181 0 15 (dk_at dksJ0_inflate_1 9 rfl rfl)
theorem dJ0_inflate_36 : decode cJ0_inflate 36 = .ok (.aload_n 0, 1) := dk_42 (dk_at dksJ0_inflate_1 12 rfl rfl)
theorem dJ0_inflate_37 : decode cJ0_inflate 37 = .ok (.iconst 1, 1) := dk_4 (dk_at dksJ0_inflate_1 13 rfl rfl)
theorem dJ0_inflate_38 : decode cJ0_inflate 38 = .ok (.putfield 22, 3) := dk_181 0 22 (dk_at dksJ0_inflate_1 14 rfl rfl)
theorem dJ0_inflate_41 : decode cJ0_inflate 41 = .ok (.return_, 1) := dk_177 (dk_at dksJ0_inflate_1 17 rfl rfl)
abbrev cJ0_setLength : ByteArray := prog_20_method_13_code
def yJ0_setLength : MethodName := ⟨RJ0, "setLength", "(I)V"⟩
def dkwJ0_setLength_3 : List UInt8 := [164, 0, 8, 42, 4, 181, 0, 73, 42, 27, 181, 0, 79, 177]
abbrev dktJ0_setLength_3 : List UInt8 := dkwJ0_setLength_3 ++ []
def dkwJ0_setLength_2 : List UInt8 := [167, 0, 31, 42, 180, 0, 15, 42, 180, 0, 79, 27, 184, 0, 137, 167, 0, 16, 42, 180, 0, 79, 27]
abbrev dktJ0_setLength_2 : List UInt8 := dkwJ0_setLength_2 ++ dktJ0_setLength_3
def dkwJ0_setLength_1 : List UInt8 := [162, 0, 40, 42, 182, 0, 83, 153, 0, 18, 42, 180, 0, 15, 42, 180, 0, 79, 27, 184, 0, 133]
abbrev dktJ0_setLength_1 : List UInt8 := dkwJ0_setLength_1 ++ dktJ0_setLength_2
def dkwJ0_setLength_0 : List UInt8 := [27, 156, 0, 12, 187, 0, 129, 89, 27, 183, 0, 131, 191, 42, 27, 182, 0, 100, 42, 180, 0, 79, 27]
abbrev dktJ0_setLength_0 : List UInt8 := dkwJ0_setLength_0 ++ dktJ0_setLength_1
theorem dksJ0_setLength_0 : cJ0_setLength.data.toList.drop 0 = dktJ0_setLength_0 := by decide +kernel
theorem dksJ0_setLength_1 : cJ0_setLength.data.toList.drop 23 = dktJ0_setLength_1 := dk_seg dksJ0_setLength_0 23 rfl rfl
theorem dksJ0_setLength_2 : cJ0_setLength.data.toList.drop 45 = dktJ0_setLength_2 := dk_seg dksJ0_setLength_1 22 rfl rfl
theorem dksJ0_setLength_3 : cJ0_setLength.data.toList.drop 68 = dktJ0_setLength_3 := dk_seg dksJ0_setLength_2 23 rfl rfl
theorem dJ0_setLength_0 : decode cJ0_setLength 0 = .ok (.iload_n 1, 1) := dk_27 (dk_at dksJ0_setLength_0 0 rfl rfl)
theorem dJ0_setLength_1 : decode cJ0_setLength 1 = .ok (.ifCond .ge 12, 3) := dk_156 0 12 (dk_at dksJ0_setLength_0 1 rfl rfl)
theorem dJ0_setLength_4 : decode cJ0_setLength 4 = .ok (.new 129, 3) := dk_187 0 129 (dk_at dksJ0_setLength_0 4 rfl rfl)
theorem dJ0_setLength_7 : decode cJ0_setLength 7 = .ok (.dup, 1) := dk_89 (dk_at dksJ0_setLength_0 7 rfl rfl)
theorem dJ0_setLength_8 : decode cJ0_setLength 8 = .ok (.iload_n 1, 1) := dk_27 (dk_at dksJ0_setLength_0 8 rfl rfl)
theorem dJ0_setLength_9 : decode cJ0_setLength 9 = .ok (.invokespecial 131, 3) := dk_183 0 131 (dk_at dksJ0_setLength_0 9 rfl rfl)
theorem dJ0_setLength_12 : decode cJ0_setLength 12 = .ok (.athrow, 1) := dk_191 (dk_at dksJ0_setLength_0 12 rfl rfl)
theorem dJ0_setLength_13 : decode cJ0_setLength 13 = .ok (.aload_n 0, 1) := dk_42 (dk_at dksJ0_setLength_0 13 rfl rfl)
theorem dJ0_setLength_14 : decode cJ0_setLength 14 = .ok (.iload_n 1, 1) := dk_27 (dk_at dksJ0_setLength_0 14 rfl rfl)
theorem dJ0_setLength_15 : decode cJ0_setLength 15 = .ok (.invokevirtual 100, 3) := dk_182 0 100 (dk_at dksJ0_setLength_0 15 rfl rfl)
theorem dJ0_setLength_18 : decode cJ0_setLength 18 = .ok (.aload_n 0, 1) := dk_42 (dk_at dksJ0_setLength_0 18 rfl rfl)
theorem dJ0_setLength_19 : decode cJ0_setLength 19 = .ok (.getfield 79, 3) := dk_180 0 79 (dk_at dksJ0_setLength_0 19 rfl rfl)
theorem dJ0_setLength_22 : decode cJ0_setLength 22 = .ok (.iload_n 1, 1) := dk_27 (dk_at dksJ0_setLength_0 22 rfl rfl)
theorem dJ0_setLength_23 : decode cJ0_setLength 23 = .ok (.if_icmp .ge 40, 3) := dk_162 0 40 (dk_at dksJ0_setLength_1 0 rfl rfl)
theorem dJ0_setLength_26 : decode cJ0_setLength 26 = .ok (.aload_n 0, 1) := dk_42 (dk_at dksJ0_setLength_1 3 rfl rfl)
theorem dJ0_setLength_27 : decode cJ0_setLength 27 = .ok (.invokevirtual 83, 3) := dk_182 0 83 (dk_at dksJ0_setLength_1 4 rfl rfl)
theorem dJ0_setLength_30 : decode cJ0_setLength 30 = .ok (.ifCond .eq 18, 3) := dk_153 0 18 (dk_at dksJ0_setLength_1 7 rfl rfl)
theorem dJ0_setLength_33 : decode cJ0_setLength 33 = .ok (.aload_n 0, 1) := dk_42 (dk_at dksJ0_setLength_1 10 rfl rfl)
theorem dJ0_setLength_34 : decode cJ0_setLength 34 = .ok (.getfield 15, 3) := dk_180 0 15 (dk_at dksJ0_setLength_1 11 rfl rfl)
theorem dJ0_setLength_37 : decode cJ0_setLength 37 = .ok (.aload_n 0, 1) := dk_42 (dk_at dksJ0_setLength_1 14 rfl rfl)
theorem dJ0_setLength_38 : decode cJ0_setLength 38 = .ok (.getfield 79, 3) := dk_180 0 79 (dk_at dksJ0_setLength_1 15 rfl rfl)
theorem dJ0_setLength_41 : decode cJ0_setLength 41 = .ok (.iload_n 1, 1) := dk_27 (dk_at dksJ0_setLength_1 18 rfl rfl)
theorem dJ0_setLength_42 : decode cJ0_setLength 42 = .ok (.invokestatic 133, 3) := dk_184 0 133 (dk_at dksJ0_setLength_1 19 rfl rfl)
theorem dJ0_setLength_45 : decode cJ0_setLength 45 = .ok (.goto 31, 3) := dk_167 0 31 (dk_at dksJ0_setLength_2 0 rfl rfl)
theorem dJ0_setLength_48 : decode cJ0_setLength 48 = .ok (.aload_n 0, 1) := dk_42 (dk_at dksJ0_setLength_2 3 rfl rfl)
theorem dJ0_setLength_49 : decode cJ0_setLength 49 = .ok (.getfield 15, 3) := dk_180 0 15 (dk_at dksJ0_setLength_2 4 rfl rfl)
theorem dJ0_setLength_52 : decode cJ0_setLength 52 = .ok (.aload_n 0, 1) := dk_42 (dk_at dksJ0_setLength_2 7 rfl rfl)
theorem dJ0_setLength_53 : decode cJ0_setLength 53 = .ok (.getfield 79, 3) := dk_180 0 79 (dk_at dksJ0_setLength_2 8 rfl rfl)
theorem dJ0_setLength_56 : decode cJ0_setLength 56 = .ok (.iload_n 1, 1) := dk_27 (dk_at dksJ0_setLength_2 11 rfl rfl)
theorem dJ0_setLength_57 : decode cJ0_setLength 57 = .ok (.invokestatic 137, 3) := dk_184 0 137 (dk_at dksJ0_setLength_2 12 rfl rfl)
theorem dJ0_setLength_60 : decode cJ0_setLength 60 = .ok (.goto 16, 3) := dk_167 0 16 (dk_at dksJ0_setLength_2 15 rfl rfl)
theorem dJ0_setLength_63 : decode cJ0_setLength 63 = .ok (.aload_n 0, 1) := dk_42 (dk_at dksJ0_setLength_2 18 rfl rfl)
theorem dJ0_setLength_64 : decode cJ0_setLength 64 = .ok (.getfield 79, 3) := dk_180 0 79 (dk_at dksJ0_setLength_2 19 rfl rfl)
theorem dJ0_setLength_67 : decode cJ0_setLength 67 = .ok (.iload_n 1, 1) := dk_27 (dk_at dksJ0_setLength_2 22 rfl rfl)
theorem dJ0_setLength_68 : decode cJ0_setLength 68 = .ok (.if_icmp .le 8, 3) := dk_164 0 8 (dk_at dksJ0_setLength_3 0 rfl rfl)
theorem dJ0_setLength_71 : decode cJ0_setLength 71 = .ok (.aload_n 0, 1) := dk_42 (dk_at dksJ0_setLength_3 3 rfl rfl)
theorem dJ0_setLength_72 : decode cJ0_setLength 72 = .ok (.iconst 1, 1) := dk_4 (dk_at dksJ0_setLength_3 4 rfl rfl)
theorem dJ0_setLength_73 : decode cJ0_setLength 73 = .ok (.putfield 73, 3) := dk_181 0 73 (dk_at dksJ0_setLength_3 5 rfl rfl)
theorem dJ0_setLength_76 : decode cJ0_setLength 76 = .ok (.aload_n 0, 1) := dk_42 (dk_at dksJ0_setLength_3 8 rfl rfl)
theorem dJ0_setLength_77 : decode cJ0_setLength 77 = .ok (.iload_n 1, 1) := dk_27 (dk_at dksJ0_setLength_3 9 rfl rfl)
theorem dJ0_setLength_78 : decode cJ0_setLength 78 = .ok (.putfield 79, 3) := dk_181 0 79 (dk_at dksJ0_setLength_3 10 rfl rfl)
theorem dJ0_setLength_81 : decode cJ0_setLength 81 = .ok (.return_, 1) := dk_177 (dk_at dksJ0_setLength_3 13 rfl rfl)
abbrev cJ0_append_2 : ByteArray := prog_20_method_22_code
def yJ0_append_2 : MethodName := ⟨RJ0, "append", "(Ljava/lang/String;)Ljava/lang/AbstractStringBuilder;"⟩
def dkwJ0_append_2_1 : List UInt8 := [42, 42, 180, 0, 79, 43, 182, 0, 208, 42, 89, 180, 0, 79, 28, 96, 181, 0, 79, 42, 176]
abbrev dktJ0_append_2_1 : List UInt8 := dkwJ0_append_2_1 ++ []
def dkwJ0_append_2_0 : List UInt8 := [43, 199, 0, 8, 42, 182, 0, 204, 176, 43, 182, 0, 32, 61, 42, 42, 180, 0, 79, 28, 96, 182, 0, 100]
abbrev dktJ0_append_2_0 : List UInt8 := dkwJ0_append_2_0 ++ dktJ0_append_2_1
theorem dksJ0_append_2_0 : cJ0_append_2.data.toList.drop 0 = dktJ0_append_2_0 := by decide +kernel
theorem dksJ0_append_2_1 : cJ0_append_2.data.toList.drop 24 = dktJ0_append_2_1 := dk_seg dksJ0_append_2_0 24 rfl rfl
theorem dJ0_append_2_0 : decode cJ0_append_2 0 = .ok (.aload_n 1, 1) := dk_43 (dk_at dksJ0_append_2_0 0 rfl rfl)
theorem dJ0_append_2_1 : decode cJ0_append_2 1 = .ok (.ifnonnull 8, 3) := dk_199 0 8 (dk_at dksJ0_append_2_0 1 rfl rfl)
theorem dJ0_append_2_4 : decode cJ0_append_2 4 = .ok (.aload_n 0, 1) := dk_42 (dk_at dksJ0_append_2_0 4 rfl rfl)
theorem dJ0_append_2_5 : decode cJ0_append_2 5 = .ok (.invokevirtual 204, 3) := dk_182 0 204 (dk_at dksJ0_append_2_0 5 rfl rfl)
theorem dJ0_append_2_8 : decode cJ0_append_2 8 = .ok (.areturn, 1) := dk_176 (dk_at dksJ0_append_2_0 8 rfl rfl)
theorem dJ0_append_2_9 : decode cJ0_append_2 9 = .ok (.aload_n 1, 1) := dk_43 (dk_at dksJ0_append_2_0 9 rfl rfl)
theorem dJ0_append_2_10 : decode cJ0_append_2 10 = .ok (.invokevirtual 32, 3) := dk_182 0 32 (dk_at dksJ0_append_2_0 10 rfl rfl)
theorem dJ0_append_2_13 : decode cJ0_append_2 13 = .ok (.istore_n 2, 1) := dk_61 (dk_at dksJ0_append_2_0 13 rfl rfl)
theorem dJ0_append_2_14 : decode cJ0_append_2 14 = .ok (.aload_n 0, 1) := dk_42 (dk_at dksJ0_append_2_0 14 rfl rfl)
theorem dJ0_append_2_15 : decode cJ0_append_2 15 = .ok (.aload_n 0, 1) := dk_42 (dk_at dksJ0_append_2_0 15 rfl rfl)
theorem dJ0_append_2_16 : decode cJ0_append_2 16 = .ok (.getfield 79, 3) := dk_180 0 79 (dk_at dksJ0_append_2_0 16 rfl rfl)
theorem dJ0_append_2_19 : decode cJ0_append_2 19 = .ok (.iload_n 2, 1) := dk_28 (dk_at dksJ0_append_2_0 19 rfl rfl)
theorem dJ0_append_2_20 : decode cJ0_append_2 20 = .ok (.iadd, 1) := dk_96 (dk_at dksJ0_append_2_0 20 rfl rfl)
theorem dJ0_append_2_21 : decode cJ0_append_2 21 = .ok (.invokevirtual 100, 3) := dk_182 0 100 (dk_at dksJ0_append_2_0 21 rfl rfl)
theorem dJ0_append_2_24 : decode cJ0_append_2 24 = .ok (.aload_n 0, 1) := dk_42 (dk_at dksJ0_append_2_1 0 rfl rfl)
theorem dJ0_append_2_25 : decode cJ0_append_2 25 = .ok (.aload_n 0, 1) := dk_42 (dk_at dksJ0_append_2_1 1 rfl rfl)
theorem dJ0_append_2_26 : decode cJ0_append_2 26 = .ok (.getfield 79, 3) := dk_180 0 79 (dk_at dksJ0_append_2_1 2 rfl rfl)
theorem dJ0_append_2_29 : decode cJ0_append_2 29 = .ok (.aload_n 1, 1) := dk_43 (dk_at dksJ0_append_2_1 5 rfl rfl)
theorem dJ0_append_2_30 : decode cJ0_append_2 30 = .ok (.invokevirtual 208, 3) := dk_182 0 208 (dk_at dksJ0_append_2_1 6 rfl rfl)
theorem dJ0_append_2_33 : decode cJ0_append_2 33 = .ok (.aload_n 0, 1) := dk_42 (dk_at dksJ0_append_2_1 9 rfl rfl)
theorem dJ0_append_2_34 : decode cJ0_append_2 34 = .ok (.dup, 1) := dk_89 (dk_at dksJ0_append_2_1 10 rfl rfl)
theorem dJ0_append_2_35 : decode cJ0_append_2 35 = .ok (.getfield 79, 3) := dk_180 0 79 (dk_at dksJ0_append_2_1 11 rfl rfl)
theorem dJ0_append_2_38 : decode cJ0_append_2 38 = .ok (.iload_n 2, 1) := dk_28 (dk_at dksJ0_append_2_1 14 rfl rfl)
theorem dJ0_append_2_39 : decode cJ0_append_2 39 = .ok (.iadd, 1) := dk_96 (dk_at dksJ0_append_2_1 15 rfl rfl)
theorem dJ0_append_2_40 : decode cJ0_append_2 40 = .ok (.putfield 79, 3) := dk_181 0 79 (dk_at dksJ0_append_2_1 16 rfl rfl)
theorem dJ0_append_2_43 : decode cJ0_append_2 43 = .ok (.aload_n 0, 1) := dk_42 (dk_at dksJ0_append_2_1 19 rfl rfl)
theorem dJ0_append_2_44 : decode cJ0_append_2 44 = .ok (.areturn, 1) := dk_176 (dk_at dksJ0_append_2_1 20 rfl rfl)
abbrev cJ0_appendNull : ByteArray := prog_20_method_26_code
def yJ0_appendNull : MethodName := ⟨RJ0, "appendNull", "()Ljava/lang/AbstractStringBuilder;"⟩
def dkwJ0_appendNull_3 : List UInt8 := [184, 0, 226, 60, 42, 27, 181, 0, 79, 42, 176]
abbrev dktJ0_appendNull_3 : List UInt8 := dkwJ0_appendNull_3 ++ []
def dkwJ0_appendNull_2 : List UInt8 := [16, 108, 84, 44, 27, 132, 1, 1, 16, 108, 84, 167, 0, 17, 44, 27, 16, 110, 16, 117, 16, 108, 16, 108]
abbrev dktJ0_appendNull_2 : List UInt8 := dkwJ0_appendNull_2 ++ dktJ0_appendNull_3
def dkwJ0_appendNull_1 : List UInt8 := [153, 0, 38, 44, 27, 132, 1, 1, 16, 110, 84, 44, 27, 132, 1, 1, 16, 117, 84, 44, 27, 132, 1, 1]
abbrev dktJ0_appendNull_1 : List UInt8 := dkwJ0_appendNull_1 ++ dktJ0_appendNull_2
def dkwJ0_appendNull_0 : List UInt8 := [42, 42, 180, 0, 79, 7, 96, 182, 0, 100, 42, 180, 0, 79, 60, 42, 180, 0, 15, 77, 42, 182, 0, 83]
abbrev dktJ0_appendNull_0 : List UInt8 := dkwJ0_appendNull_0 ++ dktJ0_appendNull_1
theorem dksJ0_appendNull_0 : cJ0_appendNull.data.toList.drop 0 = dktJ0_appendNull_0 := by decide +kernel
theorem dksJ0_appendNull_1 : cJ0_appendNull.data.toList.drop 24 = dktJ0_appendNull_1 := dk_seg dksJ0_appendNull_0 24 rfl rfl
theorem dksJ0_appendNull_2 : cJ0_appendNull.data.toList.drop 48 = dktJ0_appendNull_2 := dk_seg dksJ0_appendNull_1 24 rfl rfl
theorem dksJ0_appendNull_3 : cJ0_appendNull.data.toList.drop 72 = dktJ0_appendNull_3 := dk_seg dksJ0_appendNull_2 24 rfl rfl
theorem dJ0_appendNull_0 : decode cJ0_appendNull 0 = .ok (.aload_n 0, 1) := dk_42 (dk_at dksJ0_appendNull_0 0 rfl rfl)
theorem dJ0_appendNull_1 : decode cJ0_appendNull 1 = .ok (.aload_n 0, 1) := dk_42 (dk_at dksJ0_appendNull_0 1 rfl rfl)
theorem dJ0_appendNull_2 : decode cJ0_appendNull 2 = .ok (.getfield 79, 3) := dk_180 0 79 (dk_at dksJ0_appendNull_0 2 rfl rfl)
theorem dJ0_appendNull_5 : decode cJ0_appendNull 5 = .ok (.iconst 4, 1) := dk_7 (dk_at dksJ0_appendNull_0 5 rfl rfl)
theorem dJ0_appendNull_6 : decode cJ0_appendNull 6 = .ok (.iadd, 1) := dk_96 (dk_at dksJ0_appendNull_0 6 rfl rfl)
theorem dJ0_appendNull_7 : decode cJ0_appendNull 7 = .ok (.invokevirtual 100, 3) := dk_182 0 100 (dk_at dksJ0_appendNull_0 7 rfl rfl)
theorem dJ0_appendNull_10 : decode cJ0_appendNull 10 = .ok (.aload_n 0, 1) := dk_42 (dk_at dksJ0_appendNull_0 10 rfl rfl)
theorem dJ0_appendNull_11 : decode cJ0_appendNull 11 = .ok (.getfield 79, 3) := dk_180 0 79 (dk_at dksJ0_appendNull_0 11 rfl rfl)
theorem dJ0_appendNull_14 : decode cJ0_appendNull 14 = .ok (.istore_n 1, 1) := dk_60 (dk_at dksJ0_appendNull_0 14 rfl rfl)
theorem dJ0_appendNull_15 : decode cJ0_appendNull 15 = .ok (.aload_n 0, 1) := dk_42 (dk_at dksJ0_appendNull_0 15 rfl rfl)
theorem dJ0_appendNull_16 : decode cJ0_appendNull 16 = .ok (.getfield 15, 3) := dk_180 0 15 (dk_at dksJ0_appendNull_0 16 rfl rfl)
theorem dJ0_appendNull_19 : decode cJ0_appendNull 19 = .ok (.astore_n 2, 1) := dk_77 (dk_at dksJ0_appendNull_0 19 rfl rfl)
theorem dJ0_appendNull_20 : decode cJ0_appendNull 20 = .ok (.aload_n 0, 1) := dk_42 (dk_at dksJ0_appendNull_0 20 rfl rfl)
theorem dJ0_appendNull_21 : decode cJ0_appendNull 21 = .ok (.invokevirtual 83, 3) := dk_182 0 83 (dk_at dksJ0_appendNull_0 21 rfl rfl)
theorem dJ0_appendNull_24 : decode cJ0_appendNull 24 = .ok (.ifCond .eq 38, 3) := dk_153 0 38 (dk_at dksJ0_appendNull_1 0 rfl rfl)
theorem dJ0_appendNull_27 : decode cJ0_appendNull 27 = .ok (.aload_n 2, 1) := dk_44 (dk_at dksJ0_appendNull_1 3 rfl rfl)
theorem dJ0_appendNull_28 : decode cJ0_appendNull 28 = .ok (.iload_n 1, 1) := dk_27 (dk_at dksJ0_appendNull_1 4 rfl rfl)
theorem dJ0_appendNull_29 : decode cJ0_appendNull 29 = .ok (.iinc 1 1, 3) := dk_132 1 1 (dk_at dksJ0_appendNull_1 5 rfl rfl)
theorem dJ0_appendNull_32 : decode cJ0_appendNull 32 = .ok (.bipush 110, 2) := dk_16 110 (dk_at dksJ0_appendNull_1 8 rfl rfl)
theorem dJ0_appendNull_34 : decode cJ0_appendNull 34 = .ok (.bastore, 1) := dk_84 (dk_at dksJ0_appendNull_1 10 rfl rfl)
theorem dJ0_appendNull_35 : decode cJ0_appendNull 35 = .ok (.aload_n 2, 1) := dk_44 (dk_at dksJ0_appendNull_1 11 rfl rfl)
theorem dJ0_appendNull_36 : decode cJ0_appendNull 36 = .ok (.iload_n 1, 1) := dk_27 (dk_at dksJ0_appendNull_1 12 rfl rfl)
theorem dJ0_appendNull_37 : decode cJ0_appendNull 37 = .ok (.iinc 1 1, 3) := dk_132 1 1 (dk_at dksJ0_appendNull_1 13 rfl rfl)
theorem dJ0_appendNull_40 : decode cJ0_appendNull 40 = .ok (.bipush 117, 2) := dk_16 117 (dk_at dksJ0_appendNull_1 16 rfl rfl)
theorem dJ0_appendNull_42 : decode cJ0_appendNull 42 = .ok (.bastore, 1) := dk_84 (dk_at dksJ0_appendNull_1 18 rfl rfl)
theorem dJ0_appendNull_43 : decode cJ0_appendNull 43 = .ok (.aload_n 2, 1) := dk_44 (dk_at dksJ0_appendNull_1 19 rfl rfl)
theorem dJ0_appendNull_44 : decode cJ0_appendNull 44 = .ok (.iload_n 1, 1) := dk_27 (dk_at dksJ0_appendNull_1 20 rfl rfl)
theorem dJ0_appendNull_45 : decode cJ0_appendNull 45 = .ok (.iinc 1 1, 3) := dk_132 1 1 (dk_at dksJ0_appendNull_1 21 rfl rfl)
theorem dJ0_appendNull_48 : decode cJ0_appendNull 48 = .ok (.bipush 108, 2) := dk_16 108 (dk_at dksJ0_appendNull_2 0 rfl rfl)
theorem dJ0_appendNull_50 : decode cJ0_appendNull 50 = .ok (.bastore, 1) := dk_84 (dk_at dksJ0_appendNull_2 2 rfl rfl)
theorem dJ0_appendNull_51 : decode cJ0_appendNull 51 = .ok (.aload_n 2, 1) := dk_44 (dk_at dksJ0_appendNull_2 3 rfl rfl)
theorem dJ0_appendNull_52 : decode cJ0_appendNull 52 = .ok (.iload_n 1, 1) := dk_27 (dk_at dksJ0_appendNull_2 4 rfl rfl)
theorem dJ0_appendNull_53 : decode cJ0_appendNull 53 = .ok (.iinc 1 1, 3) := dk_132 1 1 (dk_at dksJ0_appendNull_2 5 rfl rfl)
theorem dJ0_appendNull_56 : decode cJ0_appendNull 56 = .ok (.bipush 108, 2) := dk_16 108 (dk_at dksJ0_appendNull_2 8 rfl rfl)
theorem dJ0_appendNull_58 : decode cJ0_appendNull 58 = .ok (.bastore, 1) := dk_84 (dk_at dksJ0_appendNull_2 10 rfl rfl)
theorem dJ0_appendNull_59 : decode cJ0_appendNull 59 = .ok (.goto 17, 3) := dk_167 0 17 (dk_at dksJ0_appendNull_2 11 rfl rfl)
theorem dJ0_appendNull_62 : decode cJ0_appendNull 62 = .ok (.aload_n 2, 1) := dk_44 (dk_at dksJ0_appendNull_2 14 rfl rfl)
theorem dJ0_appendNull_63 : decode cJ0_appendNull 63 = .ok (.iload_n 1, 1) := dk_27 (dk_at dksJ0_appendNull_2 15 rfl rfl)
theorem dJ0_appendNull_64 : decode cJ0_appendNull 64 = .ok (.bipush 110, 2) := dk_16 110 (dk_at dksJ0_appendNull_2 16 rfl rfl)
theorem dJ0_appendNull_66 : decode cJ0_appendNull 66 = .ok (.bipush 117, 2) := dk_16 117 (dk_at dksJ0_appendNull_2 18 rfl rfl)
theorem dJ0_appendNull_68 : decode cJ0_appendNull 68 = .ok (.bipush 108, 2) := dk_16 108 (dk_at dksJ0_appendNull_2 20 rfl rfl)
theorem dJ0_appendNull_70 : decode cJ0_appendNull 70 = .ok (.bipush 108, 2) := dk_16 108 (dk_at dksJ0_appendNull_2 22 rfl rfl)
theorem dJ0_appendNull_72 : decode cJ0_appendNull 72 = .ok (.invokestatic 226, 3) := dk_184 0 226 (dk_at dksJ0_appendNull_3 0 rfl rfl)
theorem dJ0_appendNull_75 : decode cJ0_appendNull 75 = .ok (.istore_n 1, 1) := dk_60 (dk_at dksJ0_appendNull_3 3 rfl rfl)
theorem dJ0_appendNull_76 : decode cJ0_appendNull 76 = .ok (.aload_n 0, 1) := dk_42 (dk_at dksJ0_appendNull_3 4 rfl rfl)
theorem dJ0_appendNull_77 : decode cJ0_appendNull 77 = .ok (.iload_n 1, 1) := dk_27 (dk_at dksJ0_appendNull_3 5 rfl rfl)
theorem dJ0_appendNull_78 : decode cJ0_appendNull 78 = .ok (.putfield 79, 3) := dk_181 0 79 (dk_at dksJ0_appendNull_3 6 rfl rfl)
theorem dJ0_appendNull_81 : decode cJ0_appendNull 81 = .ok (.aload_n 0, 1) := dk_42 (dk_at dksJ0_appendNull_3 9 rfl rfl)
theorem dJ0_appendNull_82 : decode cJ0_appendNull 82 = .ok (.areturn, 1) := dk_176 (dk_at dksJ0_appendNull_3 10 rfl rfl)
abbrev cJ0_putStringAt : ByteArray := prog_20_method_73_code
def yJ0_putStringAt : MethodName := ⟨RJ0, "putStringAt", "(ILjava/lang/String;)V"⟩
def dkwJ0_putStringAt_0 : List UInt8 := [42, 44, 182, 1, 141, 44, 42, 180, 0, 15, 27, 42, 180, 0, 22, 182, 1, 143, 177]
abbrev dktJ0_putStringAt_0 : List UInt8 := dkwJ0_putStringAt_0 ++ []
theorem dksJ0_putStringAt_0 : cJ0_putStringAt.data.toList.drop 0 = dktJ0_putStringAt_0 := by decide +kernel
theorem dJ0_putStringAt_0 : decode cJ0_putStringAt 0 = .ok (.aload_n 0, 1) := dk_42 (dk_at dksJ0_putStringAt_0 0 rfl rfl)
theorem dJ0_putStringAt_1 : decode cJ0_putStringAt 1 = .ok (.aload_n 2, 1) := dk_44 (dk_at dksJ0_putStringAt_0 1 rfl rfl)
theorem dJ0_putStringAt_2 : decode cJ0_putStringAt 2 = .ok (.invokevirtual 397, 3) := dk_182 1 141 (dk_at dksJ0_putStringAt_0 2 rfl rfl)
theorem dJ0_putStringAt_5 : decode cJ0_putStringAt 5 = .ok (.aload_n 2, 1) := dk_44 (dk_at dksJ0_putStringAt_0 5 rfl rfl)
theorem dJ0_putStringAt_6 : decode cJ0_putStringAt 6 = .ok (.aload_n 0, 1) := dk_42 (dk_at dksJ0_putStringAt_0 6 rfl rfl)
theorem dJ0_putStringAt_7 : decode cJ0_putStringAt 7 = .ok (.getfield 15, 3) := dk_180 0 15 (dk_at dksJ0_putStringAt_0 7 rfl rfl)
theorem dJ0_putStringAt_10 : decode cJ0_putStringAt 10 = .ok (.iload_n 1, 1) := dk_27 (dk_at dksJ0_putStringAt_0 10 rfl rfl)
theorem dJ0_putStringAt_11 : decode cJ0_putStringAt 11 = .ok (.aload_n 0, 1) := dk_42 (dk_at dksJ0_putStringAt_0 11 rfl rfl)
theorem dJ0_putStringAt_12 : decode cJ0_putStringAt 12 = .ok (.getfield 22, 3) := dk_180 0 22 (dk_at dksJ0_putStringAt_0 12 rfl rfl)
theorem dJ0_putStringAt_15 : decode cJ0_putStringAt 15 = .ok (.invokevirtual 399, 3) := dk_182 1 143 (dk_at dksJ0_putStringAt_0 15 rfl rfl)
theorem dJ0_putStringAt_18 : decode cJ0_putStringAt 18 = .ok (.return_, 1) := dk_177 (dk_at dksJ0_putStringAt_0 18 rfl rfl)
abbrev cJ0_inflateIfNeededFor : ByteArray := prog_20_method_71_code
def yJ0_inflateIfNeededFor : MethodName := ⟨RJ0, "inflateIfNeededFor", "(Ljava/lang/String;)V"⟩
def dkwJ0_inflateIfNeededFor_0 : List UInt8 := [178, 0, 18, 153, 0, 18, 42, 180, 0, 22, 43, 182, 0, 40, 159, 0, 7, 42, 182, 0, 195, 177]
abbrev dktJ0_inflateIfNeededFor_0 : List UInt8 := dkwJ0_inflateIfNeededFor_0 ++ []
theorem dksJ0_inflateIfNeededFor_0 : cJ0_inflateIfNeededFor.data.toList.drop 0 = dktJ0_inflateIfNeededFor_0 := by decide +kernel
theorem dJ0_inflateIfNeededFor_0 : decode cJ0_inflateIfNeededFor 0 = .ok (.getstatic 18, 3) := dk_178 0 18 (dk_at dksJ0_inflateIfNeededFor_0 0 rfl rfl)
theorem dJ0_inflateIfNeededFor_3 : decode cJ0_inflateIfNeededFor 3 = .ok (.ifCond .eq 18, 3) := dk_153 0 18 (dk_at dksJ0_inflateIfNeededFor_0 3 rfl rfl)
theorem dJ0_inflateIfNeededFor_6 : decode cJ0_inflateIfNeededFor 6 = .ok (.aload_n 0, 1) := dk_42 (dk_at dksJ0_inflateIfNeededFor_0 6 rfl rfl)
theorem dJ0_inflateIfNeededFor_7 : decode cJ0_inflateIfNeededFor 7 = .ok (.getfield 22, 3) := dk_180 0 22 (dk_at dksJ0_inflateIfNeededFor_0 7 rfl rfl)
theorem dJ0_inflateIfNeededFor_10 : decode cJ0_inflateIfNeededFor 10 = .ok (.aload_n 1, 1) := dk_43 (dk_at dksJ0_inflateIfNeededFor_0 10 rfl rfl)
theorem dJ0_inflateIfNeededFor_11 : decode cJ0_inflateIfNeededFor 11 = .ok (.invokevirtual 40, 3) := dk_182 0 40 (dk_at dksJ0_inflateIfNeededFor_0 11 rfl rfl)
theorem dJ0_inflateIfNeededFor_14 : decode cJ0_inflateIfNeededFor 14 = .ok (.if_icmp .eq 7, 3) := dk_159 0 7 (dk_at dksJ0_inflateIfNeededFor_0 14 rfl rfl)
theorem dJ0_inflateIfNeededFor_17 : decode cJ0_inflateIfNeededFor 17 = .ok (.aload_n 0, 1) := dk_42 (dk_at dksJ0_inflateIfNeededFor_0 17 rfl rfl)
theorem dJ0_inflateIfNeededFor_18 : decode cJ0_inflateIfNeededFor 18 = .ok (.invokevirtual 195, 3) := dk_182 0 195 (dk_at dksJ0_inflateIfNeededFor_0 18 rfl rfl)
theorem dJ0_inflateIfNeededFor_21 : decode cJ0_inflateIfNeededFor 21 = .ok (.return_, 1) := dk_177 (dk_at dksJ0_inflateIfNeededFor_0 21 rfl rfl)
abbrev cJ0_append_3 : ByteArray := prog_20_method_32_code
def yJ0_append_3 : MethodName := ⟨RJ0, "append", "(I)Ljava/lang/AbstractStringBuilder;"⟩
def dkwJ0_append_3_2 : List UInt8 := [42, 29, 181, 0, 79, 42, 176]
abbrev dktJ0_append_3_2 : List UInt8 := dkwJ0_append_3_2 ++ []
def dkwJ0_append_3_1 : List UInt8 := [27, 29, 42, 180, 0, 15, 184, 0, 248, 87, 167, 0, 14, 27, 28, 29, 42, 180, 0, 15, 184, 0, 251, 87]
abbrev dktJ0_append_3_1 : List UInt8 := dkwJ0_append_3_1 ++ dktJ0_append_3_2
def dkwJ0_append_3_0 : List UInt8 := [42, 180, 0, 79, 61, 28, 27, 184, 0, 245, 96, 62, 42, 29, 182, 0, 100, 42, 182, 0, 83, 153, 0, 16]
abbrev dktJ0_append_3_0 : List UInt8 := dkwJ0_append_3_0 ++ dktJ0_append_3_1
theorem dksJ0_append_3_0 : cJ0_append_3.data.toList.drop 0 = dktJ0_append_3_0 := by decide +kernel
theorem dksJ0_append_3_1 : cJ0_append_3.data.toList.drop 24 = dktJ0_append_3_1 := dk_seg dksJ0_append_3_0 24 rfl rfl
theorem dksJ0_append_3_2 : cJ0_append_3.data.toList.drop 48 = dktJ0_append_3_2 := dk_seg dksJ0_append_3_1 24 rfl rfl
theorem dJ0_append_3_0 : decode cJ0_append_3 0 = .ok (.aload_n 0, 1) := dk_42 (dk_at dksJ0_append_3_0 0 rfl rfl)
theorem dJ0_append_3_1 : decode cJ0_append_3 1 = .ok (.getfield 79, 3) := dk_180 0 79 (dk_at dksJ0_append_3_0 1 rfl rfl)
theorem dJ0_append_3_4 : decode cJ0_append_3 4 = .ok (.istore_n 2, 1) := dk_61 (dk_at dksJ0_append_3_0 4 rfl rfl)
theorem dJ0_append_3_5 : decode cJ0_append_3 5 = .ok (.iload_n 2, 1) := dk_28 (dk_at dksJ0_append_3_0 5 rfl rfl)
theorem dJ0_append_3_6 : decode cJ0_append_3 6 = .ok (.iload_n 1, 1) := dk_27 (dk_at dksJ0_append_3_0 6 rfl rfl)
theorem dJ0_append_3_7 : decode cJ0_append_3 7 = .ok (.invokestatic 245, 3) := dk_184 0 245 (dk_at dksJ0_append_3_0 7 rfl rfl)
theorem dJ0_append_3_10 : decode cJ0_append_3 10 = .ok (.iadd, 1) := dk_96 (dk_at dksJ0_append_3_0 10 rfl rfl)
theorem dJ0_append_3_11 : decode cJ0_append_3 11 = .ok (.istore_n 3, 1) := dk_62 (dk_at dksJ0_append_3_0 11 rfl rfl)
theorem dJ0_append_3_12 : decode cJ0_append_3 12 = .ok (.aload_n 0, 1) := dk_42 (dk_at dksJ0_append_3_0 12 rfl rfl)
theorem dJ0_append_3_13 : decode cJ0_append_3 13 = .ok (.iload_n 3, 1) := dk_29 (dk_at dksJ0_append_3_0 13 rfl rfl)
theorem dJ0_append_3_14 : decode cJ0_append_3 14 = .ok (.invokevirtual 100, 3) := dk_182 0 100 (dk_at dksJ0_append_3_0 14 rfl rfl)
theorem dJ0_append_3_17 : decode cJ0_append_3 17 = .ok (.aload_n 0, 1) := dk_42 (dk_at dksJ0_append_3_0 17 rfl rfl)
theorem dJ0_append_3_18 : decode cJ0_append_3 18 = .ok (.invokevirtual 83, 3) := dk_182 0 83 (dk_at dksJ0_append_3_0 18 rfl rfl)
theorem dJ0_append_3_21 : decode cJ0_append_3 21 = .ok (.ifCond .eq 16, 3) := dk_153 0 16 (dk_at dksJ0_append_3_0 21 rfl rfl)
theorem dJ0_append_3_24 : decode cJ0_append_3 24 = .ok (.iload_n 1, 1) := dk_27 (dk_at dksJ0_append_3_1 0 rfl rfl)
theorem dJ0_append_3_25 : decode cJ0_append_3 25 = .ok (.iload_n 3, 1) := dk_29 (dk_at dksJ0_append_3_1 1 rfl rfl)
theorem dJ0_append_3_26 : decode cJ0_append_3 26 = .ok (.aload_n 0, 1) := dk_42 (dk_at dksJ0_append_3_1 2 rfl rfl)
theorem dJ0_append_3_27 : decode cJ0_append_3 27 = .ok (.getfield 15, 3) := dk_180 0 15 (dk_at dksJ0_append_3_1 3 rfl rfl)
theorem dJ0_append_3_30 : decode cJ0_append_3 30 = .ok (.invokestatic 248, 3) := dk_184 0 248 (dk_at dksJ0_append_3_1 6 rfl rfl)
theorem dJ0_append_3_33 : decode cJ0_append_3 33 = .ok (.pop, 1) := dk_87 (dk_at dksJ0_append_3_1 9 rfl rfl)
theorem dJ0_append_3_34 : decode cJ0_append_3 34 = .ok (.goto 14, 3) := dk_167 0 14 (dk_at dksJ0_append_3_1 10 rfl rfl)
theorem dJ0_append_3_37 : decode cJ0_append_3 37 = .ok (.iload_n 1, 1) := dk_27 (dk_at dksJ0_append_3_1 13 rfl rfl)
theorem dJ0_append_3_38 : decode cJ0_append_3 38 = .ok (.iload_n 2, 1) := dk_28 (dk_at dksJ0_append_3_1 14 rfl rfl)
theorem dJ0_append_3_39 : decode cJ0_append_3 39 = .ok (.iload_n 3, 1) := dk_29 (dk_at dksJ0_append_3_1 15 rfl rfl)
theorem dJ0_append_3_40 : decode cJ0_append_3 40 = .ok (.aload_n 0, 1) := dk_42 (dk_at dksJ0_append_3_1 16 rfl rfl)
theorem dJ0_append_3_41 : decode cJ0_append_3 41 = .ok (.getfield 15, 3) := dk_180 0 15 (dk_at dksJ0_append_3_1 17 rfl rfl)
theorem dJ0_append_3_44 : decode cJ0_append_3 44 = .ok (.invokestatic 251, 3) := dk_184 0 251 (dk_at dksJ0_append_3_1 20 rfl rfl)
theorem dJ0_append_3_47 : decode cJ0_append_3 47 = .ok (.pop, 1) := dk_87 (dk_at dksJ0_append_3_1 23 rfl rfl)
theorem dJ0_append_3_48 : decode cJ0_append_3 48 = .ok (.aload_n 0, 1) := dk_42 (dk_at dksJ0_append_3_2 0 rfl rfl)
theorem dJ0_append_3_49 : decode cJ0_append_3 49 = .ok (.iload_n 3, 1) := dk_29 (dk_at dksJ0_append_3_2 1 rfl rfl)
theorem dJ0_append_3_50 : decode cJ0_append_3 50 = .ok (.putfield 79, 3) := dk_181 0 79 (dk_at dksJ0_append_3_2 2 rfl rfl)
theorem dJ0_append_3_53 : decode cJ0_append_3 53 = .ok (.aload_n 0, 1) := dk_42 (dk_at dksJ0_append_3_2 5 rfl rfl)
theorem dJ0_append_3_54 : decode cJ0_append_3 54 = .ok (.areturn, 1) := dk_176 (dk_at dksJ0_append_3_2 6 rfl rfl)
abbrev cJ0_getValue : ByteArray := prog_20_method_64_code
def yJ0_getValue : MethodName := ⟨RJ0, "getValue", "()[B"⟩
theorem dJ0_getValue_0 : decode cJ0_getValue 0 = .ok (.aload_n 0, 1) := by decide +kernel
theorem dJ0_getValue_1 : decode cJ0_getValue 1 = .ok (.getfield 15, 3) := by decide +kernel
theorem dJ0_getValue_4 : decode cJ0_getValue 4 = .ok (.areturn, 1) := by decide +kernel
abbrev cJ0_charAt : ByteArray := prog_20_method_14_code
def yJ0_charAt : MethodName := ⟨RJ0, "charAt", "(I)C"⟩
def dkwJ0_charAt_1 : List UInt8 := [21, 4, 184, 0, 144, 28, 154, 0, 12, 45, 27, 51, 17, 0, 255, 126, 146, 172, 45, 27, 184, 0, 148, 172]
abbrev dktJ0_charAt_1 : List UInt8 := dkwJ0_charAt_1 ++ []
def dkwJ0_charAt_0 : List UInt8 := [42, 180, 0, 22, 61, 42, 180, 0, 15, 78, 42, 180, 0, 79, 45, 190, 28, 122, 184, 0, 138, 54, 4, 27]
abbrev dktJ0_charAt_0 : List UInt8 := dkwJ0_charAt_0 ++ dktJ0_charAt_1
theorem dksJ0_charAt_0 : cJ0_charAt.data.toList.drop 0 = dktJ0_charAt_0 := by decide +kernel
theorem dksJ0_charAt_1 : cJ0_charAt.data.toList.drop 24 = dktJ0_charAt_1 := dk_seg dksJ0_charAt_0 24 rfl rfl
theorem dJ0_charAt_0 : decode cJ0_charAt 0 = .ok (.aload_n 0, 1) := dk_42 (dk_at dksJ0_charAt_0 0 rfl rfl)
theorem dJ0_charAt_1 : decode cJ0_charAt 1 = .ok (.getfield 22, 3) := dk_180 0 22 (dk_at dksJ0_charAt_0 1 rfl rfl)
theorem dJ0_charAt_4 : decode cJ0_charAt 4 = .ok (.istore_n 2, 1) := dk_61 (dk_at dksJ0_charAt_0 4 rfl rfl)
theorem dJ0_charAt_5 : decode cJ0_charAt 5 = .ok (.aload_n 0, 1) := dk_42 (dk_at dksJ0_charAt_0 5 rfl rfl)
theorem dJ0_charAt_6 : decode cJ0_charAt 6 = .ok (.getfield 15, 3) := dk_180 0 15 (dk_at dksJ0_charAt_0 6 rfl rfl)
theorem dJ0_charAt_9 : decode cJ0_charAt 9 = .ok (.astore_n 3, 1) := dk_78 (dk_at dksJ0_charAt_0 9 rfl rfl)
theorem dJ0_charAt_10 : decode cJ0_charAt 10 = .ok (.aload_n 0, 1) := dk_42 (dk_at dksJ0_charAt_0 10 rfl rfl)
theorem dJ0_charAt_11 : decode cJ0_charAt 11 = .ok (.getfield 79, 3) := dk_180 0 79 (dk_at dksJ0_charAt_0 11 rfl rfl)
theorem dJ0_charAt_14 : decode cJ0_charAt 14 = .ok (.aload_n 3, 1) := dk_45 (dk_at dksJ0_charAt_0 14 rfl rfl)
theorem dJ0_charAt_15 : decode cJ0_charAt 15 = .ok (.arraylength, 1) := dk_190 (dk_at dksJ0_charAt_0 15 rfl rfl)
theorem dJ0_charAt_16 : decode cJ0_charAt 16 = .ok (.iload_n 2, 1) := dk_28 (dk_at dksJ0_charAt_0 16 rfl rfl)
theorem dJ0_charAt_17 : decode cJ0_charAt 17 = .ok (.ishr, 1) := dk_122 (dk_at dksJ0_charAt_0 17 rfl rfl)
theorem dJ0_charAt_18 : decode cJ0_charAt 18 = .ok (.invokestatic 138, 3) := dk_184 0 138 (dk_at dksJ0_charAt_0 18 rfl rfl)
theorem dJ0_charAt_21 : decode cJ0_charAt 21 = .ok (.istore 4, 2) := dk_54 4 (dk_at dksJ0_charAt_0 21 rfl rfl)
theorem dJ0_charAt_23 : decode cJ0_charAt 23 = .ok (.iload_n 1, 1) := dk_27 (dk_at dksJ0_charAt_0 23 rfl rfl)
theorem dJ0_charAt_24 : decode cJ0_charAt 24 = .ok (.iload 4, 2) := dk_21 4 (dk_at dksJ0_charAt_1 0 rfl rfl)
theorem dJ0_charAt_26 : decode cJ0_charAt 26 = .ok (.invokestatic 144, 3) := dk_184 0 144 (dk_at dksJ0_charAt_1 2 rfl rfl)
theorem dJ0_charAt_29 : decode cJ0_charAt 29 = .ok (.iload_n 2, 1) := dk_28 (dk_at dksJ0_charAt_1 5 rfl rfl)
theorem dJ0_charAt_30 : decode cJ0_charAt 30 = .ok (.ifCond .ne 12, 3) := dk_154 0 12 (dk_at dksJ0_charAt_1 6 rfl rfl)
theorem dJ0_charAt_33 : decode cJ0_charAt 33 = .ok (.aload_n 3, 1) := dk_45 (dk_at dksJ0_charAt_1 9 rfl rfl)
theorem dJ0_charAt_34 : decode cJ0_charAt 34 = .ok (.iload_n 1, 1) := dk_27 (dk_at dksJ0_charAt_1 10 rfl rfl)
theorem dJ0_charAt_35 : decode cJ0_charAt 35 = .ok (.baload, 1) := dk_51 (dk_at dksJ0_charAt_1 11 rfl rfl)
theorem dJ0_charAt_36 : decode cJ0_charAt 36 = .ok (.sipush 255, 3) := dk_17 0 255 (dk_at dksJ0_charAt_1 12 rfl rfl)
theorem dJ0_charAt_39 : decode cJ0_charAt 39 = .ok (.iand, 1) := dk_126 (dk_at dksJ0_charAt_1 15 rfl rfl)
theorem dJ0_charAt_40 : decode cJ0_charAt 40 = .ok (.i2c, 1) := dk_146 (dk_at dksJ0_charAt_1 16 rfl rfl)
theorem dJ0_charAt_41 : decode cJ0_charAt 41 = .ok (.ireturn, 1) := dk_172 (dk_at dksJ0_charAt_1 17 rfl rfl)
theorem dJ0_charAt_42 : decode cJ0_charAt 42 = .ok (.aload_n 3, 1) := dk_45 (dk_at dksJ0_charAt_1 18 rfl rfl)
theorem dJ0_charAt_43 : decode cJ0_charAt 43 = .ok (.iload_n 1, 1) := dk_27 (dk_at dksJ0_charAt_1 19 rfl rfl)
theorem dJ0_charAt_44 : decode cJ0_charAt 44 = .ok (.invokestatic 148, 3) := dk_184 0 148 (dk_at dksJ0_charAt_1 20 rfl rfl)
theorem dJ0_charAt_47 : decode cJ0_charAt 47 = .ok (.ireturn, 1) := dk_172 (dk_at dksJ0_charAt_1 23 rfl rfl)
abbrev cJ0_append_4 : ByteArray := prog_20_method_25_code
def yJ0_append_4 : MethodName := ⟨RJ0, "append", "(Ljava/lang/CharSequence;)Ljava/lang/AbstractStringBuilder;"⟩
def dkwJ0_append_4_2 : List UInt8 := [185, 0, 47, 1, 0, 182, 0, 223, 176]
abbrev dktJ0_append_4_2 : List UInt8 := dkwJ0_append_4_2 ++ []
def dkwJ0_append_4_1 : List UInt8 := [176, 43, 193, 0, 10, 153, 0, 12, 42, 43, 192, 0, 10, 182, 0, 212, 176, 42, 43, 3, 43]
abbrev dktJ0_append_4_1 : List UInt8 := dkwJ0_append_4_1 ++ dktJ0_append_4_2
def dkwJ0_append_4_0 : List UInt8 := [43, 199, 0, 8, 42, 182, 0, 204, 176, 43, 193, 0, 1, 153, 0, 12, 42, 43, 192, 0, 1, 182, 0, 43]
abbrev dktJ0_append_4_0 : List UInt8 := dkwJ0_append_4_0 ++ dktJ0_append_4_1
theorem dksJ0_append_4_0 : cJ0_append_4.data.toList.drop 0 = dktJ0_append_4_0 := by decide +kernel
theorem dksJ0_append_4_1 : cJ0_append_4.data.toList.drop 24 = dktJ0_append_4_1 := dk_seg dksJ0_append_4_0 24 rfl rfl
theorem dksJ0_append_4_2 : cJ0_append_4.data.toList.drop 45 = dktJ0_append_4_2 := dk_seg dksJ0_append_4_1 21 rfl rfl
theorem dJ0_append_4_0 : decode cJ0_append_4 0 = .ok (.aload_n 1, 1) := dk_43 (dk_at dksJ0_append_4_0 0 rfl rfl)
theorem dJ0_append_4_1 : decode cJ0_append_4 1 = .ok (.ifnonnull 8, 3) := dk_199 0 8 (dk_at dksJ0_append_4_0 1 rfl rfl)
theorem dJ0_append_4_4 : decode cJ0_append_4 4 = .ok (.aload_n 0, 1) := dk_42 (dk_at dksJ0_append_4_0 4 rfl rfl)
theorem dJ0_append_4_5 : decode cJ0_append_4 5 = .ok (.invokevirtual 204, 3) := dk_182 0 204 (dk_at dksJ0_append_4_0 5 rfl rfl)
theorem dJ0_append_4_8 : decode cJ0_append_4 8 = .ok (.areturn, 1) := dk_176 (dk_at dksJ0_append_4_0 8 rfl rfl)
theorem dJ0_append_4_9 : decode cJ0_append_4 9 = .ok (.aload_n 1, 1) := dk_43 (dk_at dksJ0_append_4_0 9 rfl rfl)
theorem dJ0_append_4_10 : decode cJ0_append_4 10 = .ok (.instanceof 1, 3) := dk_193 0 1 (dk_at dksJ0_append_4_0 10 rfl rfl)
theorem dJ0_append_4_13 : decode cJ0_append_4 13 = .ok (.ifCond .eq 12, 3) := dk_153 0 12 (dk_at dksJ0_append_4_0 13 rfl rfl)
theorem dJ0_append_4_16 : decode cJ0_append_4 16 = .ok (.aload_n 0, 1) := dk_42 (dk_at dksJ0_append_4_0 16 rfl rfl)
theorem dJ0_append_4_17 : decode cJ0_append_4 17 = .ok (.aload_n 1, 1) := dk_43 (dk_at dksJ0_append_4_0 17 rfl rfl)
theorem dJ0_append_4_18 : decode cJ0_append_4 18 = .ok (.checkcast 1, 3) := dk_192 0 1 (dk_at dksJ0_append_4_0 18 rfl rfl)
theorem dJ0_append_4_21 : decode cJ0_append_4 21 = .ok (.invokevirtual 43, 3) := dk_182 0 43 (dk_at dksJ0_append_4_0 21 rfl rfl)
theorem dJ0_append_4_24 : decode cJ0_append_4 24 = .ok (.areturn, 1) := dk_176 (dk_at dksJ0_append_4_1 0 rfl rfl)
theorem dJ0_append_4_25 : decode cJ0_append_4 25 = .ok (.aload_n 1, 1) := dk_43 (dk_at dksJ0_append_4_1 1 rfl rfl)
theorem dJ0_append_4_26 : decode cJ0_append_4 26 = .ok (.instanceof 10, 3) := dk_193 0 10 (dk_at dksJ0_append_4_1 2 rfl rfl)
theorem dJ0_append_4_29 : decode cJ0_append_4 29 = .ok (.ifCond .eq 12, 3) := dk_153 0 12 (dk_at dksJ0_append_4_1 5 rfl rfl)
theorem dJ0_append_4_32 : decode cJ0_append_4 32 = .ok (.aload_n 0, 1) := dk_42 (dk_at dksJ0_append_4_1 8 rfl rfl)
theorem dJ0_append_4_33 : decode cJ0_append_4 33 = .ok (.aload_n 1, 1) := dk_43 (dk_at dksJ0_append_4_1 9 rfl rfl)
theorem dJ0_append_4_34 : decode cJ0_append_4 34 = .ok (.checkcast 10, 3) := dk_192 0 10 (dk_at dksJ0_append_4_1 10 rfl rfl)
theorem dJ0_append_4_37 : decode cJ0_append_4 37 = .ok (.invokevirtual 212, 3) := dk_182 0 212 (dk_at dksJ0_append_4_1 13 rfl rfl)
theorem dJ0_append_4_40 : decode cJ0_append_4 40 = .ok (.areturn, 1) := dk_176 (dk_at dksJ0_append_4_1 16 rfl rfl)
theorem dJ0_append_4_41 : decode cJ0_append_4 41 = .ok (.aload_n 0, 1) := dk_42 (dk_at dksJ0_append_4_1 17 rfl rfl)
theorem dJ0_append_4_42 : decode cJ0_append_4 42 = .ok (.aload_n 1, 1) := dk_43 (dk_at dksJ0_append_4_1 18 rfl rfl)
theorem dJ0_append_4_43 : decode cJ0_append_4 43 = .ok (.iconst 0, 1) := dk_3 (dk_at dksJ0_append_4_1 19 rfl rfl)
theorem dJ0_append_4_44 : decode cJ0_append_4 44 = .ok (.aload_n 1, 1) := dk_43 (dk_at dksJ0_append_4_1 20 rfl rfl)
theorem dJ0_append_4_45 : decode cJ0_append_4 45 = .ok (.invokeinterface 47 1, 5) := by decide +kernel
theorem dJ0_append_4_50 : decode cJ0_append_4 50 = .ok (.invokevirtual 223, 3) := dk_182 0 223 (dk_at dksJ0_append_4_2 5 rfl rfl)
theorem dJ0_append_4_53 : decode cJ0_append_4 53 = .ok (.areturn, 1) := dk_176 (dk_at dksJ0_append_4_2 8 rfl rfl)
abbrev cJ0_append_5 : ByteArray := prog_20_method_24_code
def yJ0_append_5 : MethodName := ⟨RJ0, "append", "(Ljava/lang/AbstractStringBuilder;)Ljava/lang/AbstractStringBuilder;"⟩
def dkwJ0_append_5_2 : List UInt8 := [180, 0, 79, 28, 96, 181, 0, 79, 42, 89, 180, 0, 73, 43, 180, 0, 73, 128, 181, 0, 73, 42, 176]
abbrev dktJ0_append_5_2 : List UInt8 := dkwJ0_append_5_2 ++ []
def dkwJ0_append_5_1 : List UInt8 := [42, 43, 182, 0, 215, 43, 42, 180, 0, 15, 42, 180, 0, 79, 42, 180, 0, 22, 182, 0, 219, 42, 89]
abbrev dktJ0_append_5_1 : List UInt8 := dkwJ0_append_5_1 ++ dktJ0_append_5_2
def dkwJ0_append_5_0 : List UInt8 := [43, 199, 0, 8, 42, 182, 0, 204, 176, 43, 182, 0, 160, 61, 42, 42, 180, 0, 79, 28, 96, 182, 0, 100]
abbrev dktJ0_append_5_0 : List UInt8 := dkwJ0_append_5_0 ++ dktJ0_append_5_1
theorem dksJ0_append_5_0 : cJ0_append_5.data.toList.drop 0 = dktJ0_append_5_0 := by decide +kernel
theorem dksJ0_append_5_1 : cJ0_append_5.data.toList.drop 24 = dktJ0_append_5_1 := dk_seg dksJ0_append_5_0 24 rfl rfl
theorem dksJ0_append_5_2 : cJ0_append_5.data.toList.drop 47 = dktJ0_append_5_2 := dk_seg dksJ0_append_5_1 23 rfl rfl
theorem dJ0_append_5_0 : decode cJ0_append_5 0 = .ok (.aload_n 1, 1) := dk_43 (dk_at dksJ0_append_5_0 0 rfl rfl)
theorem dJ0_append_5_1 : decode cJ0_append_5 1 = .ok (.ifnonnull 8, 3) := dk_199 0 8 (dk_at dksJ0_append_5_0 1 rfl rfl)
theorem dJ0_append_5_4 : decode cJ0_append_5 4 = .ok (.aload_n 0, 1) := dk_42 (dk_at dksJ0_append_5_0 4 rfl rfl)
theorem dJ0_append_5_5 : decode cJ0_append_5 5 = .ok (.invokevirtual 204, 3) := dk_182 0 204 (dk_at dksJ0_append_5_0 5 rfl rfl)
theorem dJ0_append_5_8 : decode cJ0_append_5 8 = .ok (.areturn, 1) := dk_176 (dk_at dksJ0_append_5_0 8 rfl rfl)
theorem dJ0_append_5_9 : decode cJ0_append_5 9 = .ok (.aload_n 1, 1) := dk_43 (dk_at dksJ0_append_5_0 9 rfl rfl)
theorem dJ0_append_5_10 : decode cJ0_append_5 10 = .ok (.invokevirtual 160, 3) := dk_182 0 160 (dk_at dksJ0_append_5_0 10 rfl rfl)
theorem dJ0_append_5_13 : decode cJ0_append_5 13 = .ok (.istore_n 2, 1) := dk_61 (dk_at dksJ0_append_5_0 13 rfl rfl)
theorem dJ0_append_5_14 : decode cJ0_append_5 14 = .ok (.aload_n 0, 1) := dk_42 (dk_at dksJ0_append_5_0 14 rfl rfl)
theorem dJ0_append_5_15 : decode cJ0_append_5 15 = .ok (.aload_n 0, 1) := dk_42 (dk_at dksJ0_append_5_0 15 rfl rfl)
theorem dJ0_append_5_16 : decode cJ0_append_5 16 = .ok (.getfield 79, 3) := dk_180 0 79 (dk_at dksJ0_append_5_0 16 rfl rfl)
theorem dJ0_append_5_19 : decode cJ0_append_5 19 = .ok (.iload_n 2, 1) := dk_28 (dk_at dksJ0_append_5_0 19 rfl rfl)
theorem dJ0_append_5_20 : decode cJ0_append_5 20 = .ok (.iadd, 1) := dk_96 (dk_at dksJ0_append_5_0 20 rfl rfl)
theorem dJ0_append_5_21 : decode cJ0_append_5 21 = .ok (.invokevirtual 100, 3) := dk_182 0 100 (dk_at dksJ0_append_5_0 21 rfl rfl)
theorem dJ0_append_5_24 : decode cJ0_append_5 24 = .ok (.aload_n 0, 1) := dk_42 (dk_at dksJ0_append_5_1 0 rfl rfl)
theorem dJ0_append_5_25 : decode cJ0_append_5 25 = .ok (.aload_n 1, 1) := dk_43 (dk_at dksJ0_append_5_1 1 rfl rfl)
theorem dJ0_append_5_26 : decode cJ0_append_5 26 = .ok (.invokevirtual 215, 3) := dk_182 0 215 (dk_at dksJ0_append_5_1 2 rfl rfl)
theorem dJ0_append_5_29 : decode cJ0_append_5 29 = .ok (.aload_n 1, 1) := dk_43 (dk_at dksJ0_append_5_1 5 rfl rfl)
theorem dJ0_append_5_30 : decode cJ0_append_5 30 = .ok (.aload_n 0, 1) := dk_42 (dk_at dksJ0_append_5_1 6 rfl rfl)
theorem dJ0_append_5_31 : decode cJ0_append_5 31 = .ok (.getfield 15, 3) := dk_180 0 15 (dk_at dksJ0_append_5_1 7 rfl rfl)
theorem dJ0_append_5_34 : decode cJ0_append_5 34 = .ok (.aload_n 0, 1) := dk_42 (dk_at dksJ0_append_5_1 10 rfl rfl)
theorem dJ0_append_5_35 : decode cJ0_append_5 35 = .ok (.getfield 79, 3) := dk_180 0 79 (dk_at dksJ0_append_5_1 11 rfl rfl)
theorem dJ0_append_5_38 : decode cJ0_append_5 38 = .ok (.aload_n 0, 1) := dk_42 (dk_at dksJ0_append_5_1 14 rfl rfl)
theorem dJ0_append_5_39 : decode cJ0_append_5 39 = .ok (.getfield 22, 3) := dk_180 0 22 (dk_at dksJ0_append_5_1 15 rfl rfl)
theorem dJ0_append_5_42 : decode cJ0_append_5 42 = .ok (.invokevirtual 219, 3) := dk_182 0 219 (dk_at dksJ0_append_5_1 18 rfl rfl)
theorem dJ0_append_5_45 : decode cJ0_append_5 45 = .ok (.aload_n 0, 1) := dk_42 (dk_at dksJ0_append_5_1 21 rfl rfl)
theorem dJ0_append_5_46 : decode cJ0_append_5 46 = .ok (.dup, 1) := dk_89 (dk_at dksJ0_append_5_1 22 rfl rfl)
theorem dJ0_append_5_47 : decode cJ0_append_5 47 = .ok (.getfield 79, 3) := dk_180 0 79 (dk_at dksJ0_append_5_2 0 rfl rfl)
theorem dJ0_append_5_50 : decode cJ0_append_5 50 = .ok (.iload_n 2, 1) := dk_28 (dk_at dksJ0_append_5_2 3 rfl rfl)
theorem dJ0_append_5_51 : decode cJ0_append_5 51 = .ok (.iadd, 1) := dk_96 (dk_at dksJ0_append_5_2 4 rfl rfl)
theorem dJ0_append_5_52 : decode cJ0_append_5 52 = .ok (.putfield 79, 3) := dk_181 0 79 (dk_at dksJ0_append_5_2 5 rfl rfl)
theorem dJ0_append_5_55 : decode cJ0_append_5 55 = .ok (.aload_n 0, 1) := dk_42 (dk_at dksJ0_append_5_2 8 rfl rfl)
theorem dJ0_append_5_56 : decode cJ0_append_5 56 = .ok (.dup, 1) := dk_89 (dk_at dksJ0_append_5_2 9 rfl rfl)
theorem dJ0_append_5_57 : decode cJ0_append_5 57 = .ok (.getfield 73, 3) := dk_180 0 73 (dk_at dksJ0_append_5_2 10 rfl rfl)
theorem dJ0_append_5_60 : decode cJ0_append_5 60 = .ok (.aload_n 1, 1) := dk_43 (dk_at dksJ0_append_5_2 13 rfl rfl)
theorem dJ0_append_5_61 : decode cJ0_append_5 61 = .ok (.getfield 73, 3) := dk_180 0 73 (dk_at dksJ0_append_5_2 14 rfl rfl)
theorem dJ0_append_5_64 : decode cJ0_append_5 64 = .ok (.ior, 1) := dk_128 (dk_at dksJ0_append_5_2 17 rfl rfl)
theorem dJ0_append_5_65 : decode cJ0_append_5 65 = .ok (.putfield 73, 3) := dk_181 0 73 (dk_at dksJ0_append_5_2 18 rfl rfl)
theorem dJ0_append_5_68 : decode cJ0_append_5 68 = .ok (.aload_n 0, 1) := dk_42 (dk_at dksJ0_append_5_2 21 rfl rfl)
theorem dJ0_append_5_69 : decode cJ0_append_5 69 = .ok (.areturn, 1) := dk_176 (dk_at dksJ0_append_5_2 22 rfl rfl)
abbrev cJ0_inflateIfNeededFor_2 : ByteArray := prog_20_method_72_code
def yJ0_inflateIfNeededFor_2 : MethodName := ⟨RJ0, "inflateIfNeededFor", "(Ljava/lang/AbstractStringBuilder;)V"⟩
def dkwJ0_inflateIfNeededFor_2_0 : List UInt8 := [178, 0, 18, 153, 0, 18, 42, 180, 0, 22, 43, 182, 0, 70, 159, 0, 7, 42, 182, 0, 195, 177]
abbrev dktJ0_inflateIfNeededFor_2_0 : List UInt8 := dkwJ0_inflateIfNeededFor_2_0 ++ []
theorem dksJ0_inflateIfNeededFor_2_0 : cJ0_inflateIfNeededFor_2.data.toList.drop 0 = dktJ0_inflateIfNeededFor_2_0 := by decide +kernel
theorem dJ0_inflateIfNeededFor_2_0 : decode cJ0_inflateIfNeededFor_2 0 = .ok (.getstatic 18, 3) := dk_178 0 18 (dk_at dksJ0_inflateIfNeededFor_2_0 0 rfl rfl)
theorem dJ0_inflateIfNeededFor_2_3 : decode cJ0_inflateIfNeededFor_2 3 = .ok (.ifCond .eq 18, 3) := dk_153 0 18 (dk_at dksJ0_inflateIfNeededFor_2_0 3 rfl rfl)
theorem dJ0_inflateIfNeededFor_2_6 : decode cJ0_inflateIfNeededFor_2 6 = .ok (.aload_n 0, 1) := dk_42 (dk_at dksJ0_inflateIfNeededFor_2_0 6 rfl rfl)
theorem dJ0_inflateIfNeededFor_2_7 : decode cJ0_inflateIfNeededFor_2 7 = .ok (.getfield 22, 3) := dk_180 0 22 (dk_at dksJ0_inflateIfNeededFor_2_0 7 rfl rfl)
theorem dJ0_inflateIfNeededFor_2_10 : decode cJ0_inflateIfNeededFor_2 10 = .ok (.aload_n 1, 1) := dk_43 (dk_at dksJ0_inflateIfNeededFor_2_0 10 rfl rfl)
theorem dJ0_inflateIfNeededFor_2_11 : decode cJ0_inflateIfNeededFor_2 11 = .ok (.invokevirtual 70, 3) := dk_182 0 70 (dk_at dksJ0_inflateIfNeededFor_2_0 11 rfl rfl)
theorem dJ0_inflateIfNeededFor_2_14 : decode cJ0_inflateIfNeededFor_2 14 = .ok (.if_icmp .eq 7, 3) := dk_159 0 7 (dk_at dksJ0_inflateIfNeededFor_2_0 14 rfl rfl)
theorem dJ0_inflateIfNeededFor_2_17 : decode cJ0_inflateIfNeededFor_2 17 = .ok (.aload_n 0, 1) := dk_42 (dk_at dksJ0_inflateIfNeededFor_2_0 17 rfl rfl)
theorem dJ0_inflateIfNeededFor_2_18 : decode cJ0_inflateIfNeededFor_2 18 = .ok (.invokevirtual 195, 3) := dk_182 0 195 (dk_at dksJ0_inflateIfNeededFor_2_0 18 rfl rfl)
theorem dJ0_inflateIfNeededFor_2_21 : decode cJ0_inflateIfNeededFor_2 21 = .ok (.return_, 1) := dk_177 (dk_at dksJ0_inflateIfNeededFor_2_0 21 rfl rfl)
abbrev cJ0_getCoder : ByteArray := prog_20_method_67_code
def yJ0_getCoder : MethodName := ⟨RJ0, "getCoder", "()B"⟩
def dkwJ0_getCoder_0 : List UInt8 := [178, 0, 18, 153, 0, 10, 42, 180, 0, 22, 167, 0, 4, 4, 172]
abbrev dktJ0_getCoder_0 : List UInt8 := dkwJ0_getCoder_0 ++ []
theorem dksJ0_getCoder_0 : cJ0_getCoder.data.toList.drop 0 = dktJ0_getCoder_0 := by decide +kernel
theorem dJ0_getCoder_0 : decode cJ0_getCoder 0 = .ok (.getstatic 18, 3) := dk_178 0 18 (dk_at dksJ0_getCoder_0 0 rfl rfl)
theorem dJ0_getCoder_3 : decode cJ0_getCoder 3 = .ok (.ifCond .eq 10, 3) := dk_153 0 10 (dk_at dksJ0_getCoder_0 3 rfl rfl)
theorem dJ0_getCoder_6 : decode cJ0_getCoder 6 = .ok (.aload_n 0, 1) := dk_42 (dk_at dksJ0_getCoder_0 6 rfl rfl)
theorem dJ0_getCoder_7 : decode cJ0_getCoder 7 = .ok (.getfield 22, 3) := dk_180 0 22 (dk_at dksJ0_getCoder_0 7 rfl rfl)
theorem dJ0_getCoder_10 : decode cJ0_getCoder 10 = .ok (.goto 4, 3) := dk_167 0 4 (dk_at dksJ0_getCoder_0 10 rfl rfl)
theorem dJ0_getCoder_13 : decode cJ0_getCoder 13 = .ok (.iconst 1, 1) := dk_4 (dk_at dksJ0_getCoder_0 13 rfl rfl)
theorem dJ0_getCoder_14 : decode cJ0_getCoder 14 = .ok (.ireturn, 1) := dk_172 (dk_at dksJ0_getCoder_0 14 rfl rfl)
abbrev cJ0_getBytes : ByteArray := prog_20_method_65_code
def yJ0_getBytes : MethodName := ⟨RJ0, "getBytes", "([BIB)V"⟩
def dkwJ0_getBytes_1 : List UInt8 := [184, 1, 53, 167, 0, 17, 42, 180, 0, 15, 3, 43, 28, 42, 180, 0, 79, 184, 0, 125, 177]
abbrev dktJ0_getBytes_1 : List UInt8 := dkwJ0_getBytes_1 ++ []
def dkwJ0_getBytes_0 : List UInt8 := [42, 180, 0, 22, 29, 160, 0, 24, 42, 180, 0, 15, 3, 43, 28, 29, 120, 42, 180, 0, 79, 29, 120]
abbrev dktJ0_getBytes_0 : List UInt8 := dkwJ0_getBytes_0 ++ dktJ0_getBytes_1
theorem dksJ0_getBytes_0 : cJ0_getBytes.data.toList.drop 0 = dktJ0_getBytes_0 := by decide +kernel
theorem dksJ0_getBytes_1 : cJ0_getBytes.data.toList.drop 23 = dktJ0_getBytes_1 := dk_seg dksJ0_getBytes_0 23 rfl rfl
theorem dJ0_getBytes_0 : decode cJ0_getBytes 0 = .ok (.aload_n 0, 1) := dk_42 (dk_at dksJ0_getBytes_0 0 rfl rfl)
theorem dJ0_getBytes_1 : decode cJ0_getBytes 1 = .ok (.getfield 22, 3) := dk_180 0 22 (dk_at dksJ0_getBytes_0 1 rfl rfl)
theorem dJ0_getBytes_4 : decode cJ0_getBytes 4 = .ok (.iload_n 3, 1) := dk_29 (dk_at dksJ0_getBytes_0 4 rfl rfl)
theorem dJ0_getBytes_5 : decode cJ0_getBytes 5 = .ok (.if_icmp .ne 24, 3) := dk_160 0 24 (dk_at dksJ0_getBytes_0 5 rfl rfl)
theorem dJ0_getBytes_8 : decode cJ0_getBytes 8 = .ok (.aload_n 0, 1) := dk_42 (dk_at dksJ0_getBytes_0 8 rfl rfl)
theorem dJ0_getBytes_9 : decode cJ0_getBytes 9 = .ok (.getfield 15, 3) := dk_180 0 15 (dk_at dksJ0_getBytes_0 9 rfl rfl)
theorem dJ0_getBytes_12 : decode cJ0_getBytes 12 = .ok (.iconst 0, 1) := dk_3 (dk_at dksJ0_getBytes_0 12 rfl rfl)
theorem dJ0_getBytes_13 : decode cJ0_getBytes 13 = .ok (.aload_n 1, 1) := dk_43 (dk_at dksJ0_getBytes_0 13 rfl rfl)
theorem dJ0_getBytes_14 : decode cJ0_getBytes 14 = .ok (.iload_n 2, 1) := dk_28 (dk_at dksJ0_getBytes_0 14 rfl rfl)
theorem dJ0_getBytes_15 : decode cJ0_getBytes 15 = .ok (.iload_n 3, 1) := dk_29 (dk_at dksJ0_getBytes_0 15 rfl rfl)
theorem dJ0_getBytes_16 : decode cJ0_getBytes 16 = .ok (.ishl, 1) := dk_120 (dk_at dksJ0_getBytes_0 16 rfl rfl)
theorem dJ0_getBytes_17 : decode cJ0_getBytes 17 = .ok (.aload_n 0, 1) := dk_42 (dk_at dksJ0_getBytes_0 17 rfl rfl)
theorem dJ0_getBytes_18 : decode cJ0_getBytes 18 = .ok (.getfield 79, 3) := dk_180 0 79 (dk_at dksJ0_getBytes_0 18 rfl rfl)
theorem dJ0_getBytes_21 : decode cJ0_getBytes 21 = .ok (.iload_n 3, 1) := dk_29 (dk_at dksJ0_getBytes_0 21 rfl rfl)
theorem dJ0_getBytes_22 : decode cJ0_getBytes 22 = .ok (.ishl, 1) := dk_120 (dk_at dksJ0_getBytes_0 22 rfl rfl)
theorem dJ0_getBytes_23 : decode cJ0_getBytes 23 = .ok (.invokestatic 309, 3) := dk_184 1 53 (dk_at dksJ0_getBytes_1 0 rfl rfl)
theorem dJ0_getBytes_26 : decode cJ0_getBytes 26 = .ok (.goto 17, 3) := dk_167 0 17 (dk_at dksJ0_getBytes_1 3 rfl rfl)
theorem dJ0_getBytes_29 : decode cJ0_getBytes 29 = .ok (.aload_n 0, 1) := dk_42 (dk_at dksJ0_getBytes_1 6 rfl rfl)
theorem dJ0_getBytes_30 : decode cJ0_getBytes 30 = .ok (.getfield 15, 3) := dk_180 0 15 (dk_at dksJ0_getBytes_1 7 rfl rfl)
theorem dJ0_getBytes_33 : decode cJ0_getBytes 33 = .ok (.iconst 0, 1) := dk_3 (dk_at dksJ0_getBytes_1 10 rfl rfl)
theorem dJ0_getBytes_34 : decode cJ0_getBytes 34 = .ok (.aload_n 1, 1) := dk_43 (dk_at dksJ0_getBytes_1 11 rfl rfl)
theorem dJ0_getBytes_35 : decode cJ0_getBytes 35 = .ok (.iload_n 2, 1) := dk_28 (dk_at dksJ0_getBytes_1 12 rfl rfl)
theorem dJ0_getBytes_36 : decode cJ0_getBytes 36 = .ok (.aload_n 0, 1) := dk_42 (dk_at dksJ0_getBytes_1 13 rfl rfl)
theorem dJ0_getBytes_37 : decode cJ0_getBytes 37 = .ok (.getfield 79, 3) := dk_180 0 79 (dk_at dksJ0_getBytes_1 14 rfl rfl)
theorem dJ0_getBytes_40 : decode cJ0_getBytes 40 = .ok (.invokestatic 125, 3) := dk_184 0 125 (dk_at dksJ0_getBytes_1 17 rfl rfl)
theorem dJ0_getBytes_43 : decode cJ0_getBytes 43 = .ok (.return_, 1) := dk_177 (dk_at dksJ0_getBytes_1 20 rfl rfl)
abbrev cJ0_append_6 : ByteArray := prog_20_method_27_code
def yJ0_append_6 : MethodName := ⟨RJ0, "append", "(Ljava/lang/CharSequence;II)Ljava/lang/AbstractStringBuilder;"⟩
def dkwJ0_append_6_2 : List UInt8 := [192, 0, 1, 28, 29, 182, 0, 232, 167, 0, 10, 42, 43, 28, 29, 182, 0, 236, 42, 176]
abbrev dktJ0_append_6_2 : List UInt8 := dkwJ0_append_6_2 ++ []
def dkwJ0_append_6_1 : List UInt8 := [100, 54, 4, 42, 42, 180, 0, 79, 21, 4, 96, 182, 0, 100, 43, 193, 0, 1, 153, 0, 16, 42, 43]
abbrev dktJ0_append_6_1 : List UInt8 := dkwJ0_append_6_1 ++ dktJ0_append_6_2
def dkwJ0_append_6_0 : List UInt8 := [43, 199, 0, 6, 18, 230, 76, 28, 29, 43, 185, 0, 47, 1, 0, 178, 0, 183, 184, 0, 161, 87, 29, 28]
abbrev dktJ0_append_6_0 : List UInt8 := dkwJ0_append_6_0 ++ dktJ0_append_6_1
theorem dksJ0_append_6_0 : cJ0_append_6.data.toList.drop 0 = dktJ0_append_6_0 := by decide +kernel
theorem dksJ0_append_6_1 : cJ0_append_6.data.toList.drop 24 = dktJ0_append_6_1 := dk_seg dksJ0_append_6_0 24 rfl rfl
theorem dksJ0_append_6_2 : cJ0_append_6.data.toList.drop 47 = dktJ0_append_6_2 := dk_seg dksJ0_append_6_1 23 rfl rfl
theorem dJ0_append_6_0 : decode cJ0_append_6 0 = .ok (.aload_n 1, 1) := dk_43 (dk_at dksJ0_append_6_0 0 rfl rfl)
theorem dJ0_append_6_1 : decode cJ0_append_6 1 = .ok (.ifnonnull 6, 3) := dk_199 0 6 (dk_at dksJ0_append_6_0 1 rfl rfl)
theorem dJ0_append_6_4 : decode cJ0_append_6 4 = .ok (.ldc 230, 2) := dk_18 230 (dk_at dksJ0_append_6_0 4 rfl rfl)
theorem dJ0_append_6_6 : decode cJ0_append_6 6 = .ok (.astore_n 1, 1) := dk_76 (dk_at dksJ0_append_6_0 6 rfl rfl)
theorem dJ0_append_6_7 : decode cJ0_append_6 7 = .ok (.iload_n 2, 1) := dk_28 (dk_at dksJ0_append_6_0 7 rfl rfl)
theorem dJ0_append_6_8 : decode cJ0_append_6 8 = .ok (.iload_n 3, 1) := dk_29 (dk_at dksJ0_append_6_0 8 rfl rfl)
theorem dJ0_append_6_9 : decode cJ0_append_6 9 = .ok (.aload_n 1, 1) := dk_43 (dk_at dksJ0_append_6_0 9 rfl rfl)
theorem dJ0_append_6_10 : decode cJ0_append_6 10 = .ok (.invokeinterface 47 1, 5) := by decide +kernel
theorem dJ0_append_6_15 : decode cJ0_append_6 15 = .ok (.getstatic 183, 3) := dk_178 0 183 (dk_at dksJ0_append_6_0 15 rfl rfl)
theorem dJ0_append_6_18 : decode cJ0_append_6 18 = .ok (.invokestatic 161, 3) := dk_184 0 161 (dk_at dksJ0_append_6_0 18 rfl rfl)
theorem dJ0_append_6_21 : decode cJ0_append_6 21 = .ok (.pop, 1) := dk_87 (dk_at dksJ0_append_6_0 21 rfl rfl)
theorem dJ0_append_6_22 : decode cJ0_append_6 22 = .ok (.iload_n 3, 1) := dk_29 (dk_at dksJ0_append_6_0 22 rfl rfl)
theorem dJ0_append_6_23 : decode cJ0_append_6 23 = .ok (.iload_n 2, 1) := dk_28 (dk_at dksJ0_append_6_0 23 rfl rfl)
theorem dJ0_append_6_24 : decode cJ0_append_6 24 = .ok (.isub, 1) := dk_100 (dk_at dksJ0_append_6_1 0 rfl rfl)
theorem dJ0_append_6_25 : decode cJ0_append_6 25 = .ok (.istore 4, 2) := dk_54 4 (dk_at dksJ0_append_6_1 1 rfl rfl)
theorem dJ0_append_6_27 : decode cJ0_append_6 27 = .ok (.aload_n 0, 1) := dk_42 (dk_at dksJ0_append_6_1 3 rfl rfl)
theorem dJ0_append_6_28 : decode cJ0_append_6 28 = .ok (.aload_n 0, 1) := dk_42 (dk_at dksJ0_append_6_1 4 rfl rfl)
theorem dJ0_append_6_29 : decode cJ0_append_6 29 = .ok (.getfield 79, 3) := dk_180 0 79 (dk_at dksJ0_append_6_1 5 rfl rfl)
theorem dJ0_append_6_32 : decode cJ0_append_6 32 = .ok (.iload 4, 2) := dk_21 4 (dk_at dksJ0_append_6_1 8 rfl rfl)
theorem dJ0_append_6_34 : decode cJ0_append_6 34 = .ok (.iadd, 1) := dk_96 (dk_at dksJ0_append_6_1 10 rfl rfl)
theorem dJ0_append_6_35 : decode cJ0_append_6 35 = .ok (.invokevirtual 100, 3) := dk_182 0 100 (dk_at dksJ0_append_6_1 11 rfl rfl)
theorem dJ0_append_6_38 : decode cJ0_append_6 38 = .ok (.aload_n 1, 1) := dk_43 (dk_at dksJ0_append_6_1 14 rfl rfl)
theorem dJ0_append_6_39 : decode cJ0_append_6 39 = .ok (.instanceof 1, 3) := dk_193 0 1 (dk_at dksJ0_append_6_1 15 rfl rfl)
theorem dJ0_append_6_42 : decode cJ0_append_6 42 = .ok (.ifCond .eq 16, 3) := dk_153 0 16 (dk_at dksJ0_append_6_1 18 rfl rfl)
theorem dJ0_append_6_45 : decode cJ0_append_6 45 = .ok (.aload_n 0, 1) := dk_42 (dk_at dksJ0_append_6_1 21 rfl rfl)
theorem dJ0_append_6_46 : decode cJ0_append_6 46 = .ok (.aload_n 1, 1) := dk_43 (dk_at dksJ0_append_6_1 22 rfl rfl)
theorem dJ0_append_6_47 : decode cJ0_append_6 47 = .ok (.checkcast 1, 3) := dk_192 0 1 (dk_at dksJ0_append_6_2 0 rfl rfl)
theorem dJ0_append_6_50 : decode cJ0_append_6 50 = .ok (.iload_n 2, 1) := dk_28 (dk_at dksJ0_append_6_2 3 rfl rfl)
theorem dJ0_append_6_51 : decode cJ0_append_6 51 = .ok (.iload_n 3, 1) := dk_29 (dk_at dksJ0_append_6_2 4 rfl rfl)
theorem dJ0_append_6_52 : decode cJ0_append_6 52 = .ok (.invokevirtual 232, 3) := dk_182 0 232 (dk_at dksJ0_append_6_2 5 rfl rfl)
theorem dJ0_append_6_55 : decode cJ0_append_6 55 = .ok (.goto 10, 3) := dk_167 0 10 (dk_at dksJ0_append_6_2 8 rfl rfl)
theorem dJ0_append_6_58 : decode cJ0_append_6 58 = .ok (.aload_n 0, 1) := dk_42 (dk_at dksJ0_append_6_2 11 rfl rfl)
theorem dJ0_append_6_59 : decode cJ0_append_6 59 = .ok (.aload_n 1, 1) := dk_43 (dk_at dksJ0_append_6_2 12 rfl rfl)
theorem dJ0_append_6_60 : decode cJ0_append_6 60 = .ok (.iload_n 2, 1) := dk_28 (dk_at dksJ0_append_6_2 13 rfl rfl)
theorem dJ0_append_6_61 : decode cJ0_append_6 61 = .ok (.iload_n 3, 1) := dk_29 (dk_at dksJ0_append_6_2 14 rfl rfl)
theorem dJ0_append_6_62 : decode cJ0_append_6 62 = .ok (.invokevirtual 236, 3) := dk_182 0 236 (dk_at dksJ0_append_6_2 15 rfl rfl)
theorem dJ0_append_6_65 : decode cJ0_append_6 65 = .ok (.aload_n 0, 1) := dk_42 (dk_at dksJ0_append_6_2 18 rfl rfl)
theorem dJ0_append_6_66 : decode cJ0_append_6 66 = .ok (.areturn, 1) := dk_176 (dk_at dksJ0_append_6_2 19 rfl rfl)
abbrev cJ0_appendChars : ByteArray := prog_20_method_75_code
def yJ0_appendChars : MethodName := ⟨RJ0, "appendChars", "(Ljava/lang/String;II)V"⟩
def dkwJ0_appendChars_8 : List UInt8 := [120, 184, 1, 53, 42, 89, 180, 0, 79, 29, 28, 100, 96, 181, 0, 79, 177]
abbrev dktJ0_appendChars_8 : List UInt8 := dkwJ0_appendChars_8 ++ []
def dkwJ0_appendChars_7 : List UInt8 := [167, 0, 28, 43, 182, 1, 145, 28, 4, 120, 42, 180, 0, 15, 42, 180, 0, 79, 4, 120, 29, 28, 100, 4]
abbrev dktJ0_appendChars_7 : List UInt8 := dkwJ0_appendChars_7 ++ dktJ0_appendChars_8
def dkwJ0_appendChars_6 : List UInt8 := [167, 0, 52, 43, 182, 1, 144, 153, 0, 20, 42, 180, 0, 15, 42, 180, 0, 79, 43, 28, 29, 184, 1, 138]
abbrev dktJ0_appendChars_6 : List UInt8 := dkwJ0_appendChars_6 ++ dktJ0_appendChars_7
def dkwJ0_appendChars_5 : List UInt8 := [120, 184, 1, 53, 42, 89, 180, 0, 79, 29, 21, 5, 100, 96, 181, 0, 79, 177, 132, 5, 1, 167, 255, 168]
abbrev dktJ0_appendChars_5 : List UInt8 := dkwJ0_appendChars_5 ++ dktJ0_appendChars_6
def dkwJ0_appendChars_4 : List UInt8 := [182, 0, 195, 43, 182, 1, 145, 21, 5, 4, 120, 42, 180, 0, 15, 21, 6, 4, 120, 29, 21, 5, 100, 4]
abbrev dktJ0_appendChars_4 : List UInt8 := dkwJ0_appendChars_4 ++ dktJ0_appendChars_5
def dkwJ0_appendChars_3 : List UInt8 := [153, 0, 17, 25, 4, 21, 6, 132, 6, 1, 21, 7, 145, 84, 167, 0, 52, 42, 21, 6, 181, 0, 79, 42]
abbrev dktJ0_appendChars_3 : List UInt8 := dkwJ0_appendChars_3 ++ dktJ0_appendChars_4
def dkwJ0_appendChars_2 : List UInt8 := [180, 0, 79, 54, 6, 21, 5, 29, 162, 0, 88, 43, 21, 5, 182, 1, 148, 54, 7, 21, 7, 184, 0, 191]
abbrev dktJ0_appendChars_2 : List UInt8 := dkwJ0_appendChars_2 ++ dktJ0_appendChars_3
def dkwJ0_appendChars_1 : List UInt8 := [180, 0, 79, 29, 28, 100, 184, 1, 53, 167, 0, 161, 42, 180, 0, 15, 58, 4, 28, 54, 5, 42]
abbrev dktJ0_appendChars_1 : List UInt8 := dkwJ0_appendChars_1 ++ dktJ0_appendChars_2
def dkwJ0_appendChars_0 : List UInt8 := [42, 182, 0, 83, 153, 0, 141, 43, 182, 1, 144, 153, 0, 25, 43, 182, 1, 145, 28, 42, 180, 0, 15, 42]
abbrev dktJ0_appendChars_0 : List UInt8 := dkwJ0_appendChars_0 ++ dktJ0_appendChars_1
theorem dksJ0_appendChars_0 : cJ0_appendChars.data.toList.drop 0 = dktJ0_appendChars_0 := by decide +kernel
theorem dksJ0_appendChars_1 : cJ0_appendChars.data.toList.drop 24 = dktJ0_appendChars_1 := dk_seg dksJ0_appendChars_0 24 rfl rfl
theorem dksJ0_appendChars_2 : cJ0_appendChars.data.toList.drop 46 = dktJ0_appendChars_2 := dk_seg dksJ0_appendChars_1 22 rfl rfl
theorem dksJ0_appendChars_3 : cJ0_appendChars.data.toList.drop 70 = dktJ0_appendChars_3 := dk_seg dksJ0_appendChars_2 24 rfl rfl
theorem dksJ0_appendChars_4 : cJ0_appendChars.data.toList.drop 94 = dktJ0_appendChars_4 := dk_seg dksJ0_appendChars_3 24 rfl rfl
theorem dksJ0_appendChars_5 : cJ0_appendChars.data.toList.drop 118 = dktJ0_appendChars_5 := dk_seg dksJ0_appendChars_4 24 rfl rfl
theorem dksJ0_appendChars_6 : cJ0_appendChars.data.toList.drop 142 = dktJ0_appendChars_6 := dk_seg dksJ0_appendChars_5 24 rfl rfl
theorem dksJ0_appendChars_7 : cJ0_appendChars.data.toList.drop 166 = dktJ0_appendChars_7 := dk_seg dksJ0_appendChars_6 24 rfl rfl
theorem dksJ0_appendChars_8 : cJ0_appendChars.data.toList.drop 190 = dktJ0_appendChars_8 := dk_seg dksJ0_appendChars_7 24 rfl rfl
theorem dJ0_appendChars_0 : decode cJ0_appendChars 0 = .ok (.aload_n 0, 1) := dk_42 (dk_at dksJ0_appendChars_0 0 rfl rfl)
theorem dJ0_appendChars_1 : decode cJ0_appendChars 1 = .ok (.invokevirtual 83, 3) := dk_182 0 83 (dk_at dksJ0_appendChars_0 1 rfl rfl)
theorem dJ0_appendChars_4 : decode cJ0_appendChars 4 = .ok (.ifCond .eq 141, 3) := dk_153 0 141 (dk_at dksJ0_appendChars_0 4 rfl rfl)
theorem dJ0_appendChars_7 : decode cJ0_appendChars 7 = .ok (.aload_n 1, 1) := dk_43 (dk_at dksJ0_appendChars_0 7 rfl rfl)
theorem dJ0_appendChars_8 : decode cJ0_appendChars 8 = .ok (.invokevirtual 400, 3) := dk_182 1 144 (dk_at dksJ0_appendChars_0 8 rfl rfl)
theorem dJ0_appendChars_11 : decode cJ0_appendChars 11 = .ok (.ifCond .eq 25, 3) := dk_153 0 25 (dk_at dksJ0_appendChars_0 11 rfl rfl)
theorem dJ0_appendChars_14 : decode cJ0_appendChars 14 = .ok (.aload_n 1, 1) := dk_43 (dk_at dksJ0_appendChars_0 14 rfl rfl)
theorem dJ0_appendChars_15 : decode cJ0_appendChars 15 = .ok (.invokevirtual 401, 3) := dk_182 1 145 (dk_at dksJ0_appendChars_0 15 rfl rfl)
theorem dJ0_appendChars_18 : decode cJ0_appendChars 18 = .ok (.iload_n 2, 1) := dk_28 (dk_at dksJ0_appendChars_0 18 rfl rfl)
theorem dJ0_appendChars_19 : decode cJ0_appendChars 19 = .ok (.aload_n 0, 1) := dk_42 (dk_at dksJ0_appendChars_0 19 rfl rfl)
theorem dJ0_appendChars_20 : decode cJ0_appendChars 20 = .ok (.getfield 15, 3) := dk_180 0 15 (dk_at dksJ0_appendChars_0 20 rfl rfl)
theorem dJ0_appendChars_23 : decode cJ0_appendChars 23 = .ok (.aload_n 0, 1) := dk_42 (dk_at dksJ0_appendChars_0 23 rfl rfl)
theorem dJ0_appendChars_24 : decode cJ0_appendChars 24 = .ok (.getfield 79, 3) := dk_180 0 79 (dk_at dksJ0_appendChars_1 0 rfl rfl)
theorem dJ0_appendChars_27 : decode cJ0_appendChars 27 = .ok (.iload_n 3, 1) := dk_29 (dk_at dksJ0_appendChars_1 3 rfl rfl)
theorem dJ0_appendChars_28 : decode cJ0_appendChars 28 = .ok (.iload_n 2, 1) := dk_28 (dk_at dksJ0_appendChars_1 4 rfl rfl)
theorem dJ0_appendChars_29 : decode cJ0_appendChars 29 = .ok (.isub, 1) := dk_100 (dk_at dksJ0_appendChars_1 5 rfl rfl)
theorem dJ0_appendChars_30 : decode cJ0_appendChars 30 = .ok (.invokestatic 309, 3) := dk_184 1 53 (dk_at dksJ0_appendChars_1 6 rfl rfl)
theorem dJ0_appendChars_33 : decode cJ0_appendChars 33 = .ok (.goto 161, 3) := dk_167 0 161 (dk_at dksJ0_appendChars_1 9 rfl rfl)
theorem dJ0_appendChars_36 : decode cJ0_appendChars 36 = .ok (.aload_n 0, 1) := dk_42 (dk_at dksJ0_appendChars_1 12 rfl rfl)
theorem dJ0_appendChars_37 : decode cJ0_appendChars 37 = .ok (.getfield 15, 3) := dk_180 0 15 (dk_at dksJ0_appendChars_1 13 rfl rfl)
theorem dJ0_appendChars_40 : decode cJ0_appendChars 40 = .ok (.astore 4, 2) := dk_58 4 (dk_at dksJ0_appendChars_1 16 rfl rfl)
theorem dJ0_appendChars_42 : decode cJ0_appendChars 42 = .ok (.iload_n 2, 1) := dk_28 (dk_at dksJ0_appendChars_1 18 rfl rfl)
theorem dJ0_appendChars_43 : decode cJ0_appendChars 43 = .ok (.istore 5, 2) := dk_54 5 (dk_at dksJ0_appendChars_1 19 rfl rfl)
theorem dJ0_appendChars_45 : decode cJ0_appendChars 45 = .ok (.aload_n 0, 1) := dk_42 (dk_at dksJ0_appendChars_1 21 rfl rfl)
theorem dJ0_appendChars_46 : decode cJ0_appendChars 46 = .ok (.getfield 79, 3) := dk_180 0 79 (dk_at dksJ0_appendChars_2 0 rfl rfl)
theorem dJ0_appendChars_49 : decode cJ0_appendChars 49 = .ok (.istore 6, 2) := dk_54 6 (dk_at dksJ0_appendChars_2 3 rfl rfl)
theorem dJ0_appendChars_51 : decode cJ0_appendChars 51 = .ok (.iload 5, 2) := dk_21 5 (dk_at dksJ0_appendChars_2 5 rfl rfl)
theorem dJ0_appendChars_53 : decode cJ0_appendChars 53 = .ok (.iload_n 3, 1) := dk_29 (dk_at dksJ0_appendChars_2 7 rfl rfl)
theorem dJ0_appendChars_54 : decode cJ0_appendChars 54 = .ok (.if_icmp .ge 88, 3) := dk_162 0 88 (dk_at dksJ0_appendChars_2 8 rfl rfl)
theorem dJ0_appendChars_57 : decode cJ0_appendChars 57 = .ok (.aload_n 1, 1) := dk_43 (dk_at dksJ0_appendChars_2 11 rfl rfl)
theorem dJ0_appendChars_58 : decode cJ0_appendChars 58 = .ok (.iload 5, 2) := dk_21 5 (dk_at dksJ0_appendChars_2 12 rfl rfl)
theorem dJ0_appendChars_60 : decode cJ0_appendChars 60 = .ok (.invokevirtual 404, 3) := dk_182 1 148 (dk_at dksJ0_appendChars_2 14 rfl rfl)
theorem dJ0_appendChars_63 : decode cJ0_appendChars 63 = .ok (.istore 7, 2) := dk_54 7 (dk_at dksJ0_appendChars_2 17 rfl rfl)
theorem dJ0_appendChars_65 : decode cJ0_appendChars 65 = .ok (.iload 7, 2) := dk_21 7 (dk_at dksJ0_appendChars_2 19 rfl rfl)
theorem dJ0_appendChars_67 : decode cJ0_appendChars 67 = .ok (.invokestatic 191, 3) := dk_184 0 191 (dk_at dksJ0_appendChars_2 21 rfl rfl)
theorem dJ0_appendChars_70 : decode cJ0_appendChars 70 = .ok (.ifCond .eq 17, 3) := dk_153 0 17 (dk_at dksJ0_appendChars_3 0 rfl rfl)
theorem dJ0_appendChars_73 : decode cJ0_appendChars 73 = .ok (.aload 4, 2) := dk_25 4 (dk_at dksJ0_appendChars_3 3 rfl rfl)
theorem dJ0_appendChars_75 : decode cJ0_appendChars 75 = .ok (.iload 6, 2) := dk_21 6 (dk_at dksJ0_appendChars_3 5 rfl rfl)
theorem dJ0_appendChars_77 : decode cJ0_appendChars 77 = .ok (.iinc 6 1, 3) := dk_132 6 1 (dk_at dksJ0_appendChars_3 7 rfl rfl)
theorem dJ0_appendChars_80 : decode cJ0_appendChars 80 = .ok (.iload 7, 2) := dk_21 7 (dk_at dksJ0_appendChars_3 10 rfl rfl)
theorem dJ0_appendChars_82 : decode cJ0_appendChars 82 = .ok (.i2b, 1) := dk_145 (dk_at dksJ0_appendChars_3 12 rfl rfl)
theorem dJ0_appendChars_83 : decode cJ0_appendChars 83 = .ok (.bastore, 1) := dk_84 (dk_at dksJ0_appendChars_3 13 rfl rfl)
theorem dJ0_appendChars_84 : decode cJ0_appendChars 84 = .ok (.goto 52, 3) := dk_167 0 52 (dk_at dksJ0_appendChars_3 14 rfl rfl)
theorem dJ0_appendChars_87 : decode cJ0_appendChars 87 = .ok (.aload_n 0, 1) := dk_42 (dk_at dksJ0_appendChars_3 17 rfl rfl)
theorem dJ0_appendChars_88 : decode cJ0_appendChars 88 = .ok (.iload 6, 2) := dk_21 6 (dk_at dksJ0_appendChars_3 18 rfl rfl)
theorem dJ0_appendChars_90 : decode cJ0_appendChars 90 = .ok (.putfield 79, 3) := dk_181 0 79 (dk_at dksJ0_appendChars_3 20 rfl rfl)
theorem dJ0_appendChars_93 : decode cJ0_appendChars 93 = .ok (.aload_n 0, 1) := dk_42 (dk_at dksJ0_appendChars_3 23 rfl rfl)
theorem dJ0_appendChars_94 : decode cJ0_appendChars 94 = .ok (.invokevirtual 195, 3) := dk_182 0 195 (dk_at dksJ0_appendChars_4 0 rfl rfl)
theorem dJ0_appendChars_97 : decode cJ0_appendChars 97 = .ok (.aload_n 1, 1) := dk_43 (dk_at dksJ0_appendChars_4 3 rfl rfl)
theorem dJ0_appendChars_98 : decode cJ0_appendChars 98 = .ok (.invokevirtual 401, 3) := dk_182 1 145 (dk_at dksJ0_appendChars_4 4 rfl rfl)
theorem dJ0_appendChars_101 : decode cJ0_appendChars 101 = .ok (.iload 5, 2) := dk_21 5 (dk_at dksJ0_appendChars_4 7 rfl rfl)
theorem dJ0_appendChars_103 : decode cJ0_appendChars 103 = .ok (.iconst 1, 1) := dk_4 (dk_at dksJ0_appendChars_4 9 rfl rfl)
theorem dJ0_appendChars_104 : decode cJ0_appendChars 104 = .ok (.ishl, 1) := dk_120 (dk_at dksJ0_appendChars_4 10 rfl rfl)
theorem dJ0_appendChars_105 : decode cJ0_appendChars 105 = .ok (.aload_n 0, 1) := dk_42 (dk_at dksJ0_appendChars_4 11 rfl rfl)
theorem dJ0_appendChars_106 : decode cJ0_appendChars 106 = .ok (.getfield 15, 3) := dk_180 0 15 (dk_at dksJ0_appendChars_4 12 rfl rfl)
theorem dJ0_appendChars_109 : decode cJ0_appendChars 109 = .ok (.iload 6, 2) := dk_21 6 (dk_at dksJ0_appendChars_4 15 rfl rfl)
theorem dJ0_appendChars_111 : decode cJ0_appendChars 111 = .ok (.iconst 1, 1) := dk_4 (dk_at dksJ0_appendChars_4 17 rfl rfl)
theorem dJ0_appendChars_112 : decode cJ0_appendChars 112 = .ok (.ishl, 1) := dk_120 (dk_at dksJ0_appendChars_4 18 rfl rfl)
theorem dJ0_appendChars_113 : decode cJ0_appendChars 113 = .ok (.iload_n 3, 1) := dk_29 (dk_at dksJ0_appendChars_4 19 rfl rfl)
theorem dJ0_appendChars_114 : decode cJ0_appendChars 114 = .ok (.iload 5, 2) := dk_21 5 (dk_at dksJ0_appendChars_4 20 rfl rfl)
theorem dJ0_appendChars_116 : decode cJ0_appendChars 116 = .ok (.isub, 1) := dk_100 (dk_at dksJ0_appendChars_4 22 rfl rfl)
theorem dJ0_appendChars_117 : decode cJ0_appendChars 117 = .ok (.iconst 1, 1) := dk_4 (dk_at dksJ0_appendChars_4 23 rfl rfl)
theorem dJ0_appendChars_118 : decode cJ0_appendChars 118 = .ok (.ishl, 1) := dk_120 (dk_at dksJ0_appendChars_5 0 rfl rfl)
theorem dJ0_appendChars_119 : decode cJ0_appendChars 119 = .ok (.invokestatic 309, 3) := dk_184 1 53 (dk_at dksJ0_appendChars_5 1 rfl rfl)
theorem dJ0_appendChars_122 : decode cJ0_appendChars 122 = .ok (.aload_n 0, 1) := dk_42 (dk_at dksJ0_appendChars_5 4 rfl rfl)
theorem dJ0_appendChars_123 : decode cJ0_appendChars 123 = .ok (.dup, 1) := dk_89 (dk_at dksJ0_appendChars_5 5 rfl rfl)
theorem dJ0_appendChars_124 : decode cJ0_appendChars 124 = .ok (.getfield 79, 3) := dk_180 0 79 (dk_at dksJ0_appendChars_5 6 rfl rfl)
theorem dJ0_appendChars_127 : decode cJ0_appendChars 127 = .ok (.iload_n 3, 1) := dk_29 (dk_at dksJ0_appendChars_5 9 rfl rfl)
theorem dJ0_appendChars_128 : decode cJ0_appendChars 128 = .ok (.iload 5, 2) := dk_21 5 (dk_at dksJ0_appendChars_5 10 rfl rfl)
theorem dJ0_appendChars_130 : decode cJ0_appendChars 130 = .ok (.isub, 1) := dk_100 (dk_at dksJ0_appendChars_5 12 rfl rfl)
theorem dJ0_appendChars_131 : decode cJ0_appendChars 131 = .ok (.iadd, 1) := dk_96 (dk_at dksJ0_appendChars_5 13 rfl rfl)
theorem dJ0_appendChars_132 : decode cJ0_appendChars 132 = .ok (.putfield 79, 3) := dk_181 0 79 (dk_at dksJ0_appendChars_5 14 rfl rfl)
theorem dJ0_appendChars_135 : decode cJ0_appendChars 135 = .ok (.return_, 1) := dk_177 (dk_at dksJ0_appendChars_5 17 rfl rfl)
theorem dJ0_appendChars_136 : decode cJ0_appendChars 136 = .ok (.iinc 5 1, 3) := dk_132 5 1 (dk_at dksJ0_appendChars_5 18 rfl rfl)
theorem dJ0_appendChars_139 : decode cJ0_appendChars 139 = .ok (.goto (-88), 3) := dk_167 255 168 (dk_at dksJ0_appendChars_5 21 rfl rfl)
theorem dJ0_appendChars_142 : decode cJ0_appendChars 142 = .ok (.goto 52, 3) := dk_167 0 52 (dk_at dksJ0_appendChars_6 0 rfl rfl)
theorem dJ0_appendChars_145 : decode cJ0_appendChars 145 = .ok (.aload_n 1, 1) := dk_43 (dk_at dksJ0_appendChars_6 3 rfl rfl)
theorem dJ0_appendChars_146 : decode cJ0_appendChars 146 = .ok (.invokevirtual 400, 3) := dk_182 1 144 (dk_at dksJ0_appendChars_6 4 rfl rfl)
theorem dJ0_appendChars_149 : decode cJ0_appendChars 149 = .ok (.ifCond .eq 20, 3) := dk_153 0 20 (dk_at dksJ0_appendChars_6 7 rfl rfl)
theorem dJ0_appendChars_152 : decode cJ0_appendChars 152 = .ok (.aload_n 0, 1) := dk_42 (dk_at dksJ0_appendChars_6 10 rfl rfl)
theorem dJ0_appendChars_153 : decode cJ0_appendChars 153 = .ok (.getfield 15, 3) := dk_180 0 15 (dk_at dksJ0_appendChars_6 11 rfl rfl)
theorem dJ0_appendChars_156 : decode cJ0_appendChars 156 = .ok (.aload_n 0, 1) := dk_42 (dk_at dksJ0_appendChars_6 14 rfl rfl)
theorem dJ0_appendChars_157 : decode cJ0_appendChars 157 = .ok (.getfield 79, 3) := dk_180 0 79 (dk_at dksJ0_appendChars_6 15 rfl rfl)
theorem dJ0_appendChars_160 : decode cJ0_appendChars 160 = .ok (.aload_n 1, 1) := dk_43 (dk_at dksJ0_appendChars_6 18 rfl rfl)
theorem dJ0_appendChars_161 : decode cJ0_appendChars 161 = .ok (.iload_n 2, 1) := dk_28 (dk_at dksJ0_appendChars_6 19 rfl rfl)
theorem dJ0_appendChars_162 : decode cJ0_appendChars 162 = .ok (.iload_n 3, 1) := dk_29 (dk_at dksJ0_appendChars_6 20 rfl rfl)
theorem dJ0_appendChars_163 : decode cJ0_appendChars 163 = .ok (.invokestatic 394, 3) := dk_184 1 138 (dk_at dksJ0_appendChars_6 21 rfl rfl)
theorem dJ0_appendChars_166 : decode cJ0_appendChars 166 = .ok (.goto 28, 3) := dk_167 0 28 (dk_at dksJ0_appendChars_7 0 rfl rfl)
theorem dJ0_appendChars_169 : decode cJ0_appendChars 169 = .ok (.aload_n 1, 1) := dk_43 (dk_at dksJ0_appendChars_7 3 rfl rfl)
theorem dJ0_appendChars_170 : decode cJ0_appendChars 170 = .ok (.invokevirtual 401, 3) := dk_182 1 145 (dk_at dksJ0_appendChars_7 4 rfl rfl)
theorem dJ0_appendChars_173 : decode cJ0_appendChars 173 = .ok (.iload_n 2, 1) := dk_28 (dk_at dksJ0_appendChars_7 7 rfl rfl)
theorem dJ0_appendChars_174 : decode cJ0_appendChars 174 = .ok (.iconst 1, 1) := dk_4 (dk_at dksJ0_appendChars_7 8 rfl rfl)
theorem dJ0_appendChars_175 : decode cJ0_appendChars 175 = .ok (.ishl, 1) := dk_120 (dk_at dksJ0_appendChars_7 9 rfl rfl)
theorem dJ0_appendChars_176 : decode cJ0_appendChars 176 = .ok (.aload_n 0, 1) := dk_42 (dk_at dksJ0_appendChars_7 10 rfl rfl)
theorem dJ0_appendChars_177 : decode cJ0_appendChars 177 = .ok (.getfield 15, 3) := dk_180 0 15 (dk_at dksJ0_appendChars_7 11 rfl rfl)
theorem dJ0_appendChars_180 : decode cJ0_appendChars 180 = .ok (.aload_n 0, 1) := dk_42 (dk_at dksJ0_appendChars_7 14 rfl rfl)
theorem dJ0_appendChars_181 : decode cJ0_appendChars 181 = .ok (.getfield 79, 3) := dk_180 0 79 (dk_at dksJ0_appendChars_7 15 rfl rfl)
theorem dJ0_appendChars_184 : decode cJ0_appendChars 184 = .ok (.iconst 1, 1) := dk_4 (dk_at dksJ0_appendChars_7 18 rfl rfl)
theorem dJ0_appendChars_185 : decode cJ0_appendChars 185 = .ok (.ishl, 1) := dk_120 (dk_at dksJ0_appendChars_7 19 rfl rfl)
theorem dJ0_appendChars_186 : decode cJ0_appendChars 186 = .ok (.iload_n 3, 1) := dk_29 (dk_at dksJ0_appendChars_7 20 rfl rfl)
theorem dJ0_appendChars_187 : decode cJ0_appendChars 187 = .ok (.iload_n 2, 1) := dk_28 (dk_at dksJ0_appendChars_7 21 rfl rfl)
theorem dJ0_appendChars_188 : decode cJ0_appendChars 188 = .ok (.isub, 1) := dk_100 (dk_at dksJ0_appendChars_7 22 rfl rfl)
theorem dJ0_appendChars_189 : decode cJ0_appendChars 189 = .ok (.iconst 1, 1) := dk_4 (dk_at dksJ0_appendChars_7 23 rfl rfl)
theorem dJ0_appendChars_190 : decode cJ0_appendChars 190 = .ok (.ishl, 1) := dk_120 (dk_at dksJ0_appendChars_8 0 rfl rfl)
theorem dJ0_appendChars_191 : decode cJ0_appendChars 191 = .ok (.invokestatic 309, 3) := dk_184 1 53 (dk_at dksJ0_appendChars_8 1 rfl rfl)
theorem dJ0_appendChars_194 : decode cJ0_appendChars 194 = .ok (.aload_n 0, 1) := dk_42 (dk_at dksJ0_appendChars_8 4 rfl rfl)
theorem dJ0_appendChars_195 : decode cJ0_appendChars 195 = .ok (.dup, 1) := dk_89 (dk_at dksJ0_appendChars_8 5 rfl rfl)
theorem dJ0_appendChars_196 : decode cJ0_appendChars 196 = .ok (.getfield 79, 3) := dk_180 0 79 (dk_at dksJ0_appendChars_8 6 rfl rfl)
theorem dJ0_appendChars_199 : decode cJ0_appendChars 199 = .ok (.iload_n 3, 1) := dk_29 (dk_at dksJ0_appendChars_8 9 rfl rfl)
theorem dJ0_appendChars_200 : decode cJ0_appendChars 200 = .ok (.iload_n 2, 1) := dk_28 (dk_at dksJ0_appendChars_8 10 rfl rfl)
theorem dJ0_appendChars_201 : decode cJ0_appendChars 201 = .ok (.isub, 1) := dk_100 (dk_at dksJ0_appendChars_8 11 rfl rfl)
theorem dJ0_appendChars_202 : decode cJ0_appendChars 202 = .ok (.iadd, 1) := dk_96 (dk_at dksJ0_appendChars_8 12 rfl rfl)
theorem dJ0_appendChars_203 : decode cJ0_appendChars 203 = .ok (.putfield 79, 3) := dk_181 0 79 (dk_at dksJ0_appendChars_8 13 rfl rfl)
theorem dJ0_appendChars_206 : decode cJ0_appendChars 206 = .ok (.return_, 1) := dk_177 (dk_at dksJ0_appendChars_8 16 rfl rfl)
abbrev cJ0_appendChars_2 : ByteArray := prog_20_method_76_code
def yJ0_appendChars_2 : MethodName := ⟨RJ0, "appendChars", "(Ljava/lang/CharSequence;II)V"⟩
def dkwJ0_appendChars_2_6 : List UInt8 := [184, 1, 138, 42, 89, 180, 0, 79, 29, 28, 100, 96, 181, 0, 79, 177]
abbrev dktJ0_appendChars_2_6 : List UInt8 := dkwJ0_appendChars_2_6 ++ []
def dkwJ0_appendChars_2_5 : List UInt8 := [181, 0, 79, 177, 132, 5, 1, 167, 255, 155, 167, 0, 17, 42, 180, 0, 15, 42, 180, 0, 79, 43, 28, 29]
abbrev dktJ0_appendChars_2_5 : List UInt8 := dkwJ0_appendChars_2_5 ++ dktJ0_appendChars_2_6
def dkwJ0_appendChars_2_4 : List UInt8 := [180, 0, 15, 21, 6, 43, 21, 5, 29, 184, 1, 138, 42, 89, 180, 0, 79, 29, 21, 5, 100, 96]
abbrev dktJ0_appendChars_2_4 : List UInt8 := dkwJ0_appendChars_2_4 ++ dktJ0_appendChars_2_5
def dkwJ0_appendChars_2_3 : List UInt8 := [180, 0, 15, 21, 6, 132, 6, 1, 21, 7, 184, 0, 197, 42, 21, 6, 181, 0, 79, 132, 5, 1, 42]
abbrev dktJ0_appendChars_2_3 : List UInt8 := dkwJ0_appendChars_2_3 ++ dktJ0_appendChars_2_4
def dkwJ0_appendChars_2_2 : List UInt8 := [21, 6, 132, 6, 1, 21, 7, 145, 84, 167, 0, 63, 42, 21, 6, 181, 0, 79, 42, 182, 0, 195, 42]
abbrev dktJ0_appendChars_2_2 : List UInt8 := dkwJ0_appendChars_2_2 ++ dktJ0_appendChars_2_3
def dkwJ0_appendChars_2_1 : List UInt8 := [29, 162, 0, 101, 43, 21, 5, 185, 1, 134, 2, 0, 54, 7, 21, 7, 184, 0, 191, 153, 0, 17, 25, 4]
abbrev dktJ0_appendChars_2_1 : List UInt8 := dkwJ0_appendChars_2_1 ++ dktJ0_appendChars_2_2
def dkwJ0_appendChars_2_0 : List UInt8 := [42, 182, 0, 83, 153, 0, 125, 42, 180, 0, 15, 58, 4, 28, 54, 5, 42, 180, 0, 79, 54, 6, 21, 5]
abbrev dktJ0_appendChars_2_0 : List UInt8 := dkwJ0_appendChars_2_0 ++ dktJ0_appendChars_2_1
theorem dksJ0_appendChars_2_0 : cJ0_appendChars_2.data.toList.drop 0 = dktJ0_appendChars_2_0 := by decide +kernel
theorem dksJ0_appendChars_2_1 : cJ0_appendChars_2.data.toList.drop 24 = dktJ0_appendChars_2_1 := dk_seg dksJ0_appendChars_2_0 24 rfl rfl
theorem dksJ0_appendChars_2_2 : cJ0_appendChars_2.data.toList.drop 48 = dktJ0_appendChars_2_2 := dk_seg dksJ0_appendChars_2_1 24 rfl rfl
theorem dksJ0_appendChars_2_3 : cJ0_appendChars_2.data.toList.drop 71 = dktJ0_appendChars_2_3 := dk_seg dksJ0_appendChars_2_2 23 rfl rfl
theorem dksJ0_appendChars_2_4 : cJ0_appendChars_2.data.toList.drop 94 = dktJ0_appendChars_2_4 := dk_seg dksJ0_appendChars_2_3 23 rfl rfl
theorem dksJ0_appendChars_2_5 : cJ0_appendChars_2.data.toList.drop 116 = dktJ0_appendChars_2_5 := dk_seg dksJ0_appendChars_2_4 22 rfl rfl
theorem dksJ0_appendChars_2_6 : cJ0_appendChars_2.data.toList.drop 140 = dktJ0_appendChars_2_6 := dk_seg dksJ0_appendChars_2_5 24 rfl rfl
theorem dJ0_appendChars_2_0 : decode cJ0_appendChars_2 0 = .ok (.aload_n 0, 1) := dk_42 (dk_at dksJ0_appendChars_2_0 0 rfl rfl)
theorem dJ0_appendChars_2_1 : decode cJ0_appendChars_2 1 = .ok (.invokevirtual 83, 3) := dk_182 0 83 (dk_at dksJ0_appendChars_2_0 1 rfl rfl)
theorem dJ0_appendChars_2_4 : decode cJ0_appendChars_2 4 = .ok (.ifCond .eq 125, 3) := dk_153 0 125 (dk_at dksJ0_appendChars_2_0 4 rfl rfl)
theorem dJ0_appendChars_2_7 : decode cJ0_appendChars_2 7 = .ok (.aload_n 0, 1) := dk_42 (dk_at dksJ0_appendChars_2_0 7 rfl rfl)
theorem dJ0_appendChars_2_8 : decode cJ0_appendChars_2 8 = .ok (.getfield 15, 3) := dk_180 0 15 (dk_at dksJ0_appendChars_2_0 8 rfl rfl)
theorem dJ0_appendChars_2_11 : decode cJ0_appendChars_2 11 = .ok (.astore 4, 2) := dk_58 4 (dk_at dksJ0_appendChars_2_0 11 rfl rfl)
theorem dJ0_appendChars_2_13 : decode cJ0_appendChars_2 13 = .ok (.iload_n 2, 1) := dk_28 (dk_at dksJ0_appendChars_2_0 13 rfl rfl)
theorem dJ0_appendChars_2_14 : decode cJ0_appendChars_2 14 = .ok (.istore 5, 2) := dk_54 5 (dk_at dksJ0_appendChars_2_0 14 rfl rfl)
theorem dJ0_appendChars_2_16 : decode cJ0_appendChars_2 16 = .ok (.aload_n 0, 1) := dk_42 (dk_at dksJ0_appendChars_2_0 16 rfl rfl)
theorem dJ0_appendChars_2_17 : decode cJ0_appendChars_2 17 = .ok (.getfield 79, 3) := dk_180 0 79 (dk_at dksJ0_appendChars_2_0 17 rfl rfl)
theorem dJ0_appendChars_2_20 : decode cJ0_appendChars_2 20 = .ok (.istore 6, 2) := dk_54 6 (dk_at dksJ0_appendChars_2_0 20 rfl rfl)
theorem dJ0_appendChars_2_22 : decode cJ0_appendChars_2 22 = .ok (.iload 5, 2) := dk_21 5 (dk_at dksJ0_appendChars_2_0 22 rfl rfl)
theorem dJ0_appendChars_2_24 : decode cJ0_appendChars_2 24 = .ok (.iload_n 3, 1) := dk_29 (dk_at dksJ0_appendChars_2_1 0 rfl rfl)
theorem dJ0_appendChars_2_25 : decode cJ0_appendChars_2 25 = .ok (.if_icmp .ge 101, 3) := dk_162 0 101 (dk_at dksJ0_appendChars_2_1 1 rfl rfl)
theorem dJ0_appendChars_2_28 : decode cJ0_appendChars_2 28 = .ok (.aload_n 1, 1) := dk_43 (dk_at dksJ0_appendChars_2_1 4 rfl rfl)
theorem dJ0_appendChars_2_29 : decode cJ0_appendChars_2 29 = .ok (.iload 5, 2) := dk_21 5 (dk_at dksJ0_appendChars_2_1 5 rfl rfl)
theorem dJ0_appendChars_2_31 : decode cJ0_appendChars_2 31 = .ok (.invokeinterface 390 2, 5) := by decide +kernel
theorem dJ0_appendChars_2_36 : decode cJ0_appendChars_2 36 = .ok (.istore 7, 2) := dk_54 7 (dk_at dksJ0_appendChars_2_1 12 rfl rfl)
theorem dJ0_appendChars_2_38 : decode cJ0_appendChars_2 38 = .ok (.iload 7, 2) := dk_21 7 (dk_at dksJ0_appendChars_2_1 14 rfl rfl)
theorem dJ0_appendChars_2_40 : decode cJ0_appendChars_2 40 = .ok (.invokestatic 191, 3) := dk_184 0 191 (dk_at dksJ0_appendChars_2_1 16 rfl rfl)
theorem dJ0_appendChars_2_43 : decode cJ0_appendChars_2 43 = .ok (.ifCond .eq 17, 3) := dk_153 0 17 (dk_at dksJ0_appendChars_2_1 19 rfl rfl)
theorem dJ0_appendChars_2_46 : decode cJ0_appendChars_2 46 = .ok (.aload 4, 2) := dk_25 4 (dk_at dksJ0_appendChars_2_1 22 rfl rfl)
theorem dJ0_appendChars_2_48 : decode cJ0_appendChars_2 48 = .ok (.iload 6, 2) := dk_21 6 (dk_at dksJ0_appendChars_2_2 0 rfl rfl)
theorem dJ0_appendChars_2_50 : decode cJ0_appendChars_2 50 = .ok (.iinc 6 1, 3) := dk_132 6 1 (dk_at dksJ0_appendChars_2_2 2 rfl rfl)
theorem dJ0_appendChars_2_53 : decode cJ0_appendChars_2 53 = .ok (.iload 7, 2) := dk_21 7 (dk_at dksJ0_appendChars_2_2 5 rfl rfl)
theorem dJ0_appendChars_2_55 : decode cJ0_appendChars_2 55 = .ok (.i2b, 1) := dk_145 (dk_at dksJ0_appendChars_2_2 7 rfl rfl)
theorem dJ0_appendChars_2_56 : decode cJ0_appendChars_2 56 = .ok (.bastore, 1) := dk_84 (dk_at dksJ0_appendChars_2_2 8 rfl rfl)
theorem dJ0_appendChars_2_57 : decode cJ0_appendChars_2 57 = .ok (.goto 63, 3) := dk_167 0 63 (dk_at dksJ0_appendChars_2_2 9 rfl rfl)
theorem dJ0_appendChars_2_60 : decode cJ0_appendChars_2 60 = .ok (.aload_n 0, 1) := dk_42 (dk_at dksJ0_appendChars_2_2 12 rfl rfl)
theorem dJ0_appendChars_2_61 : decode cJ0_appendChars_2 61 = .ok (.iload 6, 2) := dk_21 6 (dk_at dksJ0_appendChars_2_2 13 rfl rfl)
theorem dJ0_appendChars_2_63 : decode cJ0_appendChars_2 63 = .ok (.putfield 79, 3) := dk_181 0 79 (dk_at dksJ0_appendChars_2_2 15 rfl rfl)
theorem dJ0_appendChars_2_66 : decode cJ0_appendChars_2 66 = .ok (.aload_n 0, 1) := dk_42 (dk_at dksJ0_appendChars_2_2 18 rfl rfl)
theorem dJ0_appendChars_2_67 : decode cJ0_appendChars_2 67 = .ok (.invokevirtual 195, 3) := dk_182 0 195 (dk_at dksJ0_appendChars_2_2 19 rfl rfl)
theorem dJ0_appendChars_2_70 : decode cJ0_appendChars_2 70 = .ok (.aload_n 0, 1) := dk_42 (dk_at dksJ0_appendChars_2_2 22 rfl rfl)
theorem dJ0_appendChars_2_71 : decode cJ0_appendChars_2 71 = .ok (.getfield 15, 3) := dk_180 0 15 (dk_at dksJ0_appendChars_2_3 0 rfl rfl)
theorem dJ0_appendChars_2_74 : decode cJ0_appendChars_2 74 = .ok (.iload 6, 2) := dk_21 6 (dk_at dksJ0_appendChars_2_3 3 rfl rfl)
theorem dJ0_appendChars_2_76 : decode cJ0_appendChars_2 76 = .ok (.iinc 6 1, 3) := dk_132 6 1 (dk_at dksJ0_appendChars_2_3 5 rfl rfl)
theorem dJ0_appendChars_2_79 : decode cJ0_appendChars_2 79 = .ok (.iload 7, 2) := dk_21 7 (dk_at dksJ0_appendChars_2_3 8 rfl rfl)
theorem dJ0_appendChars_2_81 : decode cJ0_appendChars_2 81 = .ok (.invokestatic 197, 3) := dk_184 0 197 (dk_at dksJ0_appendChars_2_3 10 rfl rfl)
theorem dJ0_appendChars_2_84 : decode cJ0_appendChars_2 84 = .ok (.aload_n 0, 1) := dk_42 (dk_at dksJ0_appendChars_2_3 13 rfl rfl)
theorem dJ0_appendChars_2_85 : decode cJ0_appendChars_2 85 = .ok (.iload 6, 2) := dk_21 6 (dk_at dksJ0_appendChars_2_3 14 rfl rfl)
theorem dJ0_appendChars_2_87 : decode cJ0_appendChars_2 87 = .ok (.putfield 79, 3) := dk_181 0 79 (dk_at dksJ0_appendChars_2_3 16 rfl rfl)
theorem dJ0_appendChars_2_90 : decode cJ0_appendChars_2 90 = .ok (.iinc 5 1, 3) := dk_132 5 1 (dk_at dksJ0_appendChars_2_3 19 rfl rfl)
theorem dJ0_appendChars_2_93 : decode cJ0_appendChars_2 93 = .ok (.aload_n 0, 1) := dk_42 (dk_at dksJ0_appendChars_2_3 22 rfl rfl)
theorem dJ0_appendChars_2_94 : decode cJ0_appendChars_2 94 = .ok (.getfield 15, 3) := dk_180 0 15 (dk_at dksJ0_appendChars_2_4 0 rfl rfl)
theorem dJ0_appendChars_2_97 : decode cJ0_appendChars_2 97 = .ok (.iload 6, 2) := dk_21 6 (dk_at dksJ0_appendChars_2_4 3 rfl rfl)
theorem dJ0_appendChars_2_99 : decode cJ0_appendChars_2 99 = .ok (.aload_n 1, 1) := dk_43 (dk_at dksJ0_appendChars_2_4 5 rfl rfl)
theorem dJ0_appendChars_2_100 : decode cJ0_appendChars_2 100 = .ok (.iload 5, 2) := dk_21 5 (dk_at dksJ0_appendChars_2_4 6 rfl rfl)
theorem dJ0_appendChars_2_102 : decode cJ0_appendChars_2 102 = .ok (.iload_n 3, 1) := dk_29 (dk_at dksJ0_appendChars_2_4 8 rfl rfl)
theorem dJ0_appendChars_2_103 : decode cJ0_appendChars_2 103 = .ok (.invokestatic 394, 3) := dk_184 1 138 (dk_at dksJ0_appendChars_2_4 9 rfl rfl)
theorem dJ0_appendChars_2_106 : decode cJ0_appendChars_2 106 = .ok (.aload_n 0, 1) := dk_42 (dk_at dksJ0_appendChars_2_4 12 rfl rfl)
theorem dJ0_appendChars_2_107 : decode cJ0_appendChars_2 107 = .ok (.dup, 1) := dk_89 (dk_at dksJ0_appendChars_2_4 13 rfl rfl)
theorem dJ0_appendChars_2_108 : decode cJ0_appendChars_2 108 = .ok (.getfield 79, 3) := dk_180 0 79 (dk_at dksJ0_appendChars_2_4 14 rfl rfl)
theorem dJ0_appendChars_2_111 : decode cJ0_appendChars_2 111 = .ok (.iload_n 3, 1) := dk_29 (dk_at dksJ0_appendChars_2_4 17 rfl rfl)
theorem dJ0_appendChars_2_112 : decode cJ0_appendChars_2 112 = .ok (.iload 5, 2) := dk_21 5 (dk_at dksJ0_appendChars_2_4 18 rfl rfl)
theorem dJ0_appendChars_2_114 : decode cJ0_appendChars_2 114 = .ok (.isub, 1) := dk_100 (dk_at dksJ0_appendChars_2_4 20 rfl rfl)
theorem dJ0_appendChars_2_115 : decode cJ0_appendChars_2 115 = .ok (.iadd, 1) := dk_96 (dk_at dksJ0_appendChars_2_4 21 rfl rfl)
theorem dJ0_appendChars_2_116 : decode cJ0_appendChars_2 116 = .ok (.putfield 79, 3) := dk_181 0 79 (dk_at dksJ0_appendChars_2_5 0 rfl rfl)
theorem dJ0_appendChars_2_119 : decode cJ0_appendChars_2 119 = .ok (.return_, 1) := dk_177 (dk_at dksJ0_appendChars_2_5 3 rfl rfl)
theorem dJ0_appendChars_2_120 : decode cJ0_appendChars_2 120 = .ok (.iinc 5 1, 3) := dk_132 5 1 (dk_at dksJ0_appendChars_2_5 4 rfl rfl)
theorem dJ0_appendChars_2_123 : decode cJ0_appendChars_2 123 = .ok (.goto (-101), 3) := dk_167 255 155 (dk_at dksJ0_appendChars_2_5 7 rfl rfl)
theorem dJ0_appendChars_2_126 : decode cJ0_appendChars_2 126 = .ok (.goto 17, 3) := dk_167 0 17 (dk_at dksJ0_appendChars_2_5 10 rfl rfl)
theorem dJ0_appendChars_2_129 : decode cJ0_appendChars_2 129 = .ok (.aload_n 0, 1) := dk_42 (dk_at dksJ0_appendChars_2_5 13 rfl rfl)
theorem dJ0_appendChars_2_130 : decode cJ0_appendChars_2 130 = .ok (.getfield 15, 3) := dk_180 0 15 (dk_at dksJ0_appendChars_2_5 14 rfl rfl)
theorem dJ0_appendChars_2_133 : decode cJ0_appendChars_2 133 = .ok (.aload_n 0, 1) := dk_42 (dk_at dksJ0_appendChars_2_5 17 rfl rfl)
theorem dJ0_appendChars_2_134 : decode cJ0_appendChars_2 134 = .ok (.getfield 79, 3) := dk_180 0 79 (dk_at dksJ0_appendChars_2_5 18 rfl rfl)
theorem dJ0_appendChars_2_137 : decode cJ0_appendChars_2 137 = .ok (.aload_n 1, 1) := dk_43 (dk_at dksJ0_appendChars_2_5 21 rfl rfl)
theorem dJ0_appendChars_2_138 : decode cJ0_appendChars_2 138 = .ok (.iload_n 2, 1) := dk_28 (dk_at dksJ0_appendChars_2_5 22 rfl rfl)
theorem dJ0_appendChars_2_139 : decode cJ0_appendChars_2 139 = .ok (.iload_n 3, 1) := dk_29 (dk_at dksJ0_appendChars_2_5 23 rfl rfl)
theorem dJ0_appendChars_2_140 : decode cJ0_appendChars_2 140 = .ok (.invokestatic 394, 3) := dk_184 1 138 (dk_at dksJ0_appendChars_2_6 0 rfl rfl)
theorem dJ0_appendChars_2_143 : decode cJ0_appendChars_2 143 = .ok (.aload_n 0, 1) := dk_42 (dk_at dksJ0_appendChars_2_6 3 rfl rfl)
theorem dJ0_appendChars_2_144 : decode cJ0_appendChars_2 144 = .ok (.dup, 1) := dk_89 (dk_at dksJ0_appendChars_2_6 4 rfl rfl)
theorem dJ0_appendChars_2_145 : decode cJ0_appendChars_2 145 = .ok (.getfield 79, 3) := dk_180 0 79 (dk_at dksJ0_appendChars_2_6 5 rfl rfl)
theorem dJ0_appendChars_2_148 : decode cJ0_appendChars_2 148 = .ok (.iload_n 3, 1) := dk_29 (dk_at dksJ0_appendChars_2_6 8 rfl rfl)
theorem dJ0_appendChars_2_149 : decode cJ0_appendChars_2 149 = .ok (.iload_n 2, 1) := dk_28 (dk_at dksJ0_appendChars_2_6 9 rfl rfl)
theorem dJ0_appendChars_2_150 : decode cJ0_appendChars_2 150 = .ok (.isub, 1) := dk_100 (dk_at dksJ0_appendChars_2_6 10 rfl rfl)
theorem dJ0_appendChars_2_151 : decode cJ0_appendChars_2 151 = .ok (.iadd, 1) := dk_96 (dk_at dksJ0_appendChars_2_6 11 rfl rfl)
theorem dJ0_appendChars_2_152 : decode cJ0_appendChars_2 152 = .ok (.putfield 79, 3) := dk_181 0 79 (dk_at dksJ0_appendChars_2_6 12 rfl rfl)
theorem dJ0_appendChars_2_155 : decode cJ0_appendChars_2 155 = .ok (.return_, 1) := dk_177 (dk_at dksJ0_appendChars_2_6 15 rfl rfl)
theorem q104 : (Jvm.Cond.initialized "java/lang/AbstractStringBuilder") ∈ lw_all := lw_g (lw_at lw_m1 2 rfl) rfl
theorem q170 : (Jvm.Cond.instanceMethod ({ cls := "java/lang/AbstractStringBuilder", name := "<init>", desc := "(I)V" } : Jvm.MethodName)) ∈ lw_all := lw_g (lw_at lw_m1 68 rfl) rfl
theorem q171 : (Jvm.Cond.code ({ cls := "java/lang/AbstractStringBuilder", name := "<init>", desc := "(I)V" } : Jvm.MethodName) prog_20_method_2_code (2 : Nat) (Option.none : Option Jvm.ClassFile.FieldType)) ∈ lw_all := lw_g (lw_at lw_m1 69 rfl) rfl
theorem q172 : (Jvm.Cond.methodLink "java/lang/AbstractStringBuilder" (3 : Nat) ({ cls := "java/lang/Object", name := "<init>", desc := "()V" } : Jvm.MethodName)) ∈ lw_all := lw_g (lw_at lw_m1 70 rfl) rfl
theorem q173 : (Jvm.Cond.fieldLink "java/lang/AbstractStringBuilder" (18 : Nat) "java/lang/String" "COMPACT_STRINGS" "Z") ∈ lw_all := lw_g (lw_at lw_m1 71 rfl) rfl
theorem q175 : (Jvm.Cond.methodLink "java/lang/AbstractStringBuilder" (26 : Nat) ({ cls := "java/lang/StringUTF16", name := "newBytesFor", desc := "(I)[B" } : Jvm.MethodName)) ∈ lw_all := lw_g (lw_at lw_m1 73 rfl) rfl
theorem q266 : (Jvm.Cond.fieldLink "java/lang/AbstractStringBuilder" (15 : Nat) "java/lang/AbstractStringBuilder" "value" "[B") ∈ lw_all := lw_g (lw_at lw_m1 164 rfl) rfl
theorem q267 : (Jvm.Cond.fieldLink "java/lang/AbstractStringBuilder" (22 : Nat) "java/lang/AbstractStringBuilder" "coder" "B") ∈ lw_all := lw_g (lw_at lw_m1 165 rfl) rfl
theorem q268 : (Jvm.Cond.fieldLink "java/lang/AbstractStringBuilder" (73 : Nat) "java/lang/AbstractStringBuilder" "maybeLatin1" "Z") ∈ lw_all := lw_g (lw_at lw_m1 166 rfl) rfl
theorem q270 : (Jvm.Cond.fieldLink "java/lang/AbstractStringBuilder" (79 : Nat) "java/lang/AbstractStringBuilder" "count" "I") ∈ lw_all := lw_g (lw_at lw_m1 168 rfl) rfl
theorem q272 : (Jvm.Cond.soleField "java/lang/AbstractStringBuilder" "value") ∈ lw_all := lw_g (lw_at lw_m1 170 rfl) rfl
theorem q274 : (Jvm.Cond.soleField "java/lang/AbstractStringBuilder" "coder") ∈ lw_all := lw_g (lw_at lw_m1 172 rfl) rfl
theorem q276 : (Jvm.Cond.soleField "java/lang/AbstractStringBuilder" "maybeLatin1") ∈ lw_all := lw_g (lw_at lw_m1 174 rfl) rfl
theorem q278 : (Jvm.Cond.soleField "java/lang/AbstractStringBuilder" "count") ∈ lw_all := lw_g (lw_at lw_m1 176 rfl) rfl
theorem q648 : (Jvm.Cond.instanceMethod ({ cls := "java/lang/AbstractStringBuilder", name := "length", desc := "()I" } : Jvm.MethodName)) ∈ lw_all := lw_g (lw_at lw_m3 66 rfl) rfl
theorem q649 : (Jvm.Cond.code ({ cls := "java/lang/AbstractStringBuilder", name := "length", desc := "()I" } : Jvm.MethodName) prog_20_method_6_code (1 : Nat) (Option.some Jvm.ClassFile.FieldType.int)) ∈ lw_all := lw_g (lw_at lw_m3 67 rfl) rfl
theorem q655 : (Jvm.Cond.instanceMethod ({ cls := "java/lang/AbstractStringBuilder", name := "append", desc := "(C)Ljava/lang/AbstractStringBuilder;" } : Jvm.MethodName)) ∈ lw_all := lw_g (lw_at lw_m3 73 rfl) rfl
theorem q656 : (Jvm.Cond.code ({ cls := "java/lang/AbstractStringBuilder", name := "append", desc := "(C)Ljava/lang/AbstractStringBuilder;" } : Jvm.MethodName) prog_20_method_31_code (2 : Nat) (Option.some (Jvm.ClassFile.FieldType.object "java/lang/AbstractStringBuilder"))) ∈ lw_all := lw_g (lw_at lw_m3 74 rfl) rfl
theorem q657 : (Jvm.Cond.methodLink "java/lang/AbstractStringBuilder" (100 : Nat) ({ cls := "java/lang/AbstractStringBuilder", name := "ensureCapacityInternal", desc := "(I)V" } : Jvm.MethodName)) ∈ lw_all := lw_g (lw_at lw_m3 75 rfl) rfl
theorem q658 : (Jvm.Cond.privateMethod ({ cls := "java/lang/AbstractStringBuilder", name := "ensureCapacityInternal", desc := "(I)V" } : Jvm.MethodName)) ∈ lw_tbl := lw_at lw_m3 76 rfl
theorem q659 : (Jvm.Cond.instanceMethod ({ cls := "java/lang/AbstractStringBuilder", name := "ensureCapacityInternal", desc := "(I)V" } : Jvm.MethodName)) ∈ lw_all := lw_g (lw_at lw_m3 77 rfl) rfl
theorem q660 : (Jvm.Cond.code ({ cls := "java/lang/AbstractStringBuilder", name := "ensureCapacityInternal", desc := "(I)V" } : Jvm.MethodName) prog_20_method_9_code (3 : Nat) (Option.none : Option Jvm.ClassFile.FieldType)) ∈ lw_all := lw_g (lw_at lw_m3 78 rfl) rfl
theorem q661 : (Jvm.Cond.methodLink "java/lang/AbstractStringBuilder" (104 : Nat) ({ cls := "java/lang/AbstractStringBuilder", name := "newCapacity", desc := "(I)I" } : Jvm.MethodName)) ∈ lw_all := lw_g (lw_at lw_m3 79 rfl) rfl
theorem q662 : (Jvm.Cond.privateMethod ({ cls := "java/lang/AbstractStringBuilder", name := "newCapacity", desc := "(I)I" } : Jvm.MethodName)) ∈ lw_tbl := lw_at lw_m3 80 rfl
theorem q663 : (Jvm.Cond.instanceMethod ({ cls := "java/lang/AbstractStringBuilder", name := "newCapacity", desc := "(I)I" } : Jvm.MethodName)) ∈ lw_all := lw_g (lw_at lw_m3 81 rfl) rfl
theorem q664 : (Jvm.Cond.code ({ cls := "java/lang/AbstractStringBuilder", name := "newCapacity", desc := "(I)I" } : Jvm.MethodName) prog_20_method_10_code (6 : Nat) (Option.some Jvm.ClassFile.FieldType.int)) ∈ lw_all := lw_g (lw_at lw_m3 82 rfl) rfl
theorem q665 : (Jvm.Cond.methodLink "java/lang/AbstractStringBuilder" (114 : Nat) ({ cls := "jdk/internal/util/ArraysSupport", name := "newLength", desc := "(III)I" } : Jvm.MethodName)) ∈ lw_all := lw_g (lw_at lw_m3 83 rfl) rfl
theorem q666 : (Jvm.Cond.constant "java/lang/AbstractStringBuilder" (39 : Nat) (2147483647 : Int32)) ∈ lw_all := lw_g (lw_at lw_m3 84 rfl) rfl
theorem q667 : (Jvm.Cond.methodLink "java/lang/AbstractStringBuilder" (108 : Nat) ({ cls := "java/util/Arrays", name := "copyOf", desc := "([BI)[B" } : Jvm.MethodName)) ∈ lw_all := lw_g (lw_at lw_m3 85 rfl) rfl
theorem q675 : (Jvm.Cond.methodLink "java/lang/AbstractStringBuilder" (83 : Nat) ({ cls := "java/lang/AbstractStringBuilder", name := "isLatin1", desc := "()Z" } : Jvm.MethodName)) ∈ lw_all := lw_g (lw_at lw_m3 93 rfl) rfl
theorem q676 : (Jvm.Cond.instanceMethod ({ cls := "java/lang/AbstractStringBuilder", name := "isLatin1", desc := "()Z" } : Jvm.MethodName)) ∈ lw_all := lw_g (lw_at lw_m3 94 rfl) rfl
theorem q677 : (Jvm.Cond.sameMethod "java/lang/AbstractStringBuilder" "java/lang/AbstractStringBuilder" "isLatin1" "()Z") ∈ lw_all := lw_g (lw_at lw_m3 95 rfl) rfl
theorem q679 : (Jvm.Cond.code ({ cls := "java/lang/AbstractStringBuilder", name := "isLatin1", desc := "()Z" } : Jvm.MethodName) prog_20_method_68_code (1 : Nat) (Option.some Jvm.ClassFile.FieldType.boolean)) ∈ lw_all := lw_g (lw_at lw_m3 97 rfl) rfl
theorem q680 : (Jvm.Cond.methodLink "java/lang/AbstractStringBuilder" (191 : Nat) ({ cls := "java/lang/StringLatin1", name := "canEncode", desc := "(C)Z" } : Jvm.MethodName)) ∈ lw_all := lw_g (lw_at lw_m3 98 rfl) rfl
theorem q683 : (Jvm.Cond.methodLink "java/lang/AbstractStringBuilder" (195 : Nat) ({ cls := "java/lang/AbstractStringBuilder", name := "inflate", desc := "()V" } : Jvm.MethodName)) ∈ lw_all := lw_g (lw_at lw_m3 101 rfl) rfl
theorem q684 : (Jvm.Cond.privateMethod ({ cls := "java/lang/AbstractStringBuilder", name := "inflate", desc := "()V" } : Jvm.MethodName)) ∈ lw_tbl := lw_at lw_m3 102 rfl
theorem q685 : (Jvm.Cond.instanceMethod ({ cls := "java/lang/AbstractStringBuilder", name := "inflate", desc := "()V" } : Jvm.MethodName)) ∈ lw_all := lw_g (lw_at lw_m3 103 rfl) rfl
theorem q686 : (Jvm.Cond.code ({ cls := "java/lang/AbstractStringBuilder", name := "inflate", desc := "()V" } : Jvm.MethodName) prog_20_method_11_code (2 : Nat) (Option.none : Option Jvm.ClassFile.FieldType)) ∈ lw_all := lw_g (lw_at lw_m3 104 rfl) rfl
theorem q687 : (Jvm.Cond.methodLink "java/lang/AbstractStringBuilder" (125 : Nat) ({ cls := "java/lang/StringLatin1", name := "inflate", desc := "([BI[BII)V" } : Jvm.MethodName)) ∈ lw_all := lw_g (lw_at lw_m3 105 rfl) rfl
theorem q716 : (Jvm.Cond.methodLink "java/lang/AbstractStringBuilder" (197 : Nat) ({ cls := "java/lang/StringUTF16", name := "putCharSB", desc := "([BII)V" } : Jvm.MethodName)) ∈ lw_all := lw_g (lw_at lw_m3 134 rfl) rfl
theorem q735 : (Jvm.Cond.instanceMethod ({ cls := "java/lang/AbstractStringBuilder", name := "setLength", desc := "(I)V" } : Jvm.MethodName)) ∈ lw_all := lw_g (lw_at lw_m3 153 rfl) rfl
theorem q736 : (Jvm.Cond.code ({ cls := "java/lang/AbstractStringBuilder", name := "setLength", desc := "(I)V" } : Jvm.MethodName) prog_20_method_13_code (2 : Nat) (Option.none : Option Jvm.ClassFile.FieldType)) ∈ lw_all := lw_g (lw_at lw_m3 154 rfl) rfl
theorem q737 : (Jvm.Cond.classLink "java/lang/AbstractStringBuilder" (129 : Nat) "java/lang/StringIndexOutOfBoundsException") ∈ lw_all := lw_g (lw_at lw_m3 155 rfl) rfl
theorem q739 : (Jvm.Cond.methodLink "java/lang/AbstractStringBuilder" (131 : Nat) ({ cls := "java/lang/StringIndexOutOfBoundsException", name := "<init>", desc := "(I)V" } : Jvm.MethodName)) ∈ lw_all := lw_g (lw_at lw_m3 157 rfl) rfl
theorem q752 : (Jvm.Cond.instanceMethod ({ cls := "java/lang/AbstractStringBuilder", name := "append", desc := "(Ljava/lang/String;)Ljava/lang/AbstractStringBuilder;" } : Jvm.MethodName)) ∈ lw_all := lw_g (lw_at lw_m3 170 rfl) rfl
theorem q753 : (Jvm.Cond.code ({ cls := "java/lang/AbstractStringBuilder", name := "append", desc := "(Ljava/lang/String;)Ljava/lang/AbstractStringBuilder;" } : Jvm.MethodName) prog_20_method_22_code (3 : Nat) (Option.some (Jvm.ClassFile.FieldType.object "java/lang/AbstractStringBuilder"))) ∈ lw_all := lw_g (lw_at lw_m3 171 rfl) rfl
theorem q754 : (Jvm.Cond.methodLink "java/lang/AbstractStringBuilder" (204 : Nat) ({ cls := "java/lang/AbstractStringBuilder", name := "appendNull", desc := "()Ljava/lang/AbstractStringBuilder;" } : Jvm.MethodName)) ∈ lw_all := lw_g (lw_at lw_m3 172 rfl) rfl
theorem q755 : (Jvm.Cond.privateMethod ({ cls := "java/lang/AbstractStringBuilder", name := "appendNull", desc := "()Ljava/lang/AbstractStringBuilder;" } : Jvm.MethodName)) ∈ lw_tbl := lw_at lw_m3 173 rfl
theorem q756 : (Jvm.Cond.instanceMethod ({ cls := "java/lang/AbstractStringBuilder", name := "appendNull", desc := "()Ljava/lang/AbstractStringBuilder;" } : Jvm.MethodName)) ∈ lw_all := lw_g (lw_at lw_m3 174 rfl) rfl
theorem q757 : (Jvm.Cond.code ({ cls := "java/lang/AbstractStringBuilder", name := "appendNull", desc := "()Ljava/lang/AbstractStringBuilder;" } : Jvm.MethodName) prog_20_method_26_code (3 : Nat) (Option.some (Jvm.ClassFile.FieldType.object "java/lang/AbstractStringBuilder"))) ∈ lw_all := lw_g (lw_at lw_m3 175 rfl) rfl
theorem q758 : (Jvm.Cond.methodLink "java/lang/AbstractStringBuilder" (226 : Nat) ({ cls := "java/lang/StringUTF16", name := "putCharsAt", desc := "([BICCCC)I" } : Jvm.MethodName)) ∈ lw_all := lw_g (lw_at lw_m3 176 rfl) rfl
theorem q770 : (Jvm.Cond.methodLink "java/lang/AbstractStringBuilder" (32 : Nat) ({ cls := "java/lang/String", name := "length", desc := "()I" } : Jvm.MethodName)) ∈ lw_all := lw_g (lw_at lw_m3 188 rfl) rfl
theorem q779 : (Jvm.Cond.methodLink "java/lang/AbstractStringBuilder" (208 : Nat) ({ cls := "java/lang/AbstractStringBuilder", name := "putStringAt", desc := "(ILjava/lang/String;)V" } : Jvm.MethodName)) ∈ lw_all := lw_g (lw_at lw_m3 197 rfl) rfl
theorem q780 : (Jvm.Cond.privateMethod ({ cls := "java/lang/AbstractStringBuilder", name := "putStringAt", desc := "(ILjava/lang/String;)V" } : Jvm.MethodName)) ∈ lw_tbl := lw_at lw_m3 198 rfl
theorem q781 : (Jvm.Cond.instanceMethod ({ cls := "java/lang/AbstractStringBuilder", name := "putStringAt", desc := "(ILjava/lang/String;)V" } : Jvm.MethodName)) ∈ lw_all := lw_g (lw_at lw_m3 199 rfl) rfl
theorem q782 : (Jvm.Cond.code ({ cls := "java/lang/AbstractStringBuilder", name := "putStringAt", desc := "(ILjava/lang/String;)V" } : Jvm.MethodName) prog_20_method_73_code (3 : Nat) (Option.none : Option Jvm.ClassFile.FieldType)) ∈ lw_all := lw_g (lw_at lw_m3 200 rfl) rfl
theorem q783 : (Jvm.Cond.methodLink "java/lang/AbstractStringBuilder" (397 : Nat) ({ cls := "java/lang/AbstractStringBuilder", name := "inflateIfNeededFor", desc := "(Ljava/lang/String;)V" } : Jvm.MethodName)) ∈ lw_all := lw_g (lw_at lw_m3 201 rfl) rfl
theorem q784 : (Jvm.Cond.privateMethod ({ cls := "java/lang/AbstractStringBuilder", name := "inflateIfNeededFor", desc := "(Ljava/lang/String;)V" } : Jvm.MethodName)) ∈ lw_tbl := lw_at lw_m3 202 rfl
theorem q785 : (Jvm.Cond.instanceMethod ({ cls := "java/lang/AbstractStringBuilder", name := "inflateIfNeededFor", desc := "(Ljava/lang/String;)V" } : Jvm.MethodName)) ∈ lw_all := lw_g (lw_at lw_m3 203 rfl) rfl
theorem q786 : (Jvm.Cond.code ({ cls := "java/lang/AbstractStringBuilder", name := "inflateIfNeededFor", desc := "(Ljava/lang/String;)V" } : Jvm.MethodName) prog_20_method_71_code (2 : Nat) (Option.none : Option Jvm.ClassFile.FieldType)) ∈ lw_all := lw_g (lw_at lw_m3 204 rfl) rfl
theorem q787 : (Jvm.Cond.methodLink "java/lang/AbstractStringBuilder" (40 : Nat) ({ cls := "java/lang/String", name := "coder", desc := "()B" } : Jvm.MethodName)) ∈ lw_all := lw_g (lw_at lw_m3 205 rfl) rfl
theorem q788 : (Jvm.Cond.methodLink "java/lang/AbstractStringBuilder" (399 : Nat) ({ cls := "java/lang/String", name := "getBytes", desc := "([BIB)V" } : Jvm.MethodName)) ∈ lw_all := lw_g (lw_at lw_m3 206 rfl) rfl
theorem q799 : (Jvm.Cond.instanceMethod ({ cls := "java/lang/AbstractStringBuilder", name := "append", desc := "(I)Ljava/lang/AbstractStringBuilder;" } : Jvm.MethodName)) ∈ lw_all := lw_g (lw_at lw_m3 217 rfl) rfl
theorem q800 : (Jvm.Cond.code ({ cls := "java/lang/AbstractStringBuilder", name := "append", desc := "(I)Ljava/lang/AbstractStringBuilder;" } : Jvm.MethodName) prog_20_method_32_code (4 : Nat) (Option.some (Jvm.ClassFile.FieldType.object "java/lang/AbstractStringBuilder"))) ∈ lw_all := lw_g (lw_at lw_m3 218 rfl) rfl
theorem q801 : (Jvm.Cond.methodLink "java/lang/AbstractStringBuilder" (245 : Nat) ({ cls := "java/lang/Integer", name := "stringSize", desc := "(I)I" } : Jvm.MethodName)) ∈ lw_all := lw_g (lw_at lw_m3 219 rfl) rfl
theorem q804 : (Jvm.Cond.methodLink "java/lang/AbstractStringBuilder" (248 : Nat) ({ cls := "java/lang/Integer", name := "getChars", desc := "(II[B)I" } : Jvm.MethodName)) ∈ lw_all := lw_g (lw_at lw_m3 222 rfl) rfl
theorem q811 : (Jvm.Cond.methodLink "java/lang/AbstractStringBuilder" (251 : Nat) ({ cls := "java/lang/StringUTF16", name := "getChars", desc := "(III[B)I" } : Jvm.MethodName)) ∈ lw_all := lw_g (lw_at lw_m3 229 rfl) rfl
theorem q832 : (Jvm.Cond.instanceMethod ({ cls := "java/lang/AbstractStringBuilder", name := "getValue", desc := "()[B" } : Jvm.MethodName)) ∈ lw_all := lw_g (lw_at lw_m4 10 rfl) rfl
theorem q833 : (Jvm.Cond.sameMethod "java/lang/AbstractStringBuilder" "java/lang/AbstractStringBuilder" "getValue" "()[B") ∈ lw_all := lw_g (lw_at lw_m4 11 rfl) rfl
theorem q835 : (Jvm.Cond.code ({ cls := "java/lang/AbstractStringBuilder", name := "getValue", desc := "()[B" } : Jvm.MethodName) prog_20_method_64_code (1 : Nat) (Option.some (Jvm.ClassFile.FieldType.array Jvm.ClassFile.FieldType.byte))) ∈ lw_all := lw_g (lw_at lw_m4 13 rfl) rfl
theorem q880 : (Jvm.Cond.methodLink "java/lang/AbstractStringBuilder" (133 : Nat) ({ cls := "java/lang/StringLatin1", name := "fillNull", desc := "([BII)V" } : Jvm.MethodName)) ∈ lw_all := lw_g (lw_at lw_m4 58 rfl) rfl
theorem q912 : (Jvm.Cond.methodLink "java/lang/AbstractStringBuilder" (137 : Nat) ({ cls := "java/lang/StringUTF16", name := "fillNull", desc := "([BII)V" } : Jvm.MethodName)) ∈ lw_all := lw_g (lw_at lw_m4 90 rfl) rfl
theorem q988 : (Jvm.Cond.instanceMethod ({ cls := "java/lang/AbstractStringBuilder", name := "charAt", desc := "(I)C" } : Jvm.MethodName)) ∈ lw_all := lw_g (lw_at lw_m4 166 rfl) rfl
theorem q989 : (Jvm.Cond.code ({ cls := "java/lang/AbstractStringBuilder", name := "charAt", desc := "(I)C" } : Jvm.MethodName) prog_20_method_14_code (5 : Nat) (Option.some Jvm.ClassFile.FieldType.char)) ∈ lw_all := lw_g (lw_at lw_m4 167 rfl) rfl
theorem q990 : (Jvm.Cond.methodLink "java/lang/AbstractStringBuilder" (138 : Nat) ({ cls := "java/lang/Math", name := "min", desc := "(II)I" } : Jvm.MethodName)) ∈ lw_all := lw_g (lw_at lw_m4 168 rfl) rfl
theorem q991 : (Jvm.Cond.methodLink "java/lang/AbstractStringBuilder" (144 : Nat) ({ cls := "java/lang/String", name := "checkIndex", desc := "(II)V" } : Jvm.MethodName)) ∈ lw_all := lw_g (lw_at lw_m4 169 rfl) rfl
theorem q992 : (Jvm.Cond.methodLink "java/lang/AbstractStringBuilder" (148 : Nat) ({ cls := "java/lang/StringUTF16", name := "getChar", desc := "([BI)C" } : Jvm.MethodName)) ∈ lw_all := lw_g (lw_at lw_m4 170 rfl) rfl
theorem q1610 : (Jvm.Cond.instanceMethod ({ cls := "java/lang/AbstractStringBuilder", name := "append", desc := "(Ljava/lang/CharSequence;)Ljava/lang/AbstractStringBuilder;" } : Jvm.MethodName)) ∈ lw_all := lw_g (lw_at lw_m7 68 rfl) rfl
theorem q1611 : (Jvm.Cond.code ({ cls := "java/lang/AbstractStringBuilder", name := "append", desc := "(Ljava/lang/CharSequence;)Ljava/lang/AbstractStringBuilder;" } : Jvm.MethodName) prog_20_method_25_code (2 : Nat) (Option.some (Jvm.ClassFile.FieldType.object "java/lang/AbstractStringBuilder"))) ∈ lw_all := lw_g (lw_at lw_m7 69 rfl) rfl
theorem q1612 : (Jvm.Cond.classLink "java/lang/AbstractStringBuilder" (1 : Nat) "java/lang/String") ∈ lw_all := lw_g (lw_at lw_m7 70 rfl) rfl
theorem q1613 : (Jvm.Cond.methodLink "java/lang/AbstractStringBuilder" (43 : Nat) ({ cls := "java/lang/AbstractStringBuilder", name := "append", desc := "(Ljava/lang/String;)Ljava/lang/AbstractStringBuilder;" } : Jvm.MethodName)) ∈ lw_all := lw_g (lw_at lw_m7 71 rfl) rfl
theorem q1616 : (Jvm.Cond.classLink "java/lang/AbstractStringBuilder" (10 : Nat) "java/lang/AbstractStringBuilder") ∈ lw_all := lw_g (lw_at lw_m7 74 rfl) rfl
theorem q1617 : (Jvm.Cond.methodLink "java/lang/AbstractStringBuilder" (212 : Nat) ({ cls := "java/lang/AbstractStringBuilder", name := "append", desc := "(Ljava/lang/AbstractStringBuilder;)Ljava/lang/AbstractStringBuilder;" } : Jvm.MethodName)) ∈ lw_all := lw_g (lw_at lw_m7 75 rfl) rfl
theorem q1618 : (Jvm.Cond.instanceMethod ({ cls := "java/lang/AbstractStringBuilder", name := "append", desc := "(Ljava/lang/AbstractStringBuilder;)Ljava/lang/AbstractStringBuilder;" } : Jvm.MethodName)) ∈ lw_all := lw_g (lw_at lw_m7 76 rfl) rfl
theorem q1619 : (Jvm.Cond.sameMethod "java/lang/AbstractStringBuilder" "java/lang/AbstractStringBuilder" "append" "(Ljava/lang/AbstractStringBuilder;)Ljava/lang/AbstractStringBuilder;") ∈ lw_all := lw_g (lw_at lw_m7 77 rfl) rfl
theorem q1621 : (Jvm.Cond.code ({ cls := "java/lang/AbstractStringBuilder", name := "append", desc := "(Ljava/lang/AbstractStringBuilder;)Ljava/lang/AbstractStringBuilder;" } : Jvm.MethodName) prog_20_method_24_code (3 : Nat) (Option.some (Jvm.ClassFile.FieldType.object "java/lang/AbstractStringBuilder"))) ∈ lw_all := lw_g (lw_at lw_m7 79 rfl) rfl
theorem q1622 : (Jvm.Cond.methodLink "java/lang/AbstractStringBuilder" (160 : Nat) ({ cls := "java/lang/AbstractStringBuilder", name := "length", desc := "()I" } : Jvm.MethodName)) ∈ lw_all := lw_g (lw_at lw_m7 80 rfl) rfl
theorem q1623 : (Jvm.Cond.methodLink "java/lang/AbstractStringBuilder" (215 : Nat) ({ cls := "java/lang/AbstractStringBuilder", name := "inflateIfNeededFor", desc := "(Ljava/lang/AbstractStringBuilder;)V" } : Jvm.MethodName)) ∈ lw_all := lw_g (lw_at lw_m7 81 rfl) rfl
theorem q1624 : (Jvm.Cond.privateMethod ({ cls := "java/lang/AbstractStringBuilder", name := "inflateIfNeededFor", desc := "(Ljava/lang/AbstractStringBuilder;)V" } : Jvm.MethodName)) ∈ lw_tbl := lw_at lw_m7 82 rfl
theorem q1625 : (Jvm.Cond.instanceMethod ({ cls := "java/lang/AbstractStringBuilder", name := "inflateIfNeededFor", desc := "(Ljava/lang/AbstractStringBuilder;)V" } : Jvm.MethodName)) ∈ lw_all := lw_g (lw_at lw_m7 83 rfl) rfl
theorem q1626 : (Jvm.Cond.code ({ cls := "java/lang/AbstractStringBuilder", name := "inflateIfNeededFor", desc := "(Ljava/lang/AbstractStringBuilder;)V" } : Jvm.MethodName) prog_20_method_72_code (2 : Nat) (Option.none : Option Jvm.ClassFile.FieldType)) ∈ lw_all := lw_g (lw_at lw_m7 84 rfl) rfl
theorem q1627 : (Jvm.Cond.methodLink "java/lang/AbstractStringBuilder" (70 : Nat) ({ cls := "java/lang/AbstractStringBuilder", name := "getCoder", desc := "()B" } : Jvm.MethodName)) ∈ lw_all := lw_g (lw_at lw_m7 85 rfl) rfl
theorem q1628 : (Jvm.Cond.instanceMethod ({ cls := "java/lang/AbstractStringBuilder", name := "getCoder", desc := "()B" } : Jvm.MethodName)) ∈ lw_all := lw_g (lw_at lw_m7 86 rfl) rfl
theorem q1629 : (Jvm.Cond.sameMethod "java/lang/AbstractStringBuilder" "java/lang/AbstractStringBuilder" "getCoder" "()B") ∈ lw_all := lw_g (lw_at lw_m7 87 rfl) rfl
theorem q1631 : (Jvm.Cond.code ({ cls := "java/lang/AbstractStringBuilder", name := "getCoder", desc := "()B" } : Jvm.MethodName) prog_20_method_67_code (1 : Nat) (Option.some Jvm.ClassFile.FieldType.byte)) ∈ lw_all := lw_g (lw_at lw_m7 89 rfl) rfl
theorem q1632 : (Jvm.Cond.methodLink "java/lang/AbstractStringBuilder" (219 : Nat) ({ cls := "java/lang/AbstractStringBuilder", name := "getBytes", desc := "([BIB)V" } : Jvm.MethodName)) ∈ lw_all := lw_g (lw_at lw_m7 90 rfl) rfl
theorem q1633 : (Jvm.Cond.instanceMethod ({ cls := "java/lang/AbstractStringBuilder", name := "getBytes", desc := "([BIB)V" } : Jvm.MethodName)) ∈ lw_all := lw_g (lw_at lw_m7 91 rfl) rfl
theorem q1634 : (Jvm.Cond.sameMethod "java/lang/AbstractStringBuilder" "java/lang/AbstractStringBuilder" "getBytes" "([BIB)V") ∈ lw_all := lw_g (lw_at lw_m7 92 rfl) rfl
theorem q1636 : (Jvm.Cond.code ({ cls := "java/lang/AbstractStringBuilder", name := "getBytes", desc := "([BIB)V" } : Jvm.MethodName) prog_20_method_65_code (4 : Nat) (Option.none : Option Jvm.ClassFile.FieldType)) ∈ lw_all := lw_g (lw_at lw_m7 94 rfl) rfl
theorem q1637 : (Jvm.Cond.methodLink "java/lang/AbstractStringBuilder" (309 : Nat) ({ cls := "java/lang/System", name := "arraycopy", desc := "(Ljava/lang/Object;ILjava/lang/Object;II)V" } : Jvm.MethodName)) ∈ lw_all := lw_g (lw_at lw_m7 95 rfl) rfl
theorem q1638 : (Jvm.Cond.interfaceEntry "java/lang/AbstractStringBuilder" (47 : Nat)) ∈ lw_tbl := lw_at lw_m7 96 rfl
theorem q1639 : (Jvm.Cond.methodLink "java/lang/AbstractStringBuilder" (47 : Nat) ({ cls := "java/lang/CharSequence", name := "length", desc := "()I" } : Jvm.MethodName)) ∈ lw_all := lw_g (lw_at lw_m7 97 rfl) rfl
theorem q1640 : (Jvm.Cond.methodLink "java/lang/AbstractStringBuilder" (223 : Nat) ({ cls := "java/lang/AbstractStringBuilder", name := "append", desc := "(Ljava/lang/CharSequence;II)Ljava/lang/AbstractStringBuilder;" } : Jvm.MethodName)) ∈ lw_all := lw_g (lw_at lw_m7 98 rfl) rfl
theorem q1641 : (Jvm.Cond.instanceMethod ({ cls := "java/lang/AbstractStringBuilder", name := "append", desc := "(Ljava/lang/CharSequence;II)Ljava/lang/AbstractStringBuilder;" } : Jvm.MethodName)) ∈ lw_all := lw_g (lw_at lw_m7 99 rfl) rfl
theorem q1642 : (Jvm.Cond.sameMethod "java/lang/AbstractStringBuilder" "java/lang/AbstractStringBuilder" "append" "(Ljava/lang/CharSequence;II)Ljava/lang/AbstractStringBuilder;") ∈ lw_all := lw_g (lw_at lw_m7 100 rfl) rfl
theorem q1651 : (Jvm.Cond.code ({ cls := "java/lang/AbstractStringBuilder", name := "append", desc := "(Ljava/lang/CharSequence;II)Ljava/lang/AbstractStringBuilder;" } : Jvm.MethodName) prog_20_method_27_code (5 : Nat) (Option.some (Jvm.ClassFile.FieldType.object "java/lang/AbstractStringBuilder"))) ∈ lw_all := lw_g (lw_at lw_m7 109 rfl) rfl
theorem q1652 : (Jvm.Cond.stringRef "java/lang/AbstractStringBuilder" (230 : Nat) "null") ∈ lw_tbl := lw_at lw_m7 110 rfl
theorem q1653 : (Jvm.Cond.fieldLink "java/lang/AbstractStringBuilder" (183 : Nat) "jdk/internal/util/Preconditions" "IOOBE_FORMATTER" "Ljava/util/function/BiFunction;") ∈ lw_all := lw_g (lw_at lw_m7 111 rfl) rfl
theorem q1655 : (Jvm.Cond.methodLink "java/lang/AbstractStringBuilder" (161 : Nat) ({ cls := "jdk/internal/util/Preconditions", name := "checkFromToIndex", desc := "(IIILjava/util/function/BiFunction;)I" } : Jvm.MethodName)) ∈ lw_all := lw_g (lw_at lw_m7 113 rfl) rfl
theorem q1656 : (Jvm.Cond.methodLink "java/lang/AbstractStringBuilder" (232 : Nat) ({ cls := "java/lang/AbstractStringBuilder", name := "appendChars", desc := "(Ljava/lang/String;II)V" } : Jvm.MethodName)) ∈ lw_all := lw_g (lw_at lw_m7 114 rfl) rfl
theorem q1657 : (Jvm.Cond.privateMethod ({ cls := "java/lang/AbstractStringBuilder", name := "appendChars", desc := "(Ljava/lang/String;II)V" } : Jvm.MethodName)) ∈ lw_tbl := lw_at lw_m7 115 rfl
theorem q1658 : (Jvm.Cond.instanceMethod ({ cls := "java/lang/AbstractStringBuilder", name := "appendChars", desc := "(Ljava/lang/String;II)V" } : Jvm.MethodName)) ∈ lw_all := lw_g (lw_at lw_m7 116 rfl) rfl
theorem q1659 : (Jvm.Cond.code ({ cls := "java/lang/AbstractStringBuilder", name := "appendChars", desc := "(Ljava/lang/String;II)V" } : Jvm.MethodName) prog_20_method_75_code (8 : Nat) (Option.none : Option Jvm.ClassFile.FieldType)) ∈ lw_all := lw_g (lw_at lw_m7 117 rfl) rfl
theorem q1660 : (Jvm.Cond.methodLink "java/lang/AbstractStringBuilder" (400 : Nat) ({ cls := "java/lang/String", name := "isLatin1", desc := "()Z" } : Jvm.MethodName)) ∈ lw_all := lw_g (lw_at lw_m7 118 rfl) rfl
theorem q1661 : (Jvm.Cond.methodLink "java/lang/AbstractStringBuilder" (401 : Nat) ({ cls := "java/lang/String", name := "value", desc := "()[B" } : Jvm.MethodName)) ∈ lw_all := lw_g (lw_at lw_m7 119 rfl) rfl
theorem q1665 : (Jvm.Cond.methodLink "java/lang/AbstractStringBuilder" (404 : Nat) ({ cls := "java/lang/String", name := "charAt", desc := "(I)C" } : Jvm.MethodName)) ∈ lw_all := lw_g (lw_at lw_m7 123 rfl) rfl
theorem q1666 : (Jvm.Cond.methodLink "java/lang/AbstractStringBuilder" (394 : Nat) ({ cls := "java/lang/StringUTF16", name := "putCharsSB", desc := "([BILjava/lang/CharSequence;II)V" } : Jvm.MethodName)) ∈ lw_all := lw_g (lw_at lw_m7 124 rfl) rfl
theorem q1671 : (Jvm.Cond.methodLink "java/lang/AbstractStringBuilder" (236 : Nat) ({ cls := "java/lang/AbstractStringBuilder", name := "appendChars", desc := "(Ljava/lang/CharSequence;II)V" } : Jvm.MethodName)) ∈ lw_all := lw_g (lw_at lw_m7 129 rfl) rfl
theorem q1672 : (Jvm.Cond.privateMethod ({ cls := "java/lang/AbstractStringBuilder", name := "appendChars", desc := "(Ljava/lang/CharSequence;II)V" } : Jvm.MethodName)) ∈ lw_tbl := lw_at lw_m7 130 rfl
theorem q1673 : (Jvm.Cond.instanceMethod ({ cls := "java/lang/AbstractStringBuilder", name := "appendChars", desc := "(Ljava/lang/CharSequence;II)V" } : Jvm.MethodName)) ∈ lw_all := lw_g (lw_at lw_m7 131 rfl) rfl
theorem q1674 : (Jvm.Cond.code ({ cls := "java/lang/AbstractStringBuilder", name := "appendChars", desc := "(Ljava/lang/CharSequence;II)V" } : Jvm.MethodName) prog_20_method_76_code (8 : Nat) (Option.none : Option Jvm.ClassFile.FieldType)) ∈ lw_all := lw_g (lw_at lw_m7 132 rfl) rfl
theorem q1675 : (Jvm.Cond.interfaceEntry "java/lang/AbstractStringBuilder" (390 : Nat)) ∈ lw_tbl := lw_at lw_m7 133 rfl
theorem q1676 : (Jvm.Cond.methodLink "java/lang/AbstractStringBuilder" (390 : Nat) ({ cls := "java/lang/CharSequence", name := "charAt", desc := "(I)C" } : Jvm.MethodName)) ∈ lw_all := lw_g (lw_at lw_m7 134 rfl) rfl
theorem q2591 : (Jvm.Cond.sameMethod "java/lang/AbstractStringBuilder" "java/lang/AbstractStringBuilder" "length" "()I") ∈ lw_all := lw_g (lw_at lw_m11 89 rfl) rfl
theorem q2592 : (Jvm.Cond.sameMethod "java/lang/AbstractStringBuilder" "java/lang/AbstractStringBuilder" "append" "(C)Ljava/lang/AbstractStringBuilder;") ∈ lw_all := lw_g (lw_at lw_m11 90 rfl) rfl
theorem q2593 : (Jvm.Cond.sameMethod "java/lang/AbstractStringBuilder" "java/lang/AbstractStringBuilder" "ensureCapacityInternal" "(I)V") ∈ lw_all := lw_g (lw_at lw_m11 91 rfl) rfl
theorem q2594 : (Jvm.Cond.sameMethod "java/lang/AbstractStringBuilder" "java/lang/AbstractStringBuilder" "newCapacity" "(I)I") ∈ lw_all := lw_g (lw_at lw_m11 92 rfl) rfl
theorem q2595 : (Jvm.Cond.sameMethod "java/lang/AbstractStringBuilder" "java/lang/AbstractStringBuilder" "inflate" "()V") ∈ lw_all := lw_g (lw_at lw_m11 93 rfl) rfl
theorem q2596 : (Jvm.Cond.sameMethod "java/lang/AbstractStringBuilder" "java/lang/AbstractStringBuilder" "setLength" "(I)V") ∈ lw_all := lw_g (lw_at lw_m11 94 rfl) rfl
theorem q2597 : (Jvm.Cond.sameMethod "java/lang/AbstractStringBuilder" "java/lang/AbstractStringBuilder" "append" "(Ljava/lang/String;)Ljava/lang/AbstractStringBuilder;") ∈ lw_all := lw_g (lw_at lw_m11 95 rfl) rfl
theorem q2598 : (Jvm.Cond.sameMethod "java/lang/AbstractStringBuilder" "java/lang/AbstractStringBuilder" "appendNull" "()Ljava/lang/AbstractStringBuilder;") ∈ lw_all := lw_g (lw_at lw_m11 96 rfl) rfl
theorem q2599 : (Jvm.Cond.sameMethod "java/lang/AbstractStringBuilder" "java/lang/AbstractStringBuilder" "putStringAt" "(ILjava/lang/String;)V") ∈ lw_all := lw_g (lw_at lw_m11 97 rfl) rfl
theorem q2600 : (Jvm.Cond.sameMethod "java/lang/AbstractStringBuilder" "java/lang/AbstractStringBuilder" "inflateIfNeededFor" "(Ljava/lang/String;)V") ∈ lw_all := lw_g (lw_at lw_m11 98 rfl) rfl
theorem q2601 : (Jvm.Cond.sameMethod "java/lang/AbstractStringBuilder" "java/lang/AbstractStringBuilder" "append" "(I)Ljava/lang/AbstractStringBuilder;") ∈ lw_all := lw_g (lw_at lw_m11 99 rfl) rfl
theorem q2603 : (Jvm.Cond.sameMethod "java/lang/AbstractStringBuilder" "java/lang/AbstractStringBuilder" "charAt" "(I)C") ∈ lw_all := lw_g (lw_at lw_m11 101 rfl) rfl
theorem q2606 : (Jvm.Cond.sameMethod "java/lang/AbstractStringBuilder" "java/lang/AbstractStringBuilder" "append" "(Ljava/lang/CharSequence;)Ljava/lang/AbstractStringBuilder;") ∈ lw_all := lw_g (lw_at lw_m11 104 rfl) rfl
theorem q2608 : (Jvm.Cond.sameMethod "java/lang/AbstractStringBuilder" "java/lang/AbstractStringBuilder" "inflateIfNeededFor" "(Ljava/lang/AbstractStringBuilder;)V") ∈ lw_all := lw_g (lw_at lw_m11 106 rfl) rfl
theorem q2609 : (Jvm.Cond.sameMethod "java/lang/AbstractStringBuilder" "java/lang/AbstractStringBuilder" "appendChars" "(Ljava/lang/String;II)V") ∈ lw_all := lw_g (lw_at lw_m11 107 rfl) rfl
theorem q2611 : (Jvm.Cond.sameMethod "java/lang/AbstractStringBuilder" "java/lang/AbstractStringBuilder" "appendChars" "(Ljava/lang/CharSequence;II)V") ∈ lw_all := lw_g (lw_at lw_m11 109 rfl) rfl

/-! java/lang/StringBuilder -/
set_option maxRecDepth 100000
def RJ1 : String := "java/lang/StringBuilder"
def TJ1 : u_T := fun k => match k with
  | 0 => ("java/lang/AbstractStringBuilder", "value", "[B", false)
  | 1 => ("java/lang/AbstractStringBuilder", "coder", "B", false)
  | 2 => ("java/lang/AbstractStringBuilder", "maybeLatin1", "Z", false)
  | _ => ("java/lang/AbstractStringBuilder", "count", "I", false)
def tyJ1 : Nat → FieldType := fun k => match k with
  | 0 => .array .byte
  | 1 => .byte
  | 2 => .boolean
  | _ => .int
abbrev wsJ10 : List Cond := u_ws RJ1 TJ1 4
theorem nmJ1 : ∀ a, a < 4 → ∀ b, b < 4 → a ≠ b → (TJ1 a).2.1 ≠ (TJ1 b).2.1 := by decide +kernel
theorem tyJ1_ok : ∀ k, k < 4 → parseFieldDescriptor (TJ1 k).2.2.1 = some (tyJ1 k) := by decide +kernel
abbrev cJ1_init : ByteArray := prog_38_method_2_code
def yJ1_init : MethodName := ⟨RJ1, "<init>", "(I)V"⟩
def dkwJ1_init_0 : List UInt8 := [42, 27, 183, 0, 1, 177]
abbrev dktJ1_init_0 : List UInt8 := dkwJ1_init_0 ++ []
theorem dksJ1_init_0 : cJ1_init.data.toList.drop 0 = dktJ1_init_0 := by decide +kernel
theorem dJ1_init_0 : decode cJ1_init 0 = .ok (.aload_n 0, 1) := dk_42 (dk_at dksJ1_init_0 0 rfl rfl)
theorem dJ1_init_1 : decode cJ1_init 1 = .ok (.iload_n 1, 1) := dk_27 (dk_at dksJ1_init_0 1 rfl rfl)
theorem dJ1_init_2 : decode cJ1_init 2 = .ok (.invokespecial 1, 3) := dk_183 0 1 (dk_at dksJ1_init_0 2 rfl rfl)
theorem dJ1_init_5 : decode cJ1_init 5 = .ok (.return_, 1) := dk_177 (dk_at dksJ1_init_0 5 rfl rfl)
abbrev cJ1_length : ByteArray := prog_38_method_93_code
def yJ1_length : MethodName := ⟨RJ1, "length", "()I"⟩
theorem dJ1_length_0 : decode cJ1_length 0 = .ok (.aload_n 0, 1) := by decide +kernel
theorem dJ1_length_1 : decode cJ1_length 1 = .ok (.invokespecial 343, 3) := by decide +kernel
theorem dJ1_length_4 : decode cJ1_length 4 = .ok (.ireturn, 1) := by decide +kernel
abbrev cJ1_append : ByteArray := prog_38_method_14_code
def yJ1_append : MethodName := ⟨RJ1, "append", "(C)Ljava/lang/StringBuilder;"⟩
def dkwJ1_append_0 : List UInt8 := [42, 27, 183, 0, 50, 87, 42, 176]
abbrev dktJ1_append_0 : List UInt8 := dkwJ1_append_0 ++ []
theorem dksJ1_append_0 : cJ1_append.data.toList.drop 0 = dktJ1_append_0 := by decide +kernel
theorem dJ1_append_0 : decode cJ1_append 0 = .ok (.aload_n 0, 1) := dk_42 (dk_at dksJ1_append_0 0 rfl rfl)
theorem dJ1_append_1 : decode cJ1_append 1 = .ok (.iload_n 1, 1) := dk_27 (dk_at dksJ1_append_0 1 rfl rfl)
theorem dJ1_append_2 : decode cJ1_append 2 = .ok (.invokespecial 50, 3) := dk_183 0 50 (dk_at dksJ1_append_0 2 rfl rfl)
theorem dJ1_append_5 : decode cJ1_append 5 = .ok (.pop, 1) := dk_87 (dk_at dksJ1_append_0 5 rfl rfl)
theorem dJ1_append_6 : decode cJ1_append 6 = .ok (.aload_n 0, 1) := dk_42 (dk_at dksJ1_append_0 6 rfl rfl)
theorem dJ1_append_7 : decode cJ1_append 7 = .ok (.areturn, 1) := dk_176 (dk_at dksJ1_append_0 7 rfl rfl)
abbrev cJ1_setLength : ByteArray := prog_38_method_89_code
def yJ1_setLength : MethodName := ⟨RJ1, "setLength", "(I)V"⟩
def dkwJ1_setLength_0 : List UInt8 := [42, 27, 183, 1, 77, 177]
abbrev dktJ1_setLength_0 : List UInt8 := dkwJ1_setLength_0 ++ []
theorem dksJ1_setLength_0 : cJ1_setLength.data.toList.drop 0 = dktJ1_setLength_0 := by decide +kernel
theorem dJ1_setLength_0 : decode cJ1_setLength 0 = .ok (.aload_n 0, 1) := dk_42 (dk_at dksJ1_setLength_0 0 rfl rfl)
theorem dJ1_setLength_1 : decode cJ1_setLength 1 = .ok (.iload_n 1, 1) := dk_27 (dk_at dksJ1_setLength_0 1 rfl rfl)
theorem dJ1_setLength_2 : decode cJ1_setLength 2 = .ok (.invokespecial 333, 3) := dk_183 1 77 (dk_at dksJ1_setLength_0 2 rfl rfl)
theorem dJ1_setLength_5 : decode cJ1_setLength 5 = .ok (.return_, 1) := dk_177 (dk_at dksJ1_setLength_0 5 rfl rfl)
abbrev cJ1_init_2 : ByteArray := prog_38_method_1_code
def yJ1_init_2 : MethodName := ⟨RJ1, "<init>", "()V"⟩
def dkwJ1_init_2_0 : List UInt8 := [42, 16, 16, 183, 0, 1, 177]
abbrev dktJ1_init_2_0 : List UInt8 := dkwJ1_init_2_0 ++ []
theorem dksJ1_init_2_0 : cJ1_init_2.data.toList.drop 0 = dktJ1_init_2_0 := by decide +kernel
theorem dJ1_init_2_0 : decode cJ1_init_2 0 = .ok (.aload_n 0, 1) := dk_42 (dk_at dksJ1_init_2_0 0 rfl rfl)
theorem dJ1_init_2_1 : decode cJ1_init_2 1 = .ok (.bipush 16, 2) := dk_16 16 (dk_at dksJ1_init_2_0 1 rfl rfl)
theorem dJ1_init_2_3 : decode cJ1_init_2 3 = .ok (.invokespecial 1, 3) := dk_183 0 1 (dk_at dksJ1_init_2_0 3 rfl rfl)
theorem dJ1_init_2_6 : decode cJ1_init_2 6 = .ok (.return_, 1) := dk_177 (dk_at dksJ1_init_2_0 6 rfl rfl)
abbrev cJ1_append_2 : ByteArray := prog_38_method_7_code
def yJ1_append_2 : MethodName := ⟨RJ1, "append", "(Ljava/lang/String;)Ljava/lang/StringBuilder;"⟩
def dkwJ1_append_2_0 : List UInt8 := [42, 43, 183, 0, 29, 87, 42, 176]
abbrev dktJ1_append_2_0 : List UInt8 := dkwJ1_append_2_0 ++ []
theorem dksJ1_append_2_0 : cJ1_append_2.data.toList.drop 0 = dktJ1_append_2_0 := by decide +kernel
theorem dJ1_append_2_0 : decode cJ1_append_2 0 = .ok (.aload_n 0, 1) := dk_42 (dk_at dksJ1_append_2_0 0 rfl rfl)
theorem dJ1_append_2_1 : decode cJ1_append_2 1 = .ok (.aload_n 1, 1) := dk_43 (dk_at dksJ1_append_2_0 1 rfl rfl)
theorem dJ1_append_2_2 : decode cJ1_append_2 2 = .ok (.invokespecial 29, 3) := dk_183 0 29 (dk_at dksJ1_append_2_0 2 rfl rfl)
theorem dJ1_append_2_5 : decode cJ1_append_2 5 = .ok (.pop, 1) := dk_87 (dk_at dksJ1_append_2_0 5 rfl rfl)
theorem dJ1_append_2_6 : decode cJ1_append_2 6 = .ok (.aload_n 0, 1) := dk_42 (dk_at dksJ1_append_2_0 6 rfl rfl)
theorem dJ1_append_2_7 : decode cJ1_append_2 7 = .ok (.areturn, 1) := dk_176 (dk_at dksJ1_append_2_0 7 rfl rfl)
abbrev cJ1_append_3 : ByteArray := prog_38_method_15_code
def yJ1_append_3 : MethodName := ⟨RJ1, "append", "(I)Ljava/lang/StringBuilder;"⟩
def dkwJ1_append_3_0 : List UInt8 := [42, 27, 183, 0, 53, 87, 42, 176]
abbrev dktJ1_append_3_0 : List UInt8 := dkwJ1_append_3_0 ++ []
theorem dksJ1_append_3_0 : cJ1_append_3.data.toList.drop 0 = dktJ1_append_3_0 := by decide +kernel
theorem dJ1_append_3_0 : decode cJ1_append_3 0 = .ok (.aload_n 0, 1) := dk_42 (dk_at dksJ1_append_3_0 0 rfl rfl)
theorem dJ1_append_3_1 : decode cJ1_append_3 1 = .ok (.iload_n 1, 1) := dk_27 (dk_at dksJ1_append_3_0 1 rfl rfl)
theorem dJ1_append_3_2 : decode cJ1_append_3 2 = .ok (.invokespecial 53, 3) := dk_183 0 53 (dk_at dksJ1_append_3_0 2 rfl rfl)
theorem dJ1_append_3_5 : decode cJ1_append_3 5 = .ok (.pop, 1) := dk_87 (dk_at dksJ1_append_3_0 5 rfl rfl)
theorem dJ1_append_3_6 : decode cJ1_append_3 6 = .ok (.aload_n 0, 1) := dk_42 (dk_at dksJ1_append_3_0 6 rfl rfl)
theorem dJ1_append_3_7 : decode cJ1_append_3 7 = .ok (.areturn, 1) := dk_176 (dk_at dksJ1_append_3_0 7 rfl rfl)
abbrev cJ1_toString : ByteArray := prog_38_method_42_code
def yJ1_toString : MethodName := ⟨RJ1, "toString", "()Ljava/lang/String;"⟩
def dkwJ1_toString_0 : List UInt8 := [187, 0, 18, 89, 42, 183, 0, 137, 176]
abbrev dktJ1_toString_0 : List UInt8 := dkwJ1_toString_0 ++ []
theorem dksJ1_toString_0 : cJ1_toString.data.toList.drop 0 = dktJ1_toString_0 := by decide +kernel
theorem dJ1_toString_0 : decode cJ1_toString 0 = .ok (.new 18, 3) := dk_187 0 18 (dk_at dksJ1_toString_0 0 rfl rfl)
theorem dJ1_toString_3 : decode cJ1_toString 3 = .ok (.dup, 1) := dk_89 (dk_at dksJ1_toString_0 3 rfl rfl)
theorem dJ1_toString_4 : decode cJ1_toString 4 = .ok (.aload_n 0, 1) := dk_42 (dk_at dksJ1_toString_0 4 rfl rfl)
theorem dJ1_toString_5 : decode cJ1_toString 5 = .ok (.invokespecial 137, 3) := dk_183 0 137 (dk_at dksJ1_toString_0 5 rfl rfl)
theorem dJ1_toString_8 : decode cJ1_toString 8 = .ok (.areturn, 1) := dk_176 (dk_at dksJ1_toString_0 8 rfl rfl)
abbrev cJ1_charAt : ByteArray := prog_38_method_88_code
def yJ1_charAt : MethodName := ⟨RJ1, "charAt", "(I)C"⟩
def dkwJ1_charAt_0 : List UInt8 := [42, 27, 183, 1, 73, 172]
abbrev dktJ1_charAt_0 : List UInt8 := dkwJ1_charAt_0 ++ []
theorem dksJ1_charAt_0 : cJ1_charAt.data.toList.drop 0 = dktJ1_charAt_0 := by decide +kernel
theorem dJ1_charAt_0 : decode cJ1_charAt 0 = .ok (.aload_n 0, 1) := dk_42 (dk_at dksJ1_charAt_0 0 rfl rfl)
theorem dJ1_charAt_1 : decode cJ1_charAt 1 = .ok (.iload_n 1, 1) := dk_27 (dk_at dksJ1_charAt_0 1 rfl rfl)
theorem dJ1_charAt_2 : decode cJ1_charAt 2 = .ok (.invokespecial 329, 3) := dk_183 1 73 (dk_at dksJ1_charAt_0 2 rfl rfl)
theorem dJ1_charAt_5 : decode cJ1_charAt 5 = .ok (.ireturn, 1) := dk_172 (dk_at dksJ1_charAt_0 5 rfl rfl)
abbrev cJ1_append_4 : ByteArray := prog_38_method_6_code
def yJ1_append_4 : MethodName := ⟨RJ1, "append", "(Ljava/lang/Object;)Ljava/lang/StringBuilder;"⟩
def dkwJ1_append_4_0 : List UInt8 := [42, 43, 184, 0, 17, 182, 0, 23, 176]
abbrev dktJ1_append_4_0 : List UInt8 := dkwJ1_append_4_0 ++ []
theorem dksJ1_append_4_0 : cJ1_append_4.data.toList.drop 0 = dktJ1_append_4_0 := by decide +kernel
theorem dJ1_append_4_0 : decode cJ1_append_4 0 = .ok (.aload_n 0, 1) := dk_42 (dk_at dksJ1_append_4_0 0 rfl rfl)
theorem dJ1_append_4_1 : decode cJ1_append_4 1 = .ok (.aload_n 1, 1) := dk_43 (dk_at dksJ1_append_4_0 1 rfl rfl)
theorem dJ1_append_4_2 : decode cJ1_append_4 2 = .ok (.invokestatic 17, 3) := dk_184 0 17 (dk_at dksJ1_append_4_0 2 rfl rfl)
theorem dJ1_append_4_5 : decode cJ1_append_4 5 = .ok (.invokevirtual 23, 3) := dk_182 0 23 (dk_at dksJ1_append_4_0 5 rfl rfl)
theorem dJ1_append_4_8 : decode cJ1_append_4 8 = .ok (.areturn, 1) := dk_176 (dk_at dksJ1_append_4_0 8 rfl rfl)
abbrev cJ1_append_5 : ByteArray := prog_38_method_9_code
def yJ1_append_5 : MethodName := ⟨RJ1, "append", "(Ljava/lang/CharSequence;)Ljava/lang/StringBuilder;"⟩
def dkwJ1_append_5_0 : List UInt8 := [42, 43, 183, 0, 35, 87, 42, 176]
abbrev dktJ1_append_5_0 : List UInt8 := dkwJ1_append_5_0 ++ []
theorem dksJ1_append_5_0 : cJ1_append_5.data.toList.drop 0 = dktJ1_append_5_0 := by decide +kernel
theorem dJ1_append_5_0 : decode cJ1_append_5 0 = .ok (.aload_n 0, 1) := dk_42 (dk_at dksJ1_append_5_0 0 rfl rfl)
theorem dJ1_append_5_1 : decode cJ1_append_5 1 = .ok (.aload_n 1, 1) := dk_43 (dk_at dksJ1_append_5_0 1 rfl rfl)
theorem dJ1_append_5_2 : decode cJ1_append_5 2 = .ok (.invokespecial 35, 3) := dk_183 0 35 (dk_at dksJ1_append_5_0 2 rfl rfl)
theorem dJ1_append_5_5 : decode cJ1_append_5 5 = .ok (.pop, 1) := dk_87 (dk_at dksJ1_append_5_0 5 rfl rfl)
theorem dJ1_append_5_6 : decode cJ1_append_5 6 = .ok (.aload_n 0, 1) := dk_42 (dk_at dksJ1_append_5_0 6 rfl rfl)
theorem dJ1_append_5_7 : decode cJ1_append_5 7 = .ok (.areturn, 1) := dk_176 (dk_at dksJ1_append_5_0 7 rfl rfl)
abbrev cJ1_append_6 : ByteArray := prog_38_method_80_code
def yJ1_append_6 : MethodName := ⟨RJ1, "append", "(Ljava/lang/String;)Ljava/lang/AbstractStringBuilder;"⟩
def dkwJ1_append_6_0 : List UInt8 := [42, 43, 182, 0, 23, 176]
abbrev dktJ1_append_6_0 : List UInt8 := dkwJ1_append_6_0 ++ []
theorem dksJ1_append_6_0 : cJ1_append_6.data.toList.drop 0 = dktJ1_append_6_0 := by decide +kernel
theorem dJ1_append_6_0 : decode cJ1_append_6 0 = .ok (.aload_n 0, 1) := dk_42 (dk_at dksJ1_append_6_0 0 rfl rfl)
theorem dJ1_append_6_1 : decode cJ1_append_6 1 = .ok (.aload_n 1, 1) := dk_43 (dk_at dksJ1_append_6_0 1 rfl rfl)
theorem dJ1_append_6_2 : decode cJ1_append_6 2 = .ok (.invokevirtual 23, 3) := dk_182 0 23 (dk_at dksJ1_append_6_0 2 rfl rfl)
theorem dJ1_append_6_5 : decode cJ1_append_6 5 = .ok (.areturn, 1) := dk_176 (dk_at dksJ1_append_6_0 5 rfl rfl)
abbrev cJ1_append_7 : ByteArray := prog_38_method_77_code
def yJ1_append_7 : MethodName := ⟨RJ1, "append", "(Ljava/lang/CharSequence;II)Ljava/lang/AbstractStringBuilder;"⟩
def dkwJ1_append_7_0 : List UInt8 := [42, 43, 28, 29, 182, 1, 40, 176]
abbrev dktJ1_append_7_0 : List UInt8 := dkwJ1_append_7_0 ++ []
theorem dksJ1_append_7_0 : cJ1_append_7.data.toList.drop 0 = dktJ1_append_7_0 := by decide +kernel
theorem dJ1_append_7_0 : decode cJ1_append_7 0 = .ok (.aload_n 0, 1) := dk_42 (dk_at dksJ1_append_7_0 0 rfl rfl)
theorem dJ1_append_7_1 : decode cJ1_append_7 1 = .ok (.aload_n 1, 1) := dk_43 (dk_at dksJ1_append_7_0 1 rfl rfl)
theorem dJ1_append_7_2 : decode cJ1_append_7 2 = .ok (.iload_n 2, 1) := dk_28 (dk_at dksJ1_append_7_0 2 rfl rfl)
theorem dJ1_append_7_3 : decode cJ1_append_7 3 = .ok (.iload_n 3, 1) := dk_29 (dk_at dksJ1_append_7_0 3 rfl rfl)
theorem dJ1_append_7_4 : decode cJ1_append_7 4 = .ok (.invokevirtual 296, 3) := dk_182 1 40 (dk_at dksJ1_append_7_0 4 rfl rfl)
theorem dJ1_append_7_7 : decode cJ1_append_7 7 = .ok (.areturn, 1) := dk_176 (dk_at dksJ1_append_7_0 7 rfl rfl)
abbrev cJ1_append_8 : ByteArray := prog_38_method_10_code
def yJ1_append_8 : MethodName := ⟨RJ1, "append", "(Ljava/lang/CharSequence;II)Ljava/lang/StringBuilder;"⟩
def dkwJ1_append_8_0 : List UInt8 := [42, 43, 28, 29, 183, 0, 38, 87, 42, 176]
abbrev dktJ1_append_8_0 : List UInt8 := dkwJ1_append_8_0 ++ []
theorem dksJ1_append_8_0 : cJ1_append_8.data.toList.drop 0 = dktJ1_append_8_0 := by decide +kernel
theorem dJ1_append_8_0 : decode cJ1_append_8 0 = .ok (.aload_n 0, 1) := dk_42 (dk_at dksJ1_append_8_0 0 rfl rfl)
theorem dJ1_append_8_1 : decode cJ1_append_8 1 = .ok (.aload_n 1, 1) := dk_43 (dk_at dksJ1_append_8_0 1 rfl rfl)
theorem dJ1_append_8_2 : decode cJ1_append_8 2 = .ok (.iload_n 2, 1) := dk_28 (dk_at dksJ1_append_8_0 2 rfl rfl)
theorem dJ1_append_8_3 : decode cJ1_append_8 3 = .ok (.iload_n 3, 1) := dk_29 (dk_at dksJ1_append_8_0 3 rfl rfl)
theorem dJ1_append_8_4 : decode cJ1_append_8 4 = .ok (.invokespecial 38, 3) := dk_183 0 38 (dk_at dksJ1_append_8_0 4 rfl rfl)
theorem dJ1_append_8_7 : decode cJ1_append_8 7 = .ok (.pop, 1) := dk_87 (dk_at dksJ1_append_8_0 7 rfl rfl)
theorem dJ1_append_8_8 : decode cJ1_append_8 8 = .ok (.aload_n 0, 1) := dk_42 (dk_at dksJ1_append_8_0 8 rfl rfl)
theorem dJ1_append_8_9 : decode cJ1_append_8 9 = .ok (.areturn, 1) := dk_176 (dk_at dksJ1_append_8_0 9 rfl rfl)
theorem q105 : (Jvm.Cond.initialized "java/lang/StringBuilder") ∈ lw_all := lw_g (lw_at lw_m1 3 rfl) rfl
theorem q165 : (Jvm.Cond.instantiable "java/lang/StringBuilder" (4 : Nat)) ∈ lw_all := lw_g (lw_at lw_m1 63 rfl) rfl
theorem q167 : (Jvm.Cond.instanceMethod ({ cls := "java/lang/StringBuilder", name := "<init>", desc := "(I)V" } : Jvm.MethodName)) ∈ lw_all := lw_g (lw_at lw_m1 65 rfl) rfl
theorem q168 : (Jvm.Cond.code ({ cls := "java/lang/StringBuilder", name := "<init>", desc := "(I)V" } : Jvm.MethodName) prog_38_method_2_code (2 : Nat) (Option.none : Option Jvm.ClassFile.FieldType)) ∈ lw_all := lw_g (lw_at lw_m1 66 rfl) rfl
theorem q169 : (Jvm.Cond.methodLink "java/lang/StringBuilder" (1 : Nat) ({ cls := "java/lang/AbstractStringBuilder", name := "<init>", desc := "(I)V" } : Jvm.MethodName)) ∈ lw_all := lw_g (lw_at lw_m1 67 rfl) rfl
theorem q271 : (Jvm.Cond.lays "java/lang/StringBuilder" "java/lang/AbstractStringBuilder" "value" "[B") ∈ lw_all := lw_g (lw_at lw_m1 169 rfl) rfl
theorem q273 : (Jvm.Cond.lays "java/lang/StringBuilder" "java/lang/AbstractStringBuilder" "coder" "B") ∈ lw_all := lw_g (lw_at lw_m1 171 rfl) rfl
theorem q275 : (Jvm.Cond.lays "java/lang/StringBuilder" "java/lang/AbstractStringBuilder" "maybeLatin1" "Z") ∈ lw_all := lw_g (lw_at lw_m1 173 rfl) rfl
theorem q277 : (Jvm.Cond.lays "java/lang/StringBuilder" "java/lang/AbstractStringBuilder" "count" "I") ∈ lw_all := lw_g (lw_at lw_m1 175 rfl) rfl
theorem q279 : (Jvm.Cond.superclass "java/lang/StringBuilder" "java/lang/AbstractStringBuilder") ∈ lw_all := lw_g (lw_at lw_m1 177 rfl) rfl
theorem q594 : (Jvm.Cond.selects "java/lang/StringBuilder" ({ cls := "java/lang/Object", name := "getClass", desc := "()Ljava/lang/Class;" } : Jvm.MethodName) ({ cls := "java/lang/Object", name := "getClass", desc := "()Ljava/lang/Class;" } : Jvm.MethodName)) ∈ lw_all := lw_g (lw_at lw_m3 12 rfl) rfl
theorem q644 : (Jvm.Cond.instanceMethod ({ cls := "java/lang/StringBuilder", name := "length", desc := "()I" } : Jvm.MethodName)) ∈ lw_all := lw_g (lw_at lw_m3 62 rfl) rfl
theorem q645 : (Jvm.Cond.selects "java/lang/StringBuilder" ({ cls := "java/lang/StringBuilder", name := "length", desc := "()I" } : Jvm.MethodName) ({ cls := "java/lang/StringBuilder", name := "length", desc := "()I" } : Jvm.MethodName)) ∈ lw_all := lw_g (lw_at lw_m3 63 rfl) rfl
theorem q646 : (Jvm.Cond.code ({ cls := "java/lang/StringBuilder", name := "length", desc := "()I" } : Jvm.MethodName) prog_38_method_93_code (1 : Nat) (Option.some Jvm.ClassFile.FieldType.int)) ∈ lw_all := lw_g (lw_at lw_m3 64 rfl) rfl
theorem q647 : (Jvm.Cond.methodLink "java/lang/StringBuilder" (343 : Nat) ({ cls := "java/lang/AbstractStringBuilder", name := "length", desc := "()I" } : Jvm.MethodName)) ∈ lw_all := lw_g (lw_at lw_m3 65 rfl) rfl
theorem q651 : (Jvm.Cond.instanceMethod ({ cls := "java/lang/StringBuilder", name := "append", desc := "(C)Ljava/lang/StringBuilder;" } : Jvm.MethodName)) ∈ lw_all := lw_g (lw_at lw_m3 69 rfl) rfl
theorem q652 : (Jvm.Cond.selects "java/lang/StringBuilder" ({ cls := "java/lang/StringBuilder", name := "append", desc := "(C)Ljava/lang/StringBuilder;" } : Jvm.MethodName) ({ cls := "java/lang/StringBuilder", name := "append", desc := "(C)Ljava/lang/StringBuilder;" } : Jvm.MethodName)) ∈ lw_all := lw_g (lw_at lw_m3 70 rfl) rfl
theorem q653 : (Jvm.Cond.code ({ cls := "java/lang/StringBuilder", name := "append", desc := "(C)Ljava/lang/StringBuilder;" } : Jvm.MethodName) prog_38_method_14_code (2 : Nat) (Option.some (Jvm.ClassFile.FieldType.object "java/lang/StringBuilder"))) ∈ lw_all := lw_g (lw_at lw_m3 71 rfl) rfl
theorem q654 : (Jvm.Cond.methodLink "java/lang/StringBuilder" (50 : Nat) ({ cls := "java/lang/AbstractStringBuilder", name := "append", desc := "(C)Ljava/lang/AbstractStringBuilder;" } : Jvm.MethodName)) ∈ lw_all := lw_g (lw_at lw_m3 72 rfl) rfl
theorem q678 : (Jvm.Cond.selects "java/lang/StringBuilder" ({ cls := "java/lang/AbstractStringBuilder", name := "isLatin1", desc := "()Z" } : Jvm.MethodName) ({ cls := "java/lang/AbstractStringBuilder", name := "isLatin1", desc := "()Z" } : Jvm.MethodName)) ∈ lw_all := lw_g (lw_at lw_m3 96 rfl) rfl
theorem q731 : (Jvm.Cond.instanceMethod ({ cls := "java/lang/StringBuilder", name := "setLength", desc := "(I)V" } : Jvm.MethodName)) ∈ lw_all := lw_g (lw_at lw_m3 149 rfl) rfl
theorem q732 : (Jvm.Cond.selects "java/lang/StringBuilder" ({ cls := "java/lang/StringBuilder", name := "setLength", desc := "(I)V" } : Jvm.MethodName) ({ cls := "java/lang/StringBuilder", name := "setLength", desc := "(I)V" } : Jvm.MethodName)) ∈ lw_all := lw_g (lw_at lw_m3 150 rfl) rfl
theorem q733 : (Jvm.Cond.code ({ cls := "java/lang/StringBuilder", name := "setLength", desc := "(I)V" } : Jvm.MethodName) prog_38_method_89_code (2 : Nat) (Option.none : Option Jvm.ClassFile.FieldType)) ∈ lw_all := lw_g (lw_at lw_m3 151 rfl) rfl
theorem q734 : (Jvm.Cond.methodLink "java/lang/StringBuilder" (333 : Nat) ({ cls := "java/lang/AbstractStringBuilder", name := "setLength", desc := "(I)V" } : Jvm.MethodName)) ∈ lw_all := lw_g (lw_at lw_m3 152 rfl) rfl
theorem q744 : (Jvm.Cond.instanceMethod ({ cls := "java/lang/StringBuilder", name := "<init>", desc := "()V" } : Jvm.MethodName)) ∈ lw_all := lw_g (lw_at lw_m3 162 rfl) rfl
theorem q745 : (Jvm.Cond.code ({ cls := "java/lang/StringBuilder", name := "<init>", desc := "()V" } : Jvm.MethodName) prog_38_method_1_code (1 : Nat) (Option.none : Option Jvm.ClassFile.FieldType)) ∈ lw_all := lw_g (lw_at lw_m3 163 rfl) rfl
theorem q748 : (Jvm.Cond.instanceMethod ({ cls := "java/lang/StringBuilder", name := "append", desc := "(Ljava/lang/String;)Ljava/lang/StringBuilder;" } : Jvm.MethodName)) ∈ lw_all := lw_g (lw_at lw_m3 166 rfl) rfl
theorem q749 : (Jvm.Cond.selects "java/lang/StringBuilder" ({ cls := "java/lang/StringBuilder", name := "append", desc := "(Ljava/lang/String;)Ljava/lang/StringBuilder;" } : Jvm.MethodName) ({ cls := "java/lang/StringBuilder", name := "append", desc := "(Ljava/lang/String;)Ljava/lang/StringBuilder;" } : Jvm.MethodName)) ∈ lw_all := lw_g (lw_at lw_m3 167 rfl) rfl
theorem q750 : (Jvm.Cond.code ({ cls := "java/lang/StringBuilder", name := "append", desc := "(Ljava/lang/String;)Ljava/lang/StringBuilder;" } : Jvm.MethodName) prog_38_method_7_code (2 : Nat) (Option.some (Jvm.ClassFile.FieldType.object "java/lang/StringBuilder"))) ∈ lw_all := lw_g (lw_at lw_m3 168 rfl) rfl
theorem q751 : (Jvm.Cond.methodLink "java/lang/StringBuilder" (29 : Nat) ({ cls := "java/lang/AbstractStringBuilder", name := "append", desc := "(Ljava/lang/String;)Ljava/lang/AbstractStringBuilder;" } : Jvm.MethodName)) ∈ lw_all := lw_g (lw_at lw_m3 169 rfl) rfl
theorem q795 : (Jvm.Cond.instanceMethod ({ cls := "java/lang/StringBuilder", name := "append", desc := "(I)Ljava/lang/StringBuilder;" } : Jvm.MethodName)) ∈ lw_all := lw_g (lw_at lw_m3 213 rfl) rfl
theorem q796 : (Jvm.Cond.selects "java/lang/StringBuilder" ({ cls := "java/lang/StringBuilder", name := "append", desc := "(I)Ljava/lang/StringBuilder;" } : Jvm.MethodName) ({ cls := "java/lang/StringBuilder", name := "append", desc := "(I)Ljava/lang/StringBuilder;" } : Jvm.MethodName)) ∈ lw_all := lw_g (lw_at lw_m3 214 rfl) rfl
theorem q797 : (Jvm.Cond.code ({ cls := "java/lang/StringBuilder", name := "append", desc := "(I)Ljava/lang/StringBuilder;" } : Jvm.MethodName) prog_38_method_15_code (2 : Nat) (Option.some (Jvm.ClassFile.FieldType.object "java/lang/StringBuilder"))) ∈ lw_all := lw_g (lw_at lw_m3 215 rfl) rfl
theorem q798 : (Jvm.Cond.methodLink "java/lang/StringBuilder" (53 : Nat) ({ cls := "java/lang/AbstractStringBuilder", name := "append", desc := "(I)Ljava/lang/AbstractStringBuilder;" } : Jvm.MethodName)) ∈ lw_all := lw_g (lw_at lw_m3 216 rfl) rfl
theorem q820 : (Jvm.Cond.instanceMethod ({ cls := "java/lang/StringBuilder", name := "toString", desc := "()Ljava/lang/String;" } : Jvm.MethodName)) ∈ lw_all := lw_g (lw_at lw_m3 238 rfl) rfl
theorem q821 : (Jvm.Cond.selects "java/lang/StringBuilder" ({ cls := "java/lang/StringBuilder", name := "toString", desc := "()Ljava/lang/String;" } : Jvm.MethodName) ({ cls := "java/lang/StringBuilder", name := "toString", desc := "()Ljava/lang/String;" } : Jvm.MethodName)) ∈ lw_all := lw_g (lw_at lw_m3 239 rfl) rfl
theorem q822 : (Jvm.Cond.code ({ cls := "java/lang/StringBuilder", name := "toString", desc := "()Ljava/lang/String;" } : Jvm.MethodName) prog_38_method_42_code (1 : Nat) (Option.some (Jvm.ClassFile.FieldType.object "java/lang/String"))) ∈ lw_all := lw_g (lw_at lw_m4 0 rfl) rfl
theorem q823 : (Jvm.Cond.classLink "java/lang/StringBuilder" (18 : Nat) "java/lang/String") ∈ lw_all := lw_g (lw_at lw_m4 1 rfl) rfl
theorem q824 : (Jvm.Cond.methodLink "java/lang/StringBuilder" (137 : Nat) ({ cls := "java/lang/String", name := "<init>", desc := "(Ljava/lang/StringBuilder;)V" } : Jvm.MethodName)) ∈ lw_all := lw_g (lw_at lw_m4 2 rfl) rfl
theorem q834 : (Jvm.Cond.selects "java/lang/StringBuilder" ({ cls := "java/lang/AbstractStringBuilder", name := "getValue", desc := "()[B" } : Jvm.MethodName) ({ cls := "java/lang/AbstractStringBuilder", name := "getValue", desc := "()[B" } : Jvm.MethodName)) ∈ lw_all := lw_g (lw_at lw_m4 12 rfl) rfl
theorem q958 : (Jvm.Cond.castable "java/lang/StringBuilder" "java/lang/CharSequence") ∈ lw_tbl := lw_at lw_m4 136 rfl
theorem q959 : (Jvm.Cond.selects "java/lang/StringBuilder" ({ cls := "java/lang/CharSequence", name := "length", desc := "()I" } : Jvm.MethodName) ({ cls := "java/lang/StringBuilder", name := "length", desc := "()I" } : Jvm.MethodName)) ∈ lw_all := lw_g (lw_at lw_m4 137 rfl) rfl
theorem q960 : (Jvm.Cond.unhidden "java/lang/StringBuilder" "length" "()I") ∈ lw_tbl := lw_at lw_m4 138 rfl
theorem q961 : (Jvm.Cond.publicMethod ({ cls := "java/lang/StringBuilder", name := "length", desc := "()I" } : Jvm.MethodName)) ∈ lw_tbl := lw_at lw_m4 139 rfl
theorem q982 : (Jvm.Cond.selects "java/lang/StringBuilder" ({ cls := "java/lang/CharSequence", name := "charAt", desc := "(I)C" } : Jvm.MethodName) ({ cls := "java/lang/StringBuilder", name := "charAt", desc := "(I)C" } : Jvm.MethodName)) ∈ lw_all := lw_g (lw_at lw_m4 160 rfl) rfl
theorem q983 : (Jvm.Cond.unhidden "java/lang/StringBuilder" "charAt" "(I)C") ∈ lw_tbl := lw_at lw_m4 161 rfl
theorem q984 : (Jvm.Cond.instanceMethod ({ cls := "java/lang/StringBuilder", name := "charAt", desc := "(I)C" } : Jvm.MethodName)) ∈ lw_all := lw_g (lw_at lw_m4 162 rfl) rfl
theorem q985 : (Jvm.Cond.publicMethod ({ cls := "java/lang/StringBuilder", name := "charAt", desc := "(I)C" } : Jvm.MethodName)) ∈ lw_tbl := lw_at lw_m4 163 rfl
theorem q986 : (Jvm.Cond.code ({ cls := "java/lang/StringBuilder", name := "charAt", desc := "(I)C" } : Jvm.MethodName) prog_38_method_88_code (2 : Nat) (Option.some Jvm.ClassFile.FieldType.char)) ∈ lw_all := lw_g (lw_at lw_m4 164 rfl) rfl
theorem q987 : (Jvm.Cond.methodLink "java/lang/StringBuilder" (329 : Nat) ({ cls := "java/lang/AbstractStringBuilder", name := "charAt", desc := "(I)C" } : Jvm.MethodName)) ∈ lw_all := lw_g (lw_at lw_m4 165 rfl) rfl
theorem q1522 : (Jvm.Cond.instanceMethod ({ cls := "java/lang/StringBuilder", name := "append", desc := "(Ljava/lang/Object;)Ljava/lang/StringBuilder;" } : Jvm.MethodName)) ∈ lw_all := lw_g (lw_at lw_m6 220 rfl) rfl
theorem q1523 : (Jvm.Cond.selects "java/lang/StringBuilder" ({ cls := "java/lang/StringBuilder", name := "append", desc := "(Ljava/lang/Object;)Ljava/lang/StringBuilder;" } : Jvm.MethodName) ({ cls := "java/lang/StringBuilder", name := "append", desc := "(Ljava/lang/Object;)Ljava/lang/StringBuilder;" } : Jvm.MethodName)) ∈ lw_all := lw_g (lw_at lw_m6 221 rfl) rfl
theorem q1524 : (Jvm.Cond.code ({ cls := "java/lang/StringBuilder", name := "append", desc := "(Ljava/lang/Object;)Ljava/lang/StringBuilder;" } : Jvm.MethodName) prog_38_method_6_code (2 : Nat) (Option.some (Jvm.ClassFile.FieldType.object "java/lang/StringBuilder"))) ∈ lw_all := lw_g (lw_at lw_m6 222 rfl) rfl
theorem q1525 : (Jvm.Cond.methodLink "java/lang/StringBuilder" (17 : Nat) ({ cls := "java/lang/String", name := "valueOf", desc := "(Ljava/lang/Object;)Ljava/lang/String;" } : Jvm.MethodName)) ∈ lw_all := lw_g (lw_at lw_m6 223 rfl) rfl
theorem q1591 : (Jvm.Cond.selects "java/lang/StringBuilder" ({ cls := "java/lang/Object", name := "toString", desc := "()Ljava/lang/String;" } : Jvm.MethodName) ({ cls := "java/lang/StringBuilder", name := "toString", desc := "()Ljava/lang/String;" } : Jvm.MethodName)) ∈ lw_all := lw_g (lw_at lw_m7 49 rfl) rfl
theorem q1594 : (Jvm.Cond.methodLink "java/lang/StringBuilder" (23 : Nat) ({ cls := "java/lang/StringBuilder", name := "append", desc := "(Ljava/lang/String;)Ljava/lang/StringBuilder;" } : Jvm.MethodName)) ∈ lw_all := lw_g (lw_at lw_m7 52 rfl) rfl
theorem q1606 : (Jvm.Cond.instanceMethod ({ cls := "java/lang/StringBuilder", name := "append", desc := "(Ljava/lang/CharSequence;)Ljava/lang/StringBuilder;" } : Jvm.MethodName)) ∈ lw_all := lw_g (lw_at lw_m7 64 rfl) rfl
theorem q1607 : (Jvm.Cond.selects "java/lang/StringBuilder" ({ cls := "java/lang/StringBuilder", name := "append", desc := "(Ljava/lang/CharSequence;)Ljava/lang/StringBuilder;" } : Jvm.MethodName) ({ cls := "java/lang/StringBuilder", name := "append", desc := "(Ljava/lang/CharSequence;)Ljava/lang/StringBuilder;" } : Jvm.MethodName)) ∈ lw_all := lw_g (lw_at lw_m7 65 rfl) rfl
theorem q1608 : (Jvm.Cond.code ({ cls := "java/lang/StringBuilder", name := "append", desc := "(Ljava/lang/CharSequence;)Ljava/lang/StringBuilder;" } : Jvm.MethodName) prog_38_method_9_code (2 : Nat) (Option.some (Jvm.ClassFile.FieldType.object "java/lang/StringBuilder"))) ∈ lw_all := lw_g (lw_at lw_m7 66 rfl) rfl
theorem q1609 : (Jvm.Cond.methodLink "java/lang/StringBuilder" (35 : Nat) ({ cls := "java/lang/AbstractStringBuilder", name := "append", desc := "(Ljava/lang/CharSequence;)Ljava/lang/AbstractStringBuilder;" } : Jvm.MethodName)) ∈ lw_all := lw_g (lw_at lw_m7 67 rfl) rfl
theorem q1614 : (Jvm.Cond.instanceMethod ({ cls := "java/lang/StringBuilder", name := "append", desc := "(Ljava/lang/String;)Ljava/lang/AbstractStringBuilder;" } : Jvm.MethodName)) ∈ lw_all := lw_g (lw_at lw_m7 72 rfl) rfl
theorem q1615 : (Jvm.Cond.code ({ cls := "java/lang/StringBuilder", name := "append", desc := "(Ljava/lang/String;)Ljava/lang/AbstractStringBuilder;" } : Jvm.MethodName) prog_38_method_80_code (2 : Nat) (Option.some (Jvm.ClassFile.FieldType.object "java/lang/AbstractStringBuilder"))) ∈ lw_all := lw_g (lw_at lw_m7 73 rfl) rfl
theorem q1620 : (Jvm.Cond.selects "java/lang/StringBuilder" ({ cls := "java/lang/AbstractStringBuilder", name := "append", desc := "(Ljava/lang/AbstractStringBuilder;)Ljava/lang/AbstractStringBuilder;" } : Jvm.MethodName) ({ cls := "java/lang/AbstractStringBuilder", name := "append", desc := "(Ljava/lang/AbstractStringBuilder;)Ljava/lang/AbstractStringBuilder;" } : Jvm.MethodName)) ∈ lw_all := lw_g (lw_at lw_m7 78 rfl) rfl
theorem q1630 : (Jvm.Cond.selects "java/lang/StringBuilder" ({ cls := "java/lang/AbstractStringBuilder", name := "getCoder", desc := "()B" } : Jvm.MethodName) ({ cls := "java/lang/AbstractStringBuilder", name := "getCoder", desc := "()B" } : Jvm.MethodName)) ∈ lw_all := lw_g (lw_at lw_m7 88 rfl) rfl
theorem q1635 : (Jvm.Cond.selects "java/lang/StringBuilder" ({ cls := "java/lang/AbstractStringBuilder", name := "getBytes", desc := "([BIB)V" } : Jvm.MethodName) ({ cls := "java/lang/AbstractStringBuilder", name := "getBytes", desc := "([BIB)V" } : Jvm.MethodName)) ∈ lw_all := lw_g (lw_at lw_m7 93 rfl) rfl
theorem q1643 : (Jvm.Cond.selects "java/lang/StringBuilder" ({ cls := "java/lang/AbstractStringBuilder", name := "append", desc := "(Ljava/lang/CharSequence;II)Ljava/lang/AbstractStringBuilder;" } : Jvm.MethodName) ({ cls := "java/lang/StringBuilder", name := "append", desc := "(Ljava/lang/CharSequence;II)Ljava/lang/AbstractStringBuilder;" } : Jvm.MethodName)) ∈ lw_all := lw_g (lw_at lw_m7 101 rfl) rfl
theorem q1644 : (Jvm.Cond.instanceMethod ({ cls := "java/lang/StringBuilder", name := "append", desc := "(Ljava/lang/CharSequence;II)Ljava/lang/AbstractStringBuilder;" } : Jvm.MethodName)) ∈ lw_all := lw_g (lw_at lw_m7 102 rfl) rfl
theorem q1645 : (Jvm.Cond.code ({ cls := "java/lang/StringBuilder", name := "append", desc := "(Ljava/lang/CharSequence;II)Ljava/lang/AbstractStringBuilder;" } : Jvm.MethodName) prog_38_method_77_code (4 : Nat) (Option.some (Jvm.ClassFile.FieldType.object "java/lang/AbstractStringBuilder"))) ∈ lw_all := lw_g (lw_at lw_m7 103 rfl) rfl
theorem q1646 : (Jvm.Cond.methodLink "java/lang/StringBuilder" (296 : Nat) ({ cls := "java/lang/StringBuilder", name := "append", desc := "(Ljava/lang/CharSequence;II)Ljava/lang/StringBuilder;" } : Jvm.MethodName)) ∈ lw_all := lw_g (lw_at lw_m7 104 rfl) rfl
theorem q1647 : (Jvm.Cond.instanceMethod ({ cls := "java/lang/StringBuilder", name := "append", desc := "(Ljava/lang/CharSequence;II)Ljava/lang/StringBuilder;" } : Jvm.MethodName)) ∈ lw_all := lw_g (lw_at lw_m7 105 rfl) rfl
theorem q1648 : (Jvm.Cond.selects "java/lang/StringBuilder" ({ cls := "java/lang/StringBuilder", name := "append", desc := "(Ljava/lang/CharSequence;II)Ljava/lang/StringBuilder;" } : Jvm.MethodName) ({ cls := "java/lang/StringBuilder", name := "append", desc := "(Ljava/lang/CharSequence;II)Ljava/lang/StringBuilder;" } : Jvm.MethodName)) ∈ lw_all := lw_g (lw_at lw_m7 106 rfl) rfl
theorem q1649 : (Jvm.Cond.code ({ cls := "java/lang/StringBuilder", name := "append", desc := "(Ljava/lang/CharSequence;II)Ljava/lang/StringBuilder;" } : Jvm.MethodName) prog_38_method_10_code (4 : Nat) (Option.some (Jvm.ClassFile.FieldType.object "java/lang/StringBuilder"))) ∈ lw_all := lw_g (lw_at lw_m7 107 rfl) rfl
theorem q1650 : (Jvm.Cond.methodLink "java/lang/StringBuilder" (38 : Nat) ({ cls := "java/lang/AbstractStringBuilder", name := "append", desc := "(Ljava/lang/CharSequence;II)Ljava/lang/AbstractStringBuilder;" } : Jvm.MethodName)) ∈ lw_all := lw_g (lw_at lw_m7 108 rfl) rfl
theorem q2602 : (Jvm.Cond.selects "java/lang/StringBuilder" ({ cls := "java/lang/AbstractStringBuilder", name := "length", desc := "()I" } : Jvm.MethodName) ({ cls := "java/lang/StringBuilder", name := "length", desc := "()I" } : Jvm.MethodName)) ∈ lw_all := lw_g (lw_at lw_m11 100 rfl) rfl
theorem q2607 : (Jvm.Cond.selects "java/lang/StringBuilder" ({ cls := "java/lang/AbstractStringBuilder", name := "append", desc := "(Ljava/lang/String;)Ljava/lang/AbstractStringBuilder;" } : Jvm.MethodName) ({ cls := "java/lang/StringBuilder", name := "append", desc := "(Ljava/lang/String;)Ljava/lang/AbstractStringBuilder;" } : Jvm.MethodName)) ∈ lw_all := lw_g (lw_at lw_m11 105 rfl) rfl
theorem q2626 : (Jvm.Cond.castable "java/lang/StringBuilder" "java/lang/AbstractStringBuilder") ∈ lw_tbl := lw_at lw_m11 124 rfl
theorem q2630 : (Jvm.Cond.castable "java/lang/StringBuilder" "java/lang/Object") ∈ lw_tbl := lw_at lw_m11 128 rfl
theorem in_J1 : ∀ w ∈ wsJ10, w ∈ lw_all := lw_in wsJ10 [271, 273, 275, 277] (by decide +kernel) (by decide +kernel)

/-! java/lang/String -/
set_option maxRecDepth 100000
def RJ2 : String := "java/lang/String"
def TJ2 : u_T := fun k => match k with
  | 0 => ("java/lang/String", "value", "[B", true)
  | 1 => ("java/lang/String", "coder", "B", true)
  | 2 => ("java/lang/String", "hash", "I", false)
  | _ => ("java/lang/String", "hashIsZero", "Z", false)
def tyJ2 : Nat → FieldType := fun k => match k with
  | 0 => .array .byte
  | 1 => .byte
  | 2 => .int
  | _ => .boolean
abbrev wsJ20 : List Cond := u_ws RJ2 TJ2 4
theorem nmJ2 : ∀ a, a < 4 → ∀ b, b < 4 → a ≠ b → (TJ2 a).2.1 ≠ (TJ2 b).2.1 := by decide +kernel
theorem tyJ2_ok : ∀ k, k < 4 → parseFieldDescriptor (TJ2 k).2.2.1 = some (tyJ2 k) := by decide +kernel
abbrev cJ2_checkBoundsOffCount : ByteArray := prog_37_method_157_code
def yJ2_checkBoundsOffCount : MethodName := ⟨RJ2, "checkBoundsOffCount", "(III)I"⟩
def dkwJ2_checkBoundsOffCount_0 : List UInt8 := [26, 27, 28, 178, 4, 29, 184, 4, 41, 172]
abbrev dktJ2_checkBoundsOffCount_0 : List UInt8 := dkwJ2_checkBoundsOffCount_0 ++ []
theorem dksJ2_checkBoundsOffCount_0 : cJ2_checkBoundsOffCount.data.toList.drop 0 = dktJ2_checkBoundsOffCount_0 := by decide +kernel
theorem dJ2_checkBoundsOffCount_0 : decode cJ2_checkBoundsOffCount 0 = .ok (.iload_n 0, 1) := dk_26 (dk_at dksJ2_checkBoundsOffCount_0 0 rfl rfl)
theorem dJ2_checkBoundsOffCount_1 : decode cJ2_checkBoundsOffCount 1 = .ok (.iload_n 1, 1) := dk_27 (dk_at dksJ2_checkBoundsOffCount_0 1 rfl rfl)
theorem dJ2_checkBoundsOffCount_2 : decode cJ2_checkBoundsOffCount 2 = .ok (.iload_n 2, 1) := dk_28 (dk_at dksJ2_checkBoundsOffCount_0 2 rfl rfl)
theorem dJ2_checkBoundsOffCount_3 : decode cJ2_checkBoundsOffCount 3 = .ok (.getstatic 1053, 3) := dk_178 4 29 (dk_at dksJ2_checkBoundsOffCount_0 3 rfl rfl)
theorem dJ2_checkBoundsOffCount_6 : decode cJ2_checkBoundsOffCount 6 = .ok (.invokestatic 1065, 3) := dk_184 4 41 (dk_at dksJ2_checkBoundsOffCount_0 6 rfl rfl)
theorem dJ2_checkBoundsOffCount_9 : decode cJ2_checkBoundsOffCount 9 = .ok (.ireturn, 1) := dk_172 (dk_at dksJ2_checkBoundsOffCount_0 9 rfl rfl)
abbrev cJ2_checkIndex : ByteArray := prog_37_method_155_code
def yJ2_checkIndex : MethodName := ⟨RJ2, "checkIndex", "(II)V"⟩
def dkwJ2_checkIndex_0 : List UInt8 := [26, 27, 178, 4, 29, 184, 4, 35, 87, 177]
abbrev dktJ2_checkIndex_0 : List UInt8 := dkwJ2_checkIndex_0 ++ []
theorem dksJ2_checkIndex_0 : cJ2_checkIndex.data.toList.drop 0 = dktJ2_checkIndex_0 := by decide +kernel
theorem dJ2_checkIndex_0 : decode cJ2_checkIndex 0 = .ok (.iload_n 0, 1) := dk_26 (dk_at dksJ2_checkIndex_0 0 rfl rfl)
theorem dJ2_checkIndex_1 : decode cJ2_checkIndex 1 = .ok (.iload_n 1, 1) := dk_27 (dk_at dksJ2_checkIndex_0 1 rfl rfl)
theorem dJ2_checkIndex_2 : decode cJ2_checkIndex 2 = .ok (.getstatic 1053, 3) := dk_178 4 29 (dk_at dksJ2_checkIndex_0 2 rfl rfl)
theorem dJ2_checkIndex_5 : decode cJ2_checkIndex 5 = .ok (.invokestatic 1059, 3) := dk_184 4 35 (dk_at dksJ2_checkIndex_0 5 rfl rfl)
theorem dJ2_checkIndex_8 : decode cJ2_checkIndex 8 = .ok (.pop, 1) := dk_87 (dk_at dksJ2_checkIndex_0 8 rfl rfl)
theorem dJ2_checkIndex_9 : decode cJ2_checkIndex 9 = .ok (.return_, 1) := dk_177 (dk_at dksJ2_checkIndex_0 9 rfl rfl)
abbrev cJ2_checkBoundsBeginEnd : ByteArray := prog_37_method_158_code
def yJ2_checkBoundsBeginEnd : MethodName := ⟨RJ2, "checkBoundsBeginEnd", "(III)V"⟩
def dkwJ2_checkBoundsBeginEnd_0 : List UInt8 := [26, 27, 28, 178, 4, 29, 184, 4, 38, 87, 177]
abbrev dktJ2_checkBoundsBeginEnd_0 : List UInt8 := dkwJ2_checkBoundsBeginEnd_0 ++ []
theorem dksJ2_checkBoundsBeginEnd_0 : cJ2_checkBoundsBeginEnd.data.toList.drop 0 = dktJ2_checkBoundsBeginEnd_0 := by decide +kernel
theorem dJ2_checkBoundsBeginEnd_0 : decode cJ2_checkBoundsBeginEnd 0 = .ok (.iload_n 0, 1) := dk_26 (dk_at dksJ2_checkBoundsBeginEnd_0 0 rfl rfl)
theorem dJ2_checkBoundsBeginEnd_1 : decode cJ2_checkBoundsBeginEnd 1 = .ok (.iload_n 1, 1) := dk_27 (dk_at dksJ2_checkBoundsBeginEnd_0 1 rfl rfl)
theorem dJ2_checkBoundsBeginEnd_2 : decode cJ2_checkBoundsBeginEnd 2 = .ok (.iload_n 2, 1) := dk_28 (dk_at dksJ2_checkBoundsBeginEnd_0 2 rfl rfl)
theorem dJ2_checkBoundsBeginEnd_3 : decode cJ2_checkBoundsBeginEnd 3 = .ok (.getstatic 1053, 3) := dk_178 4 29 (dk_at dksJ2_checkBoundsBeginEnd_0 3 rfl rfl)
theorem dJ2_checkBoundsBeginEnd_6 : decode cJ2_checkBoundsBeginEnd 6 = .ok (.invokestatic 1062, 3) := dk_184 4 38 (dk_at dksJ2_checkBoundsBeginEnd_0 6 rfl rfl)
theorem dJ2_checkBoundsBeginEnd_9 : decode cJ2_checkBoundsBeginEnd 9 = .ok (.pop, 1) := dk_87 (dk_at dksJ2_checkBoundsBeginEnd_0 9 rfl rfl)
theorem dJ2_checkBoundsBeginEnd_10 : decode cJ2_checkBoundsBeginEnd 10 = .ok (.return_, 1) := dk_177 (dk_at dksJ2_checkBoundsBeginEnd_0 10 rfl rfl)
abbrev cJ2_length : ByteArray := prog_37_method_54_code
def yJ2_length : MethodName := ⟨RJ2, "length", "()I"⟩
def dkwJ2_length_0 : List UInt8 := [42, 180, 0, 9, 190, 42, 182, 1, 79, 122, 172]
abbrev dktJ2_length_0 : List UInt8 := dkwJ2_length_0 ++ []
theorem dksJ2_length_0 : cJ2_length.data.toList.drop 0 = dktJ2_length_0 := by decide +kernel
theorem dJ2_length_0 : decode cJ2_length 0 = .ok (.aload_n 0, 1) := dk_42 (dk_at dksJ2_length_0 0 rfl rfl)
theorem dJ2_length_1 : decode cJ2_length 1 = .ok (.getfield 9, 3) := dk_180 0 9 (dk_at dksJ2_length_0 1 rfl rfl)
theorem dJ2_length_4 : decode cJ2_length 4 = .ok (.arraylength, 1) := dk_190 (dk_at dksJ2_length_0 4 rfl rfl)
theorem dJ2_length_5 : decode cJ2_length 5 = .ok (.aload_n 0, 1) := dk_42 (dk_at dksJ2_length_0 5 rfl rfl)
theorem dJ2_length_6 : decode cJ2_length 6 = .ok (.invokevirtual 335, 3) := dk_182 1 79 (dk_at dksJ2_length_0 6 rfl rfl)
theorem dJ2_length_9 : decode cJ2_length 9 = .ok (.ishr, 1) := dk_122 (dk_at dksJ2_length_0 9 rfl rfl)
theorem dJ2_length_10 : decode cJ2_length 10 = .ok (.ireturn, 1) := dk_172 (dk_at dksJ2_length_0 10 rfl rfl)
abbrev cJ2_coder : ByteArray := prog_37_method_152_code
def yJ2_coder : MethodName := ⟨RJ2, "coder", "()B"⟩
def dkwJ2_coder_0 : List UInt8 := [178, 0, 38, 153, 0, 10, 42, 180, 0, 15, 167, 0, 4, 4, 172]
abbrev dktJ2_coder_0 : List UInt8 := dkwJ2_coder_0 ++ []
theorem dksJ2_coder_0 : cJ2_coder.data.toList.drop 0 = dktJ2_coder_0 := by decide +kernel
theorem dJ2_coder_0 : decode cJ2_coder 0 = .ok (.getstatic 38, 3) := dk_178 0 38 (dk_at dksJ2_coder_0 0 rfl rfl)
theorem dJ2_coder_3 : decode cJ2_coder 3 = .ok (.ifCond .eq 10, 3) := dk_153 0 10 (dk_at dksJ2_coder_0 3 rfl rfl)
theorem dJ2_coder_6 : decode cJ2_coder 6 = .ok (.aload_n 0, 1) := dk_42 (dk_at dksJ2_coder_0 6 rfl rfl)
theorem dJ2_coder_7 : decode cJ2_coder 7 = .ok (.getfield 15, 3) := dk_180 0 15 (dk_at dksJ2_coder_0 7 rfl rfl)
theorem dJ2_coder_10 : decode cJ2_coder 10 = .ok (.goto 4, 3) := dk_167 0 4 (dk_at dksJ2_coder_0 10 rfl rfl)
theorem dJ2_coder_13 : decode cJ2_coder 13 = .ok (.iconst 1, 1) := dk_4 (dk_at dksJ2_coder_0 13 rfl rfl)
theorem dJ2_coder_14 : decode cJ2_coder 14 = .ok (.ireturn, 1) := dk_172 (dk_at dksJ2_coder_0 14 rfl rfl)
abbrev cJ2_getBytes : ByteArray := prog_37_method_147_code
def yJ2_getBytes : MethodName := ⟨RJ2, "getBytes", "([BIB)V"⟩
def dkwJ2_getBytes_1 : List UInt8 := [184, 0, 212, 167, 0, 18, 42, 180, 0, 9, 3, 43, 28, 42, 180, 0, 9, 190, 184, 0, 106, 177]
abbrev dktJ2_getBytes_1 : List UInt8 := dkwJ2_getBytes_1 ++ []
def dkwJ2_getBytes_0 : List UInt8 := [42, 182, 1, 79, 29, 160, 0, 23, 42, 180, 0, 9, 3, 43, 28, 29, 120, 42, 180, 0, 9, 190]
abbrev dktJ2_getBytes_0 : List UInt8 := dkwJ2_getBytes_0 ++ dktJ2_getBytes_1
theorem dksJ2_getBytes_0 : cJ2_getBytes.data.toList.drop 0 = dktJ2_getBytes_0 := by decide +kernel
theorem dksJ2_getBytes_1 : cJ2_getBytes.data.toList.drop 22 = dktJ2_getBytes_1 := dk_seg dksJ2_getBytes_0 22 rfl rfl
theorem dJ2_getBytes_0 : decode cJ2_getBytes 0 = .ok (.aload_n 0, 1) := dk_42 (dk_at dksJ2_getBytes_0 0 rfl rfl)
theorem dJ2_getBytes_1 : decode cJ2_getBytes 1 = .ok (.invokevirtual 335, 3) := dk_182 1 79 (dk_at dksJ2_getBytes_0 1 rfl rfl)
theorem dJ2_getBytes_4 : decode cJ2_getBytes 4 = .ok (.iload_n 3, 1) := dk_29 (dk_at dksJ2_getBytes_0 4 rfl rfl)
theorem dJ2_getBytes_5 : decode cJ2_getBytes 5 = .ok (.if_icmp .ne 23, 3) := dk_160 0 23 (dk_at dksJ2_getBytes_0 5 rfl rfl)
theorem dJ2_getBytes_8 : decode cJ2_getBytes 8 = .ok (.aload_n 0, 1) := dk_42 (dk_at dksJ2_getBytes_0 8 rfl rfl)
theorem dJ2_getBytes_9 : decode cJ2_getBytes 9 = .ok (.getfield 9, 3) := dk_180 0 9 (dk_at dksJ2_getBytes_0 9 rfl rfl)
theorem dJ2_getBytes_12 : decode cJ2_getBytes 12 = .ok (.iconst 0, 1) := dk_3 (dk_at dksJ2_getBytes_0 12 rfl rfl)
theorem dJ2_getBytes_13 : decode cJ2_getBytes 13 = .ok (.aload_n 1, 1) := dk_43 (dk_at dksJ2_getBytes_0 13 rfl rfl)
theorem dJ2_getBytes_14 : decode cJ2_getBytes 14 = .ok (.iload_n 2, 1) := dk_28 (dk_at dksJ2_getBytes_0 14 rfl rfl)
theorem dJ2_getBytes_15 : decode cJ2_getBytes 15 = .ok (.iload_n 3, 1) := dk_29 (dk_at dksJ2_getBytes_0 15 rfl rfl)
theorem dJ2_getBytes_16 : decode cJ2_getBytes 16 = .ok (.ishl, 1) := dk_120 (dk_at dksJ2_getBytes_0 16 rfl rfl)
theorem dJ2_getBytes_17 : decode cJ2_getBytes 17 = .ok (.aload_n 0, 1) := dk_42 (dk_at dksJ2_getBytes_0 17 rfl rfl)
theorem dJ2_getBytes_18 : decode cJ2_getBytes 18 = .ok (.getfield 9, 3) := dk_180 0 9 (dk_at dksJ2_getBytes_0 18 rfl rfl)
theorem dJ2_getBytes_21 : decode cJ2_getBytes 21 = .ok (.arraylength, 1) := dk_190 (dk_at dksJ2_getBytes_0 21 rfl rfl)
theorem dJ2_getBytes_22 : decode cJ2_getBytes 22 = .ok (.invokestatic 212, 3) := dk_184 0 212 (dk_at dksJ2_getBytes_1 0 rfl rfl)
theorem dJ2_getBytes_25 : decode cJ2_getBytes 25 = .ok (.goto 18, 3) := dk_167 0 18 (dk_at dksJ2_getBytes_1 3 rfl rfl)
theorem dJ2_getBytes_28 : decode cJ2_getBytes 28 = .ok (.aload_n 0, 1) := dk_42 (dk_at dksJ2_getBytes_1 6 rfl rfl)
theorem dJ2_getBytes_29 : decode cJ2_getBytes 29 = .ok (.getfield 9, 3) := dk_180 0 9 (dk_at dksJ2_getBytes_1 7 rfl rfl)
theorem dJ2_getBytes_32 : decode cJ2_getBytes 32 = .ok (.iconst 0, 1) := dk_3 (dk_at dksJ2_getBytes_1 10 rfl rfl)
theorem dJ2_getBytes_33 : decode cJ2_getBytes 33 = .ok (.aload_n 1, 1) := dk_43 (dk_at dksJ2_getBytes_1 11 rfl rfl)
theorem dJ2_getBytes_34 : decode cJ2_getBytes 34 = .ok (.iload_n 2, 1) := dk_28 (dk_at dksJ2_getBytes_1 12 rfl rfl)
theorem dJ2_getBytes_35 : decode cJ2_getBytes 35 = .ok (.aload_n 0, 1) := dk_42 (dk_at dksJ2_getBytes_1 13 rfl rfl)
theorem dJ2_getBytes_36 : decode cJ2_getBytes 36 = .ok (.getfield 9, 3) := dk_180 0 9 (dk_at dksJ2_getBytes_1 14 rfl rfl)
theorem dJ2_getBytes_39 : decode cJ2_getBytes 39 = .ok (.arraylength, 1) := dk_190 (dk_at dksJ2_getBytes_1 17 rfl rfl)
theorem dJ2_getBytes_40 : decode cJ2_getBytes 40 = .ok (.invokestatic 106, 3) := dk_184 0 106 (dk_at dksJ2_getBytes_1 18 rfl rfl)
theorem dJ2_getBytes_43 : decode cJ2_getBytes 43 = .ok (.return_, 1) := dk_177 (dk_at dksJ2_getBytes_1 21 rfl rfl)
abbrev cJ2_init : ByteArray := prog_37_method_53_code
def yJ2_init : MethodName := ⟨RJ2, "<init>", "(Ljava/lang/StringBuilder;)V"⟩
def dkwJ2_init_0 : List UInt8 := [42, 43, 1, 183, 1, 233, 177]
abbrev dktJ2_init_0 : List UInt8 := dkwJ2_init_0 ++ []
theorem dksJ2_init_0 : cJ2_init.data.toList.drop 0 = dktJ2_init_0 := by decide +kernel
theorem dJ2_init_0 : decode cJ2_init 0 = .ok (.aload_n 0, 1) := dk_42 (dk_at dksJ2_init_0 0 rfl rfl)
theorem dJ2_init_1 : decode cJ2_init 1 = .ok (.aload_n 1, 1) := dk_43 (dk_at dksJ2_init_0 1 rfl rfl)
theorem dJ2_init_2 : decode cJ2_init 2 = .ok (.aconst_null, 1) := dk_1 (dk_at dksJ2_init_0 2 rfl rfl)
theorem dJ2_init_3 : decode cJ2_init 3 = .ok (.invokespecial 489, 3) := dk_183 1 233 (dk_at dksJ2_init_0 3 rfl rfl)
theorem dJ2_init_6 : decode cJ2_init 6 = .ok (.return_, 1) := dk_177 (dk_at dksJ2_init_0 6 rfl rfl)
abbrev cJ2_init_2 : ByteArray := prog_37_method_150_code
def yJ2_init_2 : MethodName := ⟨RJ2, "<init>", "(Ljava/lang/AbstractStringBuilder;Ljava/lang/Void;)V"⟩
def dkwJ2_init_2_4 : List UInt8 := [181, 0, 9, 177]
abbrev dktJ2_init_2_4 : List UInt8 := dkwJ2_init_2_4 ++ []
def dkwJ2_init_2_3 : List UInt8 := [184, 0, 47, 181, 0, 15, 177, 42, 4, 181, 0, 15, 42, 45, 3, 21, 4, 4, 120, 184, 0, 54]
abbrev dktJ2_init_2_3 : List UInt8 := dkwJ2_init_2_3 ++ dktJ2_init_2_4
def dkwJ2_init_2_2 : List UInt8 := [180, 4, 24, 153, 0, 28, 42, 45, 3, 21, 4, 184, 4, 27, 181, 0, 9, 42, 42, 180, 0, 9, 21, 4]
abbrev dktJ2_init_2_2 : List UInt8 := dkwJ2_init_2_2 ++ dktJ2_init_2_3
def dkwJ2_init_2_1 : List UInt8 := [181, 0, 15, 42, 45, 3, 21, 4, 184, 0, 54, 181, 0, 9, 167, 0, 59, 178, 0, 38, 153, 0, 35, 43]
abbrev dktJ2_init_2_1 : List UInt8 := dkwJ2_init_2_1 ++ dktJ2_init_2_2
def dkwJ2_init_2_0 : List UInt8 := [42, 183, 0, 1, 43, 182, 2, 40, 78, 43, 182, 2, 37, 54, 4, 43, 182, 4, 23, 153, 0, 22, 42, 3]
abbrev dktJ2_init_2_0 : List UInt8 := dkwJ2_init_2_0 ++ dktJ2_init_2_1
theorem dksJ2_init_2_0 : cJ2_init_2.data.toList.drop 0 = dktJ2_init_2_0 := by decide +kernel
theorem dksJ2_init_2_1 : cJ2_init_2.data.toList.drop 24 = dktJ2_init_2_1 := dk_seg dksJ2_init_2_0 24 rfl rfl
theorem dksJ2_init_2_2 : cJ2_init_2.data.toList.drop 48 = dktJ2_init_2_2 := dk_seg dksJ2_init_2_1 24 rfl rfl
theorem dksJ2_init_2_3 : cJ2_init_2.data.toList.drop 72 = dktJ2_init_2_3 := dk_seg dksJ2_init_2_2 24 rfl rfl
theorem dksJ2_init_2_4 : cJ2_init_2.data.toList.drop 94 = dktJ2_init_2_4 := dk_seg dksJ2_init_2_3 22 rfl rfl
theorem dJ2_init_2_0 : decode cJ2_init_2 0 = .ok (.aload_n 0, 1) := dk_42 (dk_at dksJ2_init_2_0 0 rfl rfl)
theorem dJ2_init_2_1 : decode cJ2_init_2 1 = .ok (.invokespecial 1, 3) := dk_183 0 1 (dk_at dksJ2_init_2_0 1 rfl rfl)
theorem dJ2_init_2_4 : decode cJ2_init_2 4 = .ok (.aload_n 1, 1) := dk_43 (dk_at dksJ2_init_2_0 4 rfl rfl)
theorem dJ2_init_2_5 : decode cJ2_init_2 5 = .ok (.invokevirtual 552, 3) := dk_182 2 40 (dk_at dksJ2_init_2_0 5 rfl rfl)
theorem dJ2_init_2_8 : decode cJ2_init_2 8 = .ok (.astore_n 3, 1) := dk_78 (dk_at dksJ2_init_2_0 8 rfl rfl)
theorem dJ2_init_2_9 : decode cJ2_init_2 9 = .ok (.aload_n 1, 1) := dk_43 (dk_at dksJ2_init_2_0 9 rfl rfl)
theorem dJ2_init_2_10 : decode cJ2_init_2 10 = .ok (.invokevirtual 549, 3) := dk_182 2 37 (dk_at dksJ2_init_2_0 10 rfl rfl)
theorem dJ2_init_2_13 : decode cJ2_init_2 13 = .ok (.istore 4, 2) := dk_54 4 (dk_at dksJ2_init_2_0 13 rfl rfl)
theorem dJ2_init_2_15 : decode cJ2_init_2 15 = .ok (.aload_n 1, 1) := dk_43 (dk_at dksJ2_init_2_0 15 rfl rfl)
theorem dJ2_init_2_16 : decode cJ2_init_2 16 = .ok (.invokevirtual 1047, 3) := dk_182 4 23 (dk_at dksJ2_init_2_0 16 rfl rfl)
theorem dJ2_init_2_19 : decode cJ2_init_2 19 = .ok (.ifCond .eq 22, 3) := dk_153 0 22 (dk_at dksJ2_init_2_0 19 rfl rfl)
theorem dJ2_init_2_22 : decode cJ2_init_2 22 = .ok (.aload_n 0, 1) := dk_42 (dk_at dksJ2_init_2_0 22 rfl rfl)
theorem dJ2_init_2_23 : decode cJ2_init_2 23 = .ok (.iconst 0, 1) := dk_3 (dk_at dksJ2_init_2_0 23 rfl rfl)
theorem dJ2_init_2_24 : decode cJ2_init_2 24 = .ok (.putfield 15, 3) := dk_181 0 15 (dk_at dksJ2_init_2_1 0 rfl rfl)
theorem dJ2_init_2_27 : decode cJ2_init_2 27 = .ok (.aload_n 0, 1) := dk_42 (dk_at dksJ2_init_2_1 3 rfl rfl)
theorem dJ2_init_2_28 : decode cJ2_init_2 28 = .ok (.aload_n 3, 1) := dk_45 (dk_at dksJ2_init_2_1 4 rfl rfl)
theorem dJ2_init_2_29 : decode cJ2_init_2 29 = .ok (.iconst 0, 1) := dk_3 (dk_at dksJ2_init_2_1 5 rfl rfl)
theorem dJ2_init_2_30 : decode cJ2_init_2 30 = .ok (.iload 4, 2) := dk_21 4 (dk_at dksJ2_init_2_1 6 rfl rfl)
theorem dJ2_init_2_32 : decode cJ2_init_2 32 = .ok (.invokestatic 54, 3) := dk_184 0 54 (dk_at dksJ2_init_2_1 8 rfl rfl)
theorem dJ2_init_2_35 : decode cJ2_init_2 35 = .ok (.putfield 9, 3) := dk_181 0 9 (dk_at dksJ2_init_2_1 11 rfl rfl)
theorem dJ2_init_2_38 : decode cJ2_init_2 38 = .ok (.goto 59, 3) := dk_167 0 59 (dk_at dksJ2_init_2_1 14 rfl rfl)
theorem dJ2_init_2_41 : decode cJ2_init_2 41 = .ok (.getstatic 38, 3) := dk_178 0 38 (dk_at dksJ2_init_2_1 17 rfl rfl)
theorem dJ2_init_2_44 : decode cJ2_init_2 44 = .ok (.ifCond .eq 35, 3) := dk_153 0 35 (dk_at dksJ2_init_2_1 20 rfl rfl)
theorem dJ2_init_2_47 : decode cJ2_init_2 47 = .ok (.aload_n 1, 1) := dk_43 (dk_at dksJ2_init_2_1 23 rfl rfl)
theorem dJ2_init_2_48 : decode cJ2_init_2 48 = .ok (.getfield 1048, 3) := dk_180 4 24 (dk_at dksJ2_init_2_2 0 rfl rfl)
theorem dJ2_init_2_51 : decode cJ2_init_2 51 = .ok (.ifCond .eq 28, 3) := dk_153 0 28 (dk_at dksJ2_init_2_2 3 rfl rfl)
theorem dJ2_init_2_54 : decode cJ2_init_2 54 = .ok (.aload_n 0, 1) := dk_42 (dk_at dksJ2_init_2_2 6 rfl rfl)
theorem dJ2_init_2_55 : decode cJ2_init_2 55 = .ok (.aload_n 3, 1) := dk_45 (dk_at dksJ2_init_2_2 7 rfl rfl)
theorem dJ2_init_2_56 : decode cJ2_init_2 56 = .ok (.iconst 0, 1) := dk_3 (dk_at dksJ2_init_2_2 8 rfl rfl)
theorem dJ2_init_2_57 : decode cJ2_init_2 57 = .ok (.iload 4, 2) := dk_21 4 (dk_at dksJ2_init_2_2 9 rfl rfl)
theorem dJ2_init_2_59 : decode cJ2_init_2 59 = .ok (.invokestatic 1051, 3) := dk_184 4 27 (dk_at dksJ2_init_2_2 11 rfl rfl)
theorem dJ2_init_2_62 : decode cJ2_init_2 62 = .ok (.putfield 9, 3) := dk_181 0 9 (dk_at dksJ2_init_2_2 14 rfl rfl)
theorem dJ2_init_2_65 : decode cJ2_init_2 65 = .ok (.aload_n 0, 1) := dk_42 (dk_at dksJ2_init_2_2 17 rfl rfl)
theorem dJ2_init_2_66 : decode cJ2_init_2 66 = .ok (.aload_n 0, 1) := dk_42 (dk_at dksJ2_init_2_2 18 rfl rfl)
theorem dJ2_init_2_67 : decode cJ2_init_2 67 = .ok (.getfield 9, 3) := dk_180 0 9 (dk_at dksJ2_init_2_2 19 rfl rfl)
theorem dJ2_init_2_70 : decode cJ2_init_2 70 = .ok (.iload 4, 2) := dk_21 4 (dk_at dksJ2_init_2_2 22 rfl rfl)
theorem dJ2_init_2_72 : decode cJ2_init_2 72 = .ok (.invokestatic 47, 3) := dk_184 0 47 (dk_at dksJ2_init_2_3 0 rfl rfl)
theorem dJ2_init_2_75 : decode cJ2_init_2 75 = .ok (.putfield 15, 3) := dk_181 0 15 (dk_at dksJ2_init_2_3 3 rfl rfl)
theorem dJ2_init_2_78 : decode cJ2_init_2 78 = .ok (.return_, 1) := dk_177 (dk_at dksJ2_init_2_3 6 rfl rfl)
theorem dJ2_init_2_79 : decode cJ2_init_2 79 = .ok (.aload_n 0, 1) := dk_42 (dk_at dksJ2_init_2_3 7 rfl rfl)
theorem dJ2_init_2_80 : decode cJ2_init_2 80 = .ok (.iconst 1, 1) := dk_4 (dk_at dksJ2_init_2_3 8 rfl rfl)
theorem dJ2_init_2_81 : decode cJ2_init_2 81 = .ok (.putfield 15, 3) := dk_181 0 15 (dk_at dksJ2_init_2_3 9 rfl rfl)
theorem dJ2_init_2_84 : decode cJ2_init_2 84 = .ok (.aload_n 0, 1) := dk_42 (dk_at dksJ2_init_2_3 12 rfl rfl)
theorem dJ2_init_2_85 : decode cJ2_init_2 85 = .ok (.aload_n 3, 1) := dk_45 (dk_at dksJ2_init_2_3 13 rfl rfl)
theorem dJ2_init_2_86 : decode cJ2_init_2 86 = .ok (.iconst 0, 1) := dk_3 (dk_at dksJ2_init_2_3 14 rfl rfl)
theorem dJ2_init_2_87 : decode cJ2_init_2 87 = .ok (.iload 4, 2) := dk_21 4 (dk_at dksJ2_init_2_3 15 rfl rfl)
theorem dJ2_init_2_89 : decode cJ2_init_2 89 = .ok (.iconst 1, 1) := dk_4 (dk_at dksJ2_init_2_3 17 rfl rfl)
theorem dJ2_init_2_90 : decode cJ2_init_2 90 = .ok (.ishl, 1) := dk_120 (dk_at dksJ2_init_2_3 18 rfl rfl)
theorem dJ2_init_2_91 : decode cJ2_init_2 91 = .ok (.invokestatic 54, 3) := dk_184 0 54 (dk_at dksJ2_init_2_3 19 rfl rfl)
theorem dJ2_init_2_94 : decode cJ2_init_2 94 = .ok (.putfield 9, 3) := dk_181 0 9 (dk_at dksJ2_init_2_4 0 rfl rfl)
theorem dJ2_init_2_97 : decode cJ2_init_2 97 = .ok (.return_, 1) := dk_177 (dk_at dksJ2_init_2_4 3 rfl rfl)
abbrev cJ2_charAt : ByteArray := prog_37_method_56_code
def yJ2_charAt : MethodName := ⟨RJ2, "charAt", "(I)C"⟩
def dkwJ2_charAt_1 : List UInt8 := [172]
abbrev dktJ2_charAt_1 : List UInt8 := dkwJ2_charAt_1 ++ []
def dkwJ2_charAt_0 : List UInt8 := [42, 182, 1, 236, 153, 0, 12, 42, 180, 0, 9, 27, 184, 1, 239, 172, 42, 180, 0, 9, 27, 184, 1, 242]
abbrev dktJ2_charAt_0 : List UInt8 := dkwJ2_charAt_0 ++ dktJ2_charAt_1
theorem dksJ2_charAt_0 : cJ2_charAt.data.toList.drop 0 = dktJ2_charAt_0 := by decide +kernel
theorem dksJ2_charAt_1 : cJ2_charAt.data.toList.drop 24 = dktJ2_charAt_1 := dk_seg dksJ2_charAt_0 24 rfl rfl
theorem dJ2_charAt_0 : decode cJ2_charAt 0 = .ok (.aload_n 0, 1) := dk_42 (dk_at dksJ2_charAt_0 0 rfl rfl)
theorem dJ2_charAt_1 : decode cJ2_charAt 1 = .ok (.invokevirtual 492, 3) := dk_182 1 236 (dk_at dksJ2_charAt_0 1 rfl rfl)
theorem dJ2_charAt_4 : decode cJ2_charAt 4 = .ok (.ifCond .eq 12, 3) := dk_153 0 12 (dk_at dksJ2_charAt_0 4 rfl rfl)
theorem dJ2_charAt_7 : decode cJ2_charAt 7 = .ok (.aload_n 0, 1) := dk_42 (dk_at dksJ2_charAt_0 7 rfl rfl)
theorem dJ2_charAt_8 : decode cJ2_charAt 8 = .ok (.getfield 9, 3) := dk_180 0 9 (dk_at dksJ2_charAt_0 8 rfl rfl)
theorem dJ2_charAt_11 : decode cJ2_charAt 11 = .ok (.iload_n 1, 1) := dk_27 (dk_at dksJ2_charAt_0 11 rfl rfl)
theorem dJ2_charAt_12 : decode cJ2_charAt 12 = .ok (.invokestatic 495, 3) := dk_184 1 239 (dk_at dksJ2_charAt_0 12 rfl rfl)
theorem dJ2_charAt_15 : decode cJ2_charAt 15 = .ok (.ireturn, 1) := dk_172 (dk_at dksJ2_charAt_0 15 rfl rfl)
theorem dJ2_charAt_16 : decode cJ2_charAt 16 = .ok (.aload_n 0, 1) := dk_42 (dk_at dksJ2_charAt_0 16 rfl rfl)
theorem dJ2_charAt_17 : decode cJ2_charAt 17 = .ok (.getfield 9, 3) := dk_180 0 9 (dk_at dksJ2_charAt_0 17 rfl rfl)
theorem dJ2_charAt_20 : decode cJ2_charAt 20 = .ok (.iload_n 1, 1) := dk_27 (dk_at dksJ2_charAt_0 20 rfl rfl)
theorem dJ2_charAt_21 : decode cJ2_charAt 21 = .ok (.invokestatic 498, 3) := dk_184 1 242 (dk_at dksJ2_charAt_0 21 rfl rfl)
theorem dJ2_charAt_24 : decode cJ2_charAt 24 = .ok (.ireturn, 1) := dk_172 (dk_at dksJ2_charAt_1 0 rfl rfl)
abbrev cJ2_isLatin1 : ByteArray := prog_37_method_154_code
def yJ2_isLatin1 : MethodName := ⟨RJ2, "isLatin1", "()Z"⟩
def dkwJ2_isLatin1_0 : List UInt8 := [178, 0, 38, 153, 0, 14, 42, 180, 0, 15, 154, 0, 7, 4, 167, 0, 4, 3, 172]
abbrev dktJ2_isLatin1_0 : List UInt8 := dkwJ2_isLatin1_0 ++ []
theorem dksJ2_isLatin1_0 : cJ2_isLatin1.data.toList.drop 0 = dktJ2_isLatin1_0 := by decide +kernel
theorem dJ2_isLatin1_0 : decode cJ2_isLatin1 0 = .ok (.getstatic 38, 3) := dk_178 0 38 (dk_at dksJ2_isLatin1_0 0 rfl rfl)
theorem dJ2_isLatin1_3 : decode cJ2_isLatin1 3 = .ok (.ifCond .eq 14, 3) := dk_153 0 14 (dk_at dksJ2_isLatin1_0 3 rfl rfl)
theorem dJ2_isLatin1_6 : decode cJ2_isLatin1 6 = .ok (.aload_n 0, 1) := dk_42 (dk_at dksJ2_isLatin1_0 6 rfl rfl)
theorem dJ2_isLatin1_7 : decode cJ2_isLatin1 7 = .ok (.getfield 15, 3) := dk_180 0 15 (dk_at dksJ2_isLatin1_0 7 rfl rfl)
theorem dJ2_isLatin1_10 : decode cJ2_isLatin1 10 = .ok (.ifCond .ne 7, 3) := dk_154 0 7 (dk_at dksJ2_isLatin1_0 10 rfl rfl)
theorem dJ2_isLatin1_13 : decode cJ2_isLatin1 13 = .ok (.iconst 1, 1) := dk_4 (dk_at dksJ2_isLatin1_0 13 rfl rfl)
theorem dJ2_isLatin1_14 : decode cJ2_isLatin1 14 = .ok (.goto 4, 3) := dk_167 0 4 (dk_at dksJ2_isLatin1_0 14 rfl rfl)
theorem dJ2_isLatin1_17 : decode cJ2_isLatin1 17 = .ok (.iconst 0, 1) := dk_3 (dk_at dksJ2_isLatin1_0 17 rfl rfl)
theorem dJ2_isLatin1_18 : decode cJ2_isLatin1 18 = .ok (.ireturn, 1) := dk_172 (dk_at dksJ2_isLatin1_0 18 rfl rfl)
abbrev cJ2_valueOf : ByteArray := prog_37_method_133_code
def yJ2_valueOf : MethodName := ⟨RJ2, "valueOf", "(Ljava/lang/Object;)Ljava/lang/String;"⟩
def dkwJ2_valueOf_0 : List UInt8 := [42, 199, 0, 9, 19, 3, 237, 167, 0, 7, 42, 182, 3, 239, 176]
abbrev dktJ2_valueOf_0 : List UInt8 := dkwJ2_valueOf_0 ++ []
theorem dksJ2_valueOf_0 : cJ2_valueOf.data.toList.drop 0 = dktJ2_valueOf_0 := by decide +kernel
theorem dJ2_valueOf_0 : decode cJ2_valueOf 0 = .ok (.aload_n 0, 1) := dk_42 (dk_at dksJ2_valueOf_0 0 rfl rfl)
theorem dJ2_valueOf_1 : decode cJ2_valueOf 1 = .ok (.ifnonnull 9, 3) := dk_199 0 9 (dk_at dksJ2_valueOf_0 1 rfl rfl)
theorem dJ2_valueOf_4 : decode cJ2_valueOf 4 = .ok (.ldc_w 1005, 3) := dk_19 3 237 (dk_at dksJ2_valueOf_0 4 rfl rfl)
theorem dJ2_valueOf_7 : decode cJ2_valueOf 7 = .ok (.goto 7, 3) := dk_167 0 7 (dk_at dksJ2_valueOf_0 7 rfl rfl)
theorem dJ2_valueOf_10 : decode cJ2_valueOf 10 = .ok (.aload_n 0, 1) := dk_42 (dk_at dksJ2_valueOf_0 10 rfl rfl)
theorem dJ2_valueOf_11 : decode cJ2_valueOf 11 = .ok (.invokevirtual 1007, 3) := dk_182 3 239 (dk_at dksJ2_valueOf_0 11 rfl rfl)
theorem dJ2_valueOf_14 : decode cJ2_valueOf 14 = .ok (.areturn, 1) := dk_176 (dk_at dksJ2_valueOf_0 14 rfl rfl)
abbrev cJ2_toString : ByteArray := prog_37_method_126_code
def yJ2_toString : MethodName := ⟨RJ2, "toString", "()Ljava/lang/String;"⟩
theorem dJ2_toString_0 : decode cJ2_toString 0 = .ok (.aload_n 0, 1) := by decide +kernel
theorem dJ2_toString_1 : decode cJ2_toString 1 = .ok (.areturn, 1) := by decide +kernel
abbrev cJ2_value : ByteArray := prog_37_method_153_code
def yJ2_value : MethodName := ⟨RJ2, "value", "()[B"⟩
theorem dJ2_value_0 : decode cJ2_value 0 = .ok (.aload_n 0, 1) := by decide +kernel
theorem dJ2_value_1 : decode cJ2_value 1 = .ok (.getfield 9, 3) := by decide +kernel
theorem dJ2_value_4 : decode cJ2_value 4 = .ok (.areturn, 1) := by decide +kernel
abbrev cJ2_hashCode : ByteArray := prog_37_method_78_code
def yJ2_hashCode : MethodName := ⟨RJ2, "hashCode", "()I"⟩
def dkwJ2_hashCode_2 : List UInt8 := [181, 0, 23, 167, 0, 8, 42, 27, 181, 0, 19, 27, 172]
abbrev dktJ2_hashCode_2 : List UInt8 := dkwJ2_hashCode_2 ++ []
def dkwJ2_hashCode_1 : List UInt8 := [180, 0, 9, 184, 2, 116, 167, 0, 10, 42, 180, 0, 9, 184, 2, 120, 60, 27, 154, 0, 11, 42, 4]
abbrev dktJ2_hashCode_1 : List UInt8 := dkwJ2_hashCode_1 ++ dktJ2_hashCode_2
def dkwJ2_hashCode_0 : List UInt8 := [42, 180, 0, 19, 60, 27, 154, 0, 52, 42, 180, 0, 23, 154, 0, 45, 42, 182, 1, 236, 153, 0, 13, 42]
abbrev dktJ2_hashCode_0 : List UInt8 := dkwJ2_hashCode_0 ++ dktJ2_hashCode_1
theorem dksJ2_hashCode_0 : cJ2_hashCode.data.toList.drop 0 = dktJ2_hashCode_0 := by decide +kernel
theorem dksJ2_hashCode_1 : cJ2_hashCode.data.toList.drop 24 = dktJ2_hashCode_1 := dk_seg dksJ2_hashCode_0 24 rfl rfl
theorem dksJ2_hashCode_2 : cJ2_hashCode.data.toList.drop 47 = dktJ2_hashCode_2 := dk_seg dksJ2_hashCode_1 23 rfl rfl
theorem dJ2_hashCode_0 : decode cJ2_hashCode 0 = .ok (.aload_n 0, 1) := dk_42 (dk_at dksJ2_hashCode_0 0 rfl rfl)
theorem dJ2_hashCode_1 : decode cJ2_hashCode 1 = .ok (.getfield 19, 3) := dk_180 0 19 (dk_at dksJ2_hashCode_0 1 rfl rfl)
theorem dJ2_hashCode_4 : decode cJ2_hashCode 4 = .ok (.istore_n 1, 1) := dk_60 (dk_at dksJ2_hashCode_0 4 rfl rfl)
theorem dJ2_hashCode_5 : decode cJ2_hashCode 5 = .ok (.iload_n 1, 1) := dk_27 (dk_at dksJ2_hashCode_0 5 rfl rfl)
theorem dJ2_hashCode_6 : decode cJ2_hashCode 6 = .ok (.ifCond .ne 52, 3) := dk_154 0 52 (dk_at dksJ2_hashCode_0 6 rfl rfl)
theorem dJ2_hashCode_9 : decode cJ2_hashCode 9 = .ok (.aload_n 0, 1) := dk_42 (dk_at dksJ2_hashCode_0 9 rfl rfl)
theorem dJ2_hashCode_10 : decode cJ2_hashCode 10 = .ok (.getfield 23, 3) := dk_180 0 23 (dk_at dksJ2_hashCode_0 10 rfl rfl)
theorem dJ2_hashCode_13 : decode cJ2_hashCode 13 = .ok (.ifCond .ne 45, 3) := dk_154 0 45 (dk_at dksJ2_hashCode_0 13 rfl rfl)
theorem dJ2_hashCode_16 : decode cJ2_hashCode 16 = .ok (.aload_n 0, 1) := dk_42 (dk_at dksJ2_hashCode_0 16 rfl rfl)
theorem dJ2_hashCode_17 : decode cJ2_hashCode 17 = .ok (.invokevirtual 492, 3) := dk_182 1 236 (dk_at dksJ2_hashCode_0 17 rfl rfl)
theorem dJ2_hashCode_20 : decode cJ2_hashCode 20 = .ok (.ifCond .eq 13, 3) := dk_153 0 13 (dk_at dksJ2_hashCode_0 20 rfl rfl)
theorem dJ2_hashCode_23 : decode cJ2_hashCode 23 = .ok (.aload_n 0, 1) := dk_42 (dk_at dksJ2_hashCode_0 23 rfl rfl)
theorem dJ2_hashCode_24 : decode cJ2_hashCode 24 = .ok (.getfield 9, 3) := dk_180 0 9 (dk_at dksJ2_hashCode_1 0 rfl rfl)
theorem dJ2_hashCode_27 : decode cJ2_hashCode 27 = .ok (.invokestatic 628, 3) := dk_184 2 116 (dk_at dksJ2_hashCode_1 3 rfl rfl)
theorem dJ2_hashCode_30 : decode cJ2_hashCode 30 = .ok (.goto 10, 3) := dk_167 0 10 (dk_at dksJ2_hashCode_1 6 rfl rfl)
theorem dJ2_hashCode_33 : decode cJ2_hashCode 33 = .ok (.aload_n 0, 1) := dk_42 (dk_at dksJ2_hashCode_1 9 rfl rfl)
theorem dJ2_hashCode_34 : decode cJ2_hashCode 34 = .ok (.getfield 9, 3) := dk_180 0 9 (dk_at dksJ2_hashCode_1 10 rfl rfl)
theorem dJ2_hashCode_37 : decode cJ2_hashCode 37 = .ok (.invokestatic 632, 3) := dk_184 2 120 (dk_at dksJ2_hashCode_1 13 rfl rfl)
theorem dJ2_hashCode_40 : decode cJ2_hashCode 40 = .ok (.istore_n 1, 1) := dk_60 (dk_at dksJ2_hashCode_1 16 rfl rfl)
theorem dJ2_hashCode_41 : decode cJ2_hashCode 41 = .ok (.iload_n 1, 1) := dk_27 (dk_at dksJ2_hashCode_1 17 rfl rfl)
theorem dJ2_hashCode_42 : decode cJ2_hashCode 42 = .ok (.ifCond .ne 11, 3) := dk_154 0 11 (dk_at dksJ2_hashCode_1 18 rfl rfl)
theorem dJ2_hashCode_45 : decode cJ2_hashCode 45 = .ok (.aload_n 0, 1) := dk_42 (dk_at dksJ2_hashCode_1 21 rfl rfl)
theorem dJ2_hashCode_46 : decode cJ2_hashCode 46 = .ok (.iconst 1, 1) := dk_4 (dk_at dksJ2_hashCode_1 22 rfl rfl)
theorem dJ2_hashCode_47 : decode cJ2_hashCode 47 = .ok (.putfield 23, 3) := dk_181 0 23 (dk_at dksJ2_hashCode_2 0 rfl rfl)
theorem dJ2_hashCode_50 : decode cJ2_hashCode 50 = .ok (.goto 8, 3) := dk_167 0 8 (dk_at dksJ2_hashCode_2 3 rfl rfl)
theorem dJ2_hashCode_53 : decode cJ2_hashCode 53 = .ok (.aload_n 0, 1) := dk_42 (dk_at dksJ2_hashCode_2 6 rfl rfl)
theorem dJ2_hashCode_54 : decode cJ2_hashCode 54 = .ok (.iload_n 1, 1) := dk_27 (dk_at dksJ2_hashCode_2 7 rfl rfl)
theorem dJ2_hashCode_55 : decode cJ2_hashCode 55 = .ok (.putfield 19, 3) := dk_181 0 19 (dk_at dksJ2_hashCode_2 8 rfl rfl)
theorem dJ2_hashCode_58 : decode cJ2_hashCode 58 = .ok (.iload_n 1, 1) := dk_27 (dk_at dksJ2_hashCode_2 11 rfl rfl)
theorem dJ2_hashCode_59 : decode cJ2_hashCode 59 = .ok (.ireturn, 1) := dk_172 (dk_at dksJ2_hashCode_2 12 rfl rfl)
abbrev cJ2_equals : ByteArray := prog_37_method_66_code
def yJ2_equals : MethodName := ⟨RJ2, "equals", "(Ljava/lang/Object;)Z"⟩
def dkwJ2_equals_2 : List UInt8 := [184, 2, 29, 153, 0, 7, 4, 167, 0, 4, 3, 172]
abbrev dktJ2_equals_2 : List UInt8 := dkwJ2_equals_2 ++ []
def dkwJ2_equals_1 : List UInt8 := [153, 0, 14, 42, 180, 0, 15, 44, 180, 0, 15, 160, 0, 21, 42, 180, 0, 9, 44, 180, 0, 9]
abbrev dktJ2_equals_1 : List UInt8 := dkwJ2_equals_1 ++ dktJ2_equals_2
def dkwJ2_equals_0 : List UInt8 := [42, 43, 166, 0, 5, 4, 172, 43, 193, 0, 10, 153, 0, 43, 43, 192, 0, 10, 77, 178, 0, 38]
abbrev dktJ2_equals_0 : List UInt8 := dkwJ2_equals_0 ++ dktJ2_equals_1
theorem dksJ2_equals_0 : cJ2_equals.data.toList.drop 0 = dktJ2_equals_0 := by decide +kernel
theorem dksJ2_equals_1 : cJ2_equals.data.toList.drop 22 = dktJ2_equals_1 := dk_seg dksJ2_equals_0 22 rfl rfl
theorem dksJ2_equals_2 : cJ2_equals.data.toList.drop 44 = dktJ2_equals_2 := dk_seg dksJ2_equals_1 22 rfl rfl
theorem dJ2_equals_0 : decode cJ2_equals 0 = .ok (.aload_n 0, 1) := dk_42 (dk_at dksJ2_equals_0 0 rfl rfl)
theorem dJ2_equals_1 : decode cJ2_equals 1 = .ok (.aload_n 1, 1) := dk_43 (dk_at dksJ2_equals_0 1 rfl rfl)
theorem dJ2_equals_2 : decode cJ2_equals 2 = .ok (.if_acmp .ne 5, 3) := dk_166 0 5 (dk_at dksJ2_equals_0 2 rfl rfl)
theorem dJ2_equals_5 : decode cJ2_equals 5 = .ok (.iconst 1, 1) := dk_4 (dk_at dksJ2_equals_0 5 rfl rfl)
theorem dJ2_equals_6 : decode cJ2_equals 6 = .ok (.ireturn, 1) := dk_172 (dk_at dksJ2_equals_0 6 rfl rfl)
theorem dJ2_equals_7 : decode cJ2_equals 7 = .ok (.aload_n 1, 1) := dk_43 (dk_at dksJ2_equals_0 7 rfl rfl)
theorem dJ2_equals_8 : decode cJ2_equals 8 = .ok (.instanceof 10, 3) := dk_193 0 10 (dk_at dksJ2_equals_0 8 rfl rfl)
theorem dJ2_equals_11 : decode cJ2_equals 11 = .ok (.ifCond .eq 43, 3) := dk_153 0 43 (dk_at dksJ2_equals_0 11 rfl rfl)
theorem dJ2_equals_14 : decode cJ2_equals 14 = .ok (.aload_n 1, 1) := dk_43 (dk_at dksJ2_equals_0 14 rfl rfl)
theorem dJ2_equals_15 : decode cJ2_equals 15 = .ok (.checkcast 10, 3) := dk_192 0 10 (dk_at dksJ2_equals_0 15 rfl rfl)
theorem dJ2_equals_18 : decode cJ2_equals 18 = .ok (.astore_n 2, 1) := dk_77 (dk_at dksJ2_equals_0 18 rfl rfl)
theorem dJ2_equals_19 : decode cJ2_equals 19 = .ok (.getstatic 38, 3) := dk_178 0 38 (dk_at dksJ2_equals_0 19 rfl rfl)
theorem dJ2_equals_22 : decode cJ2_equals 22 = .ok (.ifCond .eq 14, 3) := dk_153 0 14 (dk_at dksJ2_equals_1 0 rfl rfl)
theorem dJ2_equals_25 : decode cJ2_equals 25 = .ok (.aload_n 0, 1) := dk_42 (dk_at dksJ2_equals_1 3 rfl rfl)
theorem dJ2_equals_26 : decode cJ2_equals 26 = .ok (.getfield 15, 3) := dk_180 0 15 (dk_at dksJ2_equals_1 4 rfl rfl)
theorem dJ2_equals_29 : decode cJ2_equals 29 = .ok (.aload_n 2, 1) := dk_44 (dk_at dksJ2_equals_1 7 rfl rfl)
theorem dJ2_equals_30 : decode cJ2_equals 30 = .ok (.getfield 15, 3) := dk_180 0 15 (dk_at dksJ2_equals_1 8 rfl rfl)
theorem dJ2_equals_33 : decode cJ2_equals 33 = .ok (.if_icmp .ne 21, 3) := dk_160 0 21 (dk_at dksJ2_equals_1 11 rfl rfl)
theorem dJ2_equals_36 : decode cJ2_equals 36 = .ok (.aload_n 0, 1) := dk_42 (dk_at dksJ2_equals_1 14 rfl rfl)
theorem dJ2_equals_37 : decode cJ2_equals 37 = .ok (.getfield 9, 3) := dk_180 0 9 (dk_at dksJ2_equals_1 15 rfl rfl)
theorem dJ2_equals_40 : decode cJ2_equals 40 = .ok (.aload_n 2, 1) := dk_44 (dk_at dksJ2_equals_1 18 rfl rfl)
theorem dJ2_equals_41 : decode cJ2_equals 41 = .ok (.getfield 9, 3) := dk_180 0 9 (dk_at dksJ2_equals_1 19 rfl rfl)
theorem dJ2_equals_44 : decode cJ2_equals 44 = .ok (.invokestatic 541, 3) := dk_184 2 29 (dk_at dksJ2_equals_2 0 rfl rfl)
theorem dJ2_equals_47 : decode cJ2_equals 47 = .ok (.ifCond .eq 7, 3) := dk_153 0 7 (dk_at dksJ2_equals_2 3 rfl rfl)
theorem dJ2_equals_50 : decode cJ2_equals 50 = .ok (.iconst 1, 1) := dk_4 (dk_at dksJ2_equals_2 6 rfl rfl)
theorem dJ2_equals_51 : decode cJ2_equals 51 = .ok (.goto 4, 3) := dk_167 0 4 (dk_at dksJ2_equals_2 7 rfl rfl)
theorem dJ2_equals_54 : decode cJ2_equals 54 = .ok (.iconst 0, 1) := dk_3 (dk_at dksJ2_equals_2 10 rfl rfl)
theorem dJ2_equals_55 : decode cJ2_equals 55 = .ok (.ireturn, 1) := dk_172 (dk_at dksJ2_equals_2 11 rfl rfl)
theorem q106 : (Jvm.Cond.initialized "java/lang/String") ∈ lw_all := lw_g (lw_at lw_m1 4 rfl) rfl
theorem q174 : (Jvm.Cond.laysStatic "java/lang/String" "COMPACT_STRINGS" "Z") ∈ lw_tbl := lw_at lw_m1 72 rfl
theorem q269 : (Jvm.Cond.fieldLink "java/lang/String" (1048 : Nat) "java/lang/AbstractStringBuilder" "maybeLatin1" "Z") ∈ lw_all := lw_g (lw_at lw_m1 167 rfl) rfl
theorem q410 : (Jvm.Cond.instantiable "java/lang/String" (4 : Nat)) ∈ lw_all := lw_g (lw_at lw_m2 68 rfl) rfl
theorem q411 : (Jvm.Cond.laysFinal "java/lang/String" "java/lang/String" "value" "[B") ∈ lw_all := lw_g (lw_at lw_m2 69 rfl) rfl
theorem q412 : (Jvm.Cond.soleField "java/lang/String" "value") ∈ lw_all := lw_g (lw_at lw_m2 70 rfl) rfl
theorem q413 : (Jvm.Cond.laysFinal "java/lang/String" "java/lang/String" "coder" "B") ∈ lw_all := lw_g (lw_at lw_m2 71 rfl) rfl
theorem q414 : (Jvm.Cond.soleField "java/lang/String" "coder") ∈ lw_all := lw_g (lw_at lw_m2 72 rfl) rfl
theorem q593 : (Jvm.Cond.selects "java/lang/String" ({ cls := "java/lang/Object", name := "getClass", desc := "()Ljava/lang/Class;" } : Jvm.MethodName) ({ cls := "java/lang/Object", name := "getClass", desc := "()Ljava/lang/Class;" } : Jvm.MethodName)) ∈ lw_all := lw_g (lw_at lw_m3 11 rfl) rfl
theorem q700 : (Jvm.Cond.static ({ cls := "java/lang/String", name := "checkBoundsOffCount", desc := "(III)I" } : Jvm.MethodName)) ∈ lw_all := lw_g (lw_at lw_m3 118 rfl) rfl
theorem q701 : (Jvm.Cond.code ({ cls := "java/lang/String", name := "checkBoundsOffCount", desc := "(III)I" } : Jvm.MethodName) prog_37_method_157_code (3 : Nat) (Option.some Jvm.ClassFile.FieldType.int)) ∈ lw_all := lw_g (lw_at lw_m3 119 rfl) rfl
theorem q702 : (Jvm.Cond.fieldLink "java/lang/String" (1053 : Nat) "jdk/internal/util/Preconditions" "SIOOBE_FORMATTER" "Ljava/util/function/BiFunction;") ∈ lw_all := lw_g (lw_at lw_m3 120 rfl) rfl
theorem q704 : (Jvm.Cond.methodLink "java/lang/String" (1065 : Nat) ({ cls := "jdk/internal/util/Preconditions", name := "checkFromIndexSize", desc := "(IIILjava/util/function/BiFunction;)I" } : Jvm.MethodName)) ∈ lw_all := lw_g (lw_at lw_m3 122 rfl) rfl
theorem q723 : (Jvm.Cond.static ({ cls := "java/lang/String", name := "checkIndex", desc := "(II)V" } : Jvm.MethodName)) ∈ lw_all := lw_g (lw_at lw_m3 141 rfl) rfl
theorem q724 : (Jvm.Cond.code ({ cls := "java/lang/String", name := "checkIndex", desc := "(II)V" } : Jvm.MethodName) prog_37_method_155_code (2 : Nat) (Option.none : Option Jvm.ClassFile.FieldType)) ∈ lw_all := lw_g (lw_at lw_m3 142 rfl) rfl
theorem q725 : (Jvm.Cond.methodLink "java/lang/String" (1059 : Nat) ({ cls := "jdk/internal/util/Preconditions", name := "checkIndex", desc := "(IILjava/util/function/BiFunction;)I" } : Jvm.MethodName)) ∈ lw_all := lw_g (lw_at lw_m3 143 rfl) rfl
theorem q765 : (Jvm.Cond.static ({ cls := "java/lang/String", name := "checkBoundsBeginEnd", desc := "(III)V" } : Jvm.MethodName)) ∈ lw_all := lw_g (lw_at lw_m3 183 rfl) rfl
theorem q766 : (Jvm.Cond.code ({ cls := "java/lang/String", name := "checkBoundsBeginEnd", desc := "(III)V" } : Jvm.MethodName) prog_37_method_158_code (3 : Nat) (Option.none : Option Jvm.ClassFile.FieldType)) ∈ lw_all := lw_g (lw_at lw_m3 184 rfl) rfl
theorem q767 : (Jvm.Cond.methodLink "java/lang/String" (1062 : Nat) ({ cls := "jdk/internal/util/Preconditions", name := "checkFromToIndex", desc := "(IIILjava/util/function/BiFunction;)I" } : Jvm.MethodName)) ∈ lw_all := lw_g (lw_at lw_m3 185 rfl) rfl
theorem q771 : (Jvm.Cond.instanceMethod ({ cls := "java/lang/String", name := "length", desc := "()I" } : Jvm.MethodName)) ∈ lw_all := lw_g (lw_at lw_m3 189 rfl) rfl
theorem q772 : (Jvm.Cond.selects "java/lang/String" ({ cls := "java/lang/String", name := "length", desc := "()I" } : Jvm.MethodName) ({ cls := "java/lang/String", name := "length", desc := "()I" } : Jvm.MethodName)) ∈ lw_all := lw_g (lw_at lw_m3 190 rfl) rfl
theorem q773 : (Jvm.Cond.code ({ cls := "java/lang/String", name := "length", desc := "()I" } : Jvm.MethodName) prog_37_method_54_code (1 : Nat) (Option.some Jvm.ClassFile.FieldType.int)) ∈ lw_all := lw_g (lw_at lw_m3 191 rfl) rfl
theorem q774 : (Jvm.Cond.methodLink "java/lang/String" (335 : Nat) ({ cls := "java/lang/String", name := "coder", desc := "()B" } : Jvm.MethodName)) ∈ lw_all := lw_g (lw_at lw_m3 192 rfl) rfl
theorem q775 : (Jvm.Cond.instanceMethod ({ cls := "java/lang/String", name := "coder", desc := "()B" } : Jvm.MethodName)) ∈ lw_all := lw_g (lw_at lw_m3 193 rfl) rfl
theorem q776 : (Jvm.Cond.selects "java/lang/String" ({ cls := "java/lang/String", name := "coder", desc := "()B" } : Jvm.MethodName) ({ cls := "java/lang/String", name := "coder", desc := "()B" } : Jvm.MethodName)) ∈ lw_all := lw_g (lw_at lw_m3 194 rfl) rfl
theorem q777 : (Jvm.Cond.code ({ cls := "java/lang/String", name := "coder", desc := "()B" } : Jvm.MethodName) prog_37_method_152_code (1 : Nat) (Option.some Jvm.ClassFile.FieldType.byte)) ∈ lw_all := lw_g (lw_at lw_m3 195 rfl) rfl
theorem q778 : (Jvm.Cond.fieldLink "java/lang/String" (38 : Nat) "java/lang/String" "COMPACT_STRINGS" "Z") ∈ lw_all := lw_g (lw_at lw_m3 196 rfl) rfl
theorem q789 : (Jvm.Cond.instanceMethod ({ cls := "java/lang/String", name := "getBytes", desc := "([BIB)V" } : Jvm.MethodName)) ∈ lw_all := lw_g (lw_at lw_m3 207 rfl) rfl
theorem q790 : (Jvm.Cond.selects "java/lang/String" ({ cls := "java/lang/String", name := "getBytes", desc := "([BIB)V" } : Jvm.MethodName) ({ cls := "java/lang/String", name := "getBytes", desc := "([BIB)V" } : Jvm.MethodName)) ∈ lw_all := lw_g (lw_at lw_m3 208 rfl) rfl
theorem q791 : (Jvm.Cond.code ({ cls := "java/lang/String", name := "getBytes", desc := "([BIB)V" } : Jvm.MethodName) prog_37_method_147_code (4 : Nat) (Option.none : Option Jvm.ClassFile.FieldType)) ∈ lw_all := lw_g (lw_at lw_m3 209 rfl) rfl
theorem q792 : (Jvm.Cond.methodLink "java/lang/String" (212 : Nat) ({ cls := "java/lang/System", name := "arraycopy", desc := "(Ljava/lang/Object;ILjava/lang/Object;II)V" } : Jvm.MethodName)) ∈ lw_all := lw_g (lw_at lw_m3 210 rfl) rfl
theorem q793 : (Jvm.Cond.methodLink "java/lang/String" (106 : Nat) ({ cls := "java/lang/StringLatin1", name := "inflate", desc := "([BI[BII)V" } : Jvm.MethodName)) ∈ lw_all := lw_g (lw_at lw_m3 211 rfl) rfl
theorem q825 : (Jvm.Cond.instanceMethod ({ cls := "java/lang/String", name := "<init>", desc := "(Ljava/lang/StringBuilder;)V" } : Jvm.MethodName)) ∈ lw_all := lw_g (lw_at lw_m4 3 rfl) rfl
theorem q826 : (Jvm.Cond.code ({ cls := "java/lang/String", name := "<init>", desc := "(Ljava/lang/StringBuilder;)V" } : Jvm.MethodName) prog_37_method_53_code (2 : Nat) (Option.none : Option Jvm.ClassFile.FieldType)) ∈ lw_all := lw_g (lw_at lw_m4 4 rfl) rfl
theorem q827 : (Jvm.Cond.methodLink "java/lang/String" (489 : Nat) ({ cls := "java/lang/String", name := "<init>", desc := "(Ljava/lang/AbstractStringBuilder;Ljava/lang/Void;)V" } : Jvm.MethodName)) ∈ lw_all := lw_g (lw_at lw_m4 5 rfl) rfl
theorem q828 : (Jvm.Cond.instanceMethod ({ cls := "java/lang/String", name := "<init>", desc := "(Ljava/lang/AbstractStringBuilder;Ljava/lang/Void;)V" } : Jvm.MethodName)) ∈ lw_all := lw_g (lw_at lw_m4 6 rfl) rfl
theorem q829 : (Jvm.Cond.code ({ cls := "java/lang/String", name := "<init>", desc := "(Ljava/lang/AbstractStringBuilder;Ljava/lang/Void;)V" } : Jvm.MethodName) prog_37_method_150_code (5 : Nat) (Option.none : Option Jvm.ClassFile.FieldType)) ∈ lw_all := lw_g (lw_at lw_m4 7 rfl) rfl
theorem q830 : (Jvm.Cond.methodLink "java/lang/String" (1 : Nat) ({ cls := "java/lang/Object", name := "<init>", desc := "()V" } : Jvm.MethodName)) ∈ lw_all := lw_g (lw_at lw_m4 8 rfl) rfl
theorem q831 : (Jvm.Cond.methodLink "java/lang/String" (552 : Nat) ({ cls := "java/lang/AbstractStringBuilder", name := "getValue", desc := "()[B" } : Jvm.MethodName)) ∈ lw_all := lw_g (lw_at lw_m4 9 rfl) rfl
theorem q836 : (Jvm.Cond.methodLink "java/lang/String" (549 : Nat) ({ cls := "java/lang/AbstractStringBuilder", name := "length", desc := "()I" } : Jvm.MethodName)) ∈ lw_all := lw_g (lw_at lw_m4 14 rfl) rfl
theorem q837 : (Jvm.Cond.methodLink "java/lang/String" (1047 : Nat) ({ cls := "java/lang/AbstractStringBuilder", name := "isLatin1", desc := "()Z" } : Jvm.MethodName)) ∈ lw_all := lw_g (lw_at lw_m4 15 rfl) rfl
theorem q838 : (Jvm.Cond.methodLink "java/lang/String" (54 : Nat) ({ cls := "java/util/Arrays", name := "copyOfRange", desc := "([BII)[B" } : Jvm.MethodName)) ∈ lw_all := lw_g (lw_at lw_m4 16 rfl) rfl
theorem q847 : (Jvm.Cond.methodLink "java/lang/String" (1051 : Nat) ({ cls := "java/lang/StringUTF16", name := "compress", desc := "([BII)[B" } : Jvm.MethodName)) ∈ lw_all := lw_g (lw_at lw_m4 25 rfl) rfl
theorem q857 : (Jvm.Cond.methodLink "java/lang/String" (47 : Nat) ({ cls := "java/lang/StringUTF16", name := "coderFromArrayLen", desc := "([BI)B" } : Jvm.MethodName)) ∈ lw_all := lw_g (lw_at lw_m4 35 rfl) rfl
theorem q860 : (Jvm.Cond.fieldLink "java/lang/String" (9 : Nat) "java/lang/String" "value" "[B") ∈ lw_all := lw_g (lw_at lw_m4 38 rfl) rfl
theorem q861 : (Jvm.Cond.fieldLink "java/lang/String" (15 : Nat) "java/lang/String" "coder" "B") ∈ lw_all := lw_g (lw_at lw_m4 39 rfl) rfl
theorem q862 : (Jvm.Cond.fieldLink "java/lang/String" (19 : Nat) "java/lang/String" "hash" "I") ∈ lw_all := lw_g (lw_at lw_m4 40 rfl) rfl
theorem q863 : (Jvm.Cond.fieldLink "java/lang/String" (23 : Nat) "java/lang/String" "hashIsZero" "Z") ∈ lw_all := lw_g (lw_at lw_m4 41 rfl) rfl
theorem q864 : (Jvm.Cond.lays "java/lang/String" "java/lang/String" "hash" "I") ∈ lw_all := lw_g (lw_at lw_m4 42 rfl) rfl
theorem q865 : (Jvm.Cond.soleField "java/lang/String" "hash") ∈ lw_all := lw_g (lw_at lw_m4 43 rfl) rfl
theorem q866 : (Jvm.Cond.lays "java/lang/String" "java/lang/String" "hashIsZero" "Z") ∈ lw_all := lw_g (lw_at lw_m4 44 rfl) rfl
theorem q867 : (Jvm.Cond.soleField "java/lang/String" "hashIsZero") ∈ lw_all := lw_g (lw_at lw_m4 45 rfl) rfl
theorem q868 : (Jvm.Cond.superclass "java/lang/String" "java/lang/Object") ∈ lw_all := lw_g (lw_at lw_m4 46 rfl) rfl
theorem q954 : (Jvm.Cond.castable "java/lang/String" "java/lang/CharSequence") ∈ lw_tbl := lw_at lw_m4 132 rfl
theorem q955 : (Jvm.Cond.selects "java/lang/String" ({ cls := "java/lang/CharSequence", name := "length", desc := "()I" } : Jvm.MethodName) ({ cls := "java/lang/String", name := "length", desc := "()I" } : Jvm.MethodName)) ∈ lw_all := lw_g (lw_at lw_m4 133 rfl) rfl
theorem q956 : (Jvm.Cond.unhidden "java/lang/String" "length" "()I") ∈ lw_tbl := lw_at lw_m4 134 rfl
theorem q957 : (Jvm.Cond.publicMethod ({ cls := "java/lang/String", name := "length", desc := "()I" } : Jvm.MethodName)) ∈ lw_tbl := lw_at lw_m4 135 rfl
theorem q966 : (Jvm.Cond.selects "java/lang/String" ({ cls := "java/lang/CharSequence", name := "charAt", desc := "(I)C" } : Jvm.MethodName) ({ cls := "java/lang/String", name := "charAt", desc := "(I)C" } : Jvm.MethodName)) ∈ lw_all := lw_g (lw_at lw_m4 144 rfl) rfl
theorem q967 : (Jvm.Cond.unhidden "java/lang/String" "charAt" "(I)C") ∈ lw_tbl := lw_at lw_m4 145 rfl
theorem q968 : (Jvm.Cond.instanceMethod ({ cls := "java/lang/String", name := "charAt", desc := "(I)C" } : Jvm.MethodName)) ∈ lw_all := lw_g (lw_at lw_m4 146 rfl) rfl
theorem q969 : (Jvm.Cond.publicMethod ({ cls := "java/lang/String", name := "charAt", desc := "(I)C" } : Jvm.MethodName)) ∈ lw_tbl := lw_at lw_m4 147 rfl
theorem q970 : (Jvm.Cond.code ({ cls := "java/lang/String", name := "charAt", desc := "(I)C" } : Jvm.MethodName) prog_37_method_56_code (2 : Nat) (Option.some Jvm.ClassFile.FieldType.char)) ∈ lw_all := lw_g (lw_at lw_m4 148 rfl) rfl
theorem q971 : (Jvm.Cond.methodLink "java/lang/String" (492 : Nat) ({ cls := "java/lang/String", name := "isLatin1", desc := "()Z" } : Jvm.MethodName)) ∈ lw_all := lw_g (lw_at lw_m4 149 rfl) rfl
theorem q972 : (Jvm.Cond.instanceMethod ({ cls := "java/lang/String", name := "isLatin1", desc := "()Z" } : Jvm.MethodName)) ∈ lw_all := lw_g (lw_at lw_m4 150 rfl) rfl
theorem q973 : (Jvm.Cond.selects "java/lang/String" ({ cls := "java/lang/String", name := "isLatin1", desc := "()Z" } : Jvm.MethodName) ({ cls := "java/lang/String", name := "isLatin1", desc := "()Z" } : Jvm.MethodName)) ∈ lw_all := lw_g (lw_at lw_m4 151 rfl) rfl
theorem q974 : (Jvm.Cond.code ({ cls := "java/lang/String", name := "isLatin1", desc := "()Z" } : Jvm.MethodName) prog_37_method_154_code (1 : Nat) (Option.some Jvm.ClassFile.FieldType.boolean)) ∈ lw_all := lw_g (lw_at lw_m4 152 rfl) rfl
theorem q975 : (Jvm.Cond.methodLink "java/lang/String" (495 : Nat) ({ cls := "java/lang/StringLatin1", name := "charAt", desc := "([BI)C" } : Jvm.MethodName)) ∈ lw_all := lw_g (lw_at lw_m4 153 rfl) rfl
theorem q979 : (Jvm.Cond.methodLink "java/lang/String" (498 : Nat) ({ cls := "java/lang/StringUTF16", name := "charAt", desc := "([BI)C" } : Jvm.MethodName)) ∈ lw_all := lw_g (lw_at lw_m4 157 rfl) rfl
theorem q1526 : (Jvm.Cond.static ({ cls := "java/lang/String", name := "valueOf", desc := "(Ljava/lang/Object;)Ljava/lang/String;" } : Jvm.MethodName)) ∈ lw_all := lw_g (lw_at lw_m6 224 rfl) rfl
theorem q1527 : (Jvm.Cond.code ({ cls := "java/lang/String", name := "valueOf", desc := "(Ljava/lang/Object;)Ljava/lang/String;" } : Jvm.MethodName) prog_37_method_133_code (1 : Nat) (Option.some (Jvm.ClassFile.FieldType.object "java/lang/String"))) ∈ lw_all := lw_g (lw_at lw_m6 225 rfl) rfl
theorem q1528 : (Jvm.Cond.stringRef "java/lang/String" (1005 : Nat) "null") ∈ lw_tbl := lw_at lw_m6 226 rfl
theorem q1530 : (Jvm.Cond.methodLink "java/lang/String" (1007 : Nat) ({ cls := "java/lang/Object", name := "toString", desc := "()Ljava/lang/String;" } : Jvm.MethodName)) ∈ lw_all := lw_g (lw_at lw_m6 228 rfl) rfl
theorem q1588 : (Jvm.Cond.selects "java/lang/String" ({ cls := "java/lang/Object", name := "toString", desc := "()Ljava/lang/String;" } : Jvm.MethodName) ({ cls := "java/lang/String", name := "toString", desc := "()Ljava/lang/String;" } : Jvm.MethodName)) ∈ lw_all := lw_g (lw_at lw_m7 46 rfl) rfl
theorem q1589 : (Jvm.Cond.instanceMethod ({ cls := "java/lang/String", name := "toString", desc := "()Ljava/lang/String;" } : Jvm.MethodName)) ∈ lw_all := lw_g (lw_at lw_m7 47 rfl) rfl
theorem q1590 : (Jvm.Cond.code ({ cls := "java/lang/String", name := "toString", desc := "()Ljava/lang/String;" } : Jvm.MethodName) prog_37_method_126_code (1 : Nat) (Option.some (Jvm.ClassFile.FieldType.object "java/lang/String"))) ∈ lw_all := lw_g (lw_at lw_m7 48 rfl) rfl
theorem q1662 : (Jvm.Cond.instanceMethod ({ cls := "java/lang/String", name := "value", desc := "()[B" } : Jvm.MethodName)) ∈ lw_all := lw_g (lw_at lw_m7 120 rfl) rfl
theorem q1663 : (Jvm.Cond.selects "java/lang/String" ({ cls := "java/lang/String", name := "value", desc := "()[B" } : Jvm.MethodName) ({ cls := "java/lang/String", name := "value", desc := "()[B" } : Jvm.MethodName)) ∈ lw_all := lw_g (lw_at lw_m7 121 rfl) rfl
theorem q1664 : (Jvm.Cond.code ({ cls := "java/lang/String", name := "value", desc := "()[B" } : Jvm.MethodName) prog_37_method_153_code (1 : Nat) (Option.some (Jvm.ClassFile.FieldType.array Jvm.ClassFile.FieldType.byte))) ∈ lw_all := lw_g (lw_at lw_m7 122 rfl) rfl
theorem q1795 : (Jvm.Cond.instanceMethod ({ cls := "java/lang/String", name := "hashCode", desc := "()I" } : Jvm.MethodName)) ∈ lw_all := lw_g (lw_at lw_m8 13 rfl) rfl
theorem q1796 : (Jvm.Cond.selects "java/lang/String" ({ cls := "java/lang/String", name := "hashCode", desc := "()I" } : Jvm.MethodName) ({ cls := "java/lang/String", name := "hashCode", desc := "()I" } : Jvm.MethodName)) ∈ lw_all := lw_g (lw_at lw_m8 14 rfl) rfl
theorem q1797 : (Jvm.Cond.code ({ cls := "java/lang/String", name := "hashCode", desc := "()I" } : Jvm.MethodName) prog_37_method_78_code (2 : Nat) (Option.some Jvm.ClassFile.FieldType.int)) ∈ lw_all := lw_g (lw_at lw_m8 15 rfl) rfl
theorem q1798 : (Jvm.Cond.methodLink "java/lang/String" (628 : Nat) ({ cls := "java/lang/StringLatin1", name := "hashCode", desc := "([B)I" } : Jvm.MethodName)) ∈ lw_all := lw_g (lw_at lw_m8 16 rfl) rfl
theorem q1839 : (Jvm.Cond.methodLink "java/lang/String" (632 : Nat) ({ cls := "java/lang/StringUTF16", name := "hashCode", desc := "([B)I" } : Jvm.MethodName)) ∈ lw_all := lw_g (lw_at lw_m8 57 rfl) rfl
theorem q1845 : (Jvm.Cond.instanceMethod ({ cls := "java/lang/String", name := "equals", desc := "(Ljava/lang/Object;)Z" } : Jvm.MethodName)) ∈ lw_all := lw_g (lw_at lw_m8 63 rfl) rfl
theorem q1846 : (Jvm.Cond.selects "java/lang/String" ({ cls := "java/lang/String", name := "equals", desc := "(Ljava/lang/Object;)Z" } : Jvm.MethodName) ({ cls := "java/lang/String", name := "equals", desc := "(Ljava/lang/Object;)Z" } : Jvm.MethodName)) ∈ lw_all := lw_g (lw_at lw_m8 64 rfl) rfl
theorem q1847 : (Jvm.Cond.code ({ cls := "java/lang/String", name := "equals", desc := "(Ljava/lang/Object;)Z" } : Jvm.MethodName) prog_37_method_66_code (3 : Nat) (Option.some Jvm.ClassFile.FieldType.boolean)) ∈ lw_all := lw_g (lw_at lw_m8 65 rfl) rfl
theorem q1848 : (Jvm.Cond.classLink "java/lang/String" (10 : Nat) "java/lang/String") ∈ lw_all := lw_g (lw_at lw_m8 66 rfl) rfl
theorem q1849 : (Jvm.Cond.methodLink "java/lang/String" (541 : Nat) ({ cls := "java/lang/StringLatin1", name := "equals", desc := "([B[B)Z" } : Jvm.MethodName)) ∈ lw_all := lw_g (lw_at lw_m8 67 rfl) rfl
theorem q2610 : (Jvm.Cond.selects "java/lang/String" ({ cls := "java/lang/String", name := "charAt", desc := "(I)C" } : Jvm.MethodName) ({ cls := "java/lang/String", name := "charAt", desc := "(I)C" } : Jvm.MethodName)) ∈ lw_all := lw_g (lw_at lw_m11 108 rfl) rfl
theorem q2634 : (Jvm.Cond.castable "java/lang/String" "java/lang/Object") ∈ lw_tbl := lw_at lw_m11 132 rfl
theorem in_J2 : ∀ w ∈ wsJ20, w ∈ lw_all := lw_in wsJ20 [411, 413, 864, 866] (by decide +kernel) (by decide +kernel)

/-! java/lang/StringUTF16 -/
set_option maxRecDepth 100000
def RJ3 : String := "java/lang/StringUTF16"
abbrev cJ3_newBytesFor : ByteArray := prog_41_method_2_code
def yJ3_newBytesFor : MethodName := ⟨RJ3, "newBytesFor", "(I)[B"⟩
def dkwJ3_newBytesFor_0 : List UInt8 := [26, 184, 0, 11, 188, 8, 176]
abbrev dktJ3_newBytesFor_0 : List UInt8 := dkwJ3_newBytesFor_0 ++ []
theorem dksJ3_newBytesFor_0 : cJ3_newBytesFor.data.toList.drop 0 = dktJ3_newBytesFor_0 := by decide +kernel
theorem dJ3_newBytesFor_0 : decode cJ3_newBytesFor 0 = .ok (.iload_n 0, 1) := dk_26 (dk_at dksJ3_newBytesFor_0 0 rfl rfl)
theorem dJ3_newBytesFor_1 : decode cJ3_newBytesFor 1 = .ok (.invokestatic 11, 3) := dk_184 0 11 (dk_at dksJ3_newBytesFor_0 1 rfl rfl)
theorem dJ3_newBytesFor_4 : decode cJ3_newBytesFor 4 = .ok (.newarray .byte, 2) := dk_188_8 (dk_at dksJ3_newBytesFor_0 4 rfl rfl)
theorem dJ3_newBytesFor_6 : decode cJ3_newBytesFor 6 = .ok (.areturn, 1) := dk_176 (dk_at dksJ3_newBytesFor_0 6 rfl rfl)
abbrev cJ3_newBytesLength : ByteArray := prog_41_method_3_code
def yJ3_newBytesLength : MethodName := ⟨RJ3, "newBytesLength", "(I)I"⟩
def dkwJ3_newBytesLength_2 : List UInt8 := [182, 0, 32, 182, 0, 37, 183, 0, 41, 191, 26, 4, 120, 172]
abbrev dktJ3_newBytesLength_2 : List UInt8 := dkwJ3_newBytesLength_2 ++ []
def dkwJ3_newBytesLength_1 : List UInt8 := [187, 0, 23, 89, 183, 0, 25, 18, 26, 182, 0, 28, 26, 182, 0, 32, 18, 35, 182, 0, 28, 18, 20]
abbrev dktJ3_newBytesLength_1 : List UInt8 := dkwJ3_newBytesLength_1 ++ dktJ3_newBytesLength_2
def dkwJ3_newBytesLength_0 : List UInt8 := [26, 156, 0, 11, 187, 0, 17, 89, 183, 0, 19, 191, 26, 18, 20, 161, 0, 40, 187, 0, 21, 89]
abbrev dktJ3_newBytesLength_0 : List UInt8 := dkwJ3_newBytesLength_0 ++ dktJ3_newBytesLength_1
theorem dksJ3_newBytesLength_0 : cJ3_newBytesLength.data.toList.drop 0 = dktJ3_newBytesLength_0 := by decide +kernel
theorem dksJ3_newBytesLength_1 : cJ3_newBytesLength.data.toList.drop 22 = dktJ3_newBytesLength_1 := dk_seg dksJ3_newBytesLength_0 22 rfl rfl
theorem dksJ3_newBytesLength_2 : cJ3_newBytesLength.data.toList.drop 45 = dktJ3_newBytesLength_2 := dk_seg dksJ3_newBytesLength_1 23 rfl rfl
theorem dJ3_newBytesLength_0 : decode cJ3_newBytesLength 0 = .ok (.iload_n 0, 1) := dk_26 (dk_at dksJ3_newBytesLength_0 0 rfl rfl)
theorem dJ3_newBytesLength_1 : decode cJ3_newBytesLength 1 = .ok (.ifCond .ge 11, 3) := dk_156 0 11 (dk_at dksJ3_newBytesLength_0 1 rfl rfl)
theorem dJ3_newBytesLength_4 : decode cJ3_newBytesLength 4 = .ok (.new 17, 3) := dk_187 0 17 (dk_at dksJ3_newBytesLength_0 4 rfl rfl)
theorem dJ3_newBytesLength_7 : decode cJ3_newBytesLength 7 = .ok (.dup, 1) := dk_89 (dk_at dksJ3_newBytesLength_0 7 rfl rfl)
theorem dJ3_newBytesLength_8 : decode cJ3_newBytesLength 8 = .ok (.invokespecial 19, 3) := dk_183 0 19 (dk_at dksJ3_newBytesLength_0 8 rfl rfl)
theorem dJ3_newBytesLength_11 : decode cJ3_newBytesLength 11 = .ok (.athrow, 1) := dk_191 (dk_at dksJ3_newBytesLength_0 11 rfl rfl)
theorem dJ3_newBytesLength_12 : decode cJ3_newBytesLength 12 = .ok (.iload_n 0, 1) := dk_26 (dk_at dksJ3_newBytesLength_0 12 rfl rfl)
theorem dJ3_newBytesLength_13 : decode cJ3_newBytesLength 13 = .ok (.ldc 20, 2) := dk_18 20 (dk_at dksJ3_newBytesLength_0 13 rfl rfl)
theorem dJ3_newBytesLength_15 : decode cJ3_newBytesLength 15 = .ok (.if_icmp .lt 40, 3) := dk_161 0 40 (dk_at dksJ3_newBytesLength_0 15 rfl rfl)
theorem dJ3_newBytesLength_18 : decode cJ3_newBytesLength 18 = .ok (.new 21, 3) := dk_187 0 21 (dk_at dksJ3_newBytesLength_0 18 rfl rfl)
theorem dJ3_newBytesLength_21 : decode cJ3_newBytesLength 21 = .ok (.dup, 1) := dk_89 (dk_at dksJ3_newBytesLength_0 21 rfl rfl)
theorem dJ3_newBytesLength_22 : decode cJ3_newBytesLength 22 = .ok (.new 23, 3) := dk_187 0 23 (dk_at dksJ3_newBytesLength_1 0 rfl rfl)
theorem dJ3_newBytesLength_25 : decode cJ3_newBytesLength 25 = .ok (.dup, 1) := dk_89 (dk_at dksJ3_newBytesLength_1 3 rfl rfl)
theorem dJ3_newBytesLength_26 : decode cJ3_newBytesLength 26 = .ok (.invokespecial 25, 3) := dk_183 0 25 (dk_at dksJ3_newBytesLength_1 4 rfl rfl)
theorem dJ3_newBytesLength_29 : decode cJ3_newBytesLength 29 = .ok (.ldc 26, 2) := dk_18 26 (dk_at dksJ3_newBytesLength_1 7 rfl rfl)
theorem dJ3_newBytesLength_31 : decode cJ3_newBytesLength 31 = .ok (.invokevirtual 28, 3) := dk_182 0 28 (dk_at dksJ3_newBytesLength_1 9 rfl rfl)
theorem dJ3_newBytesLength_34 : decode cJ3_newBytesLength 34 = .ok (.iload_n 0, 1) := dk_26 (dk_at dksJ3_newBytesLength_1 12 rfl rfl)
theorem dJ3_newBytesLength_35 : decode cJ3_newBytesLength 35 = .ok (.invokevirtual 32, 3) := dk_182 0 32 (dk_at dksJ3_newBytesLength_1 13 rfl rfl)
theorem dJ3_newBytesLength_38 : decode cJ3_newBytesLength 38 = .ok (.ldc 35, 2) := dk_18 35 (dk_at dksJ3_newBytesLength_1 16 rfl rfl)
theorem dJ3_newBytesLength_40 : decode cJ3_newBytesLength 40 = .ok (.invokevirtual 28, 3) := dk_182 0 28 (dk_at dksJ3_newBytesLength_1 18 rfl rfl)
theorem dJ3_newBytesLength_43 : decode cJ3_newBytesLength 43 = .ok (.ldc 20, 2) := dk_18 20 (dk_at dksJ3_newBytesLength_1 21 rfl rfl)
theorem dJ3_newBytesLength_45 : decode cJ3_newBytesLength 45 = .ok (.invokevirtual 32, 3) := dk_182 0 32 (dk_at dksJ3_newBytesLength_2 0 rfl rfl)
theorem dJ3_newBytesLength_48 : decode cJ3_newBytesLength 48 = .ok (.invokevirtual 37, 3) := dk_182 0 37 (dk_at dksJ3_newBytesLength_2 3 rfl rfl)
theorem dJ3_newBytesLength_51 : decode cJ3_newBytesLength 51 = .ok (.invokespecial 41, 3) := dk_183 0 41 (dk_at dksJ3_newBytesLength_2 6 rfl rfl)
theorem dJ3_newBytesLength_54 : decode cJ3_newBytesLength 54 = .ok (.athrow, 1) := dk_191 (dk_at dksJ3_newBytesLength_2 9 rfl rfl)
theorem dJ3_newBytesLength_55 : decode cJ3_newBytesLength 55 = .ok (.iload_n 0, 1) := dk_26 (dk_at dksJ3_newBytesLength_2 10 rfl rfl)
theorem dJ3_newBytesLength_56 : decode cJ3_newBytesLength 56 = .ok (.iconst 1, 1) := dk_4 (dk_at dksJ3_newBytesLength_2 11 rfl rfl)
theorem dJ3_newBytesLength_57 : decode cJ3_newBytesLength 57 = .ok (.ishl, 1) := dk_120 (dk_at dksJ3_newBytesLength_2 12 rfl rfl)
theorem dJ3_newBytesLength_58 : decode cJ3_newBytesLength 58 = .ok (.ireturn, 1) := dk_172 (dk_at dksJ3_newBytesLength_2 13 rfl rfl)
abbrev cJ3_inflate : ByteArray := prog_41_method_86_code
def yJ3_inflate : MethodName := ⟨RJ3, "inflate", "([BI[BII)V"⟩
def dkwJ3_inflate_1 : List UInt8 := [132, 1, 1, 51, 17, 0, 255, 126, 184, 0, 111, 132, 5, 1, 167, 255, 228, 177]
abbrev dktJ3_inflate_1 : List UInt8 := dkwJ3_inflate_1 ++ []
def dkwJ3_inflate_0 : List UInt8 := [29, 21, 4, 44, 184, 0, 173, 3, 54, 5, 21, 5, 21, 4, 162, 0, 27, 44, 29, 132, 3, 1, 42, 27]
abbrev dktJ3_inflate_0 : List UInt8 := dkwJ3_inflate_0 ++ dktJ3_inflate_1
theorem dksJ3_inflate_0 : cJ3_inflate.data.toList.drop 0 = dktJ3_inflate_0 := by decide +kernel
theorem dksJ3_inflate_1 : cJ3_inflate.data.toList.drop 24 = dktJ3_inflate_1 := dk_seg dksJ3_inflate_0 24 rfl rfl
theorem dJ3_inflate_0 : decode cJ3_inflate 0 = .ok (.iload_n 3, 1) := dk_29 (dk_at dksJ3_inflate_0 0 rfl rfl)
theorem dJ3_inflate_1 : decode cJ3_inflate 1 = .ok (.iload 4, 2) := dk_21 4 (dk_at dksJ3_inflate_0 1 rfl rfl)
theorem dJ3_inflate_3 : decode cJ3_inflate 3 = .ok (.aload_n 2, 1) := dk_44 (dk_at dksJ3_inflate_0 3 rfl rfl)
theorem dJ3_inflate_4 : decode cJ3_inflate 4 = .ok (.invokestatic 173, 3) := dk_184 0 173 (dk_at dksJ3_inflate_0 4 rfl rfl)
theorem dJ3_inflate_7 : decode cJ3_inflate 7 = .ok (.iconst 0, 1) := dk_3 (dk_at dksJ3_inflate_0 7 rfl rfl)
theorem dJ3_inflate_8 : decode cJ3_inflate 8 = .ok (.istore 5, 2) := dk_54 5 (dk_at dksJ3_inflate_0 8 rfl rfl)
theorem dJ3_inflate_10 : decode cJ3_inflate 10 = .ok (.iload 5, 2) := dk_21 5 (dk_at dksJ3_inflate_0 10 rfl rfl)
theorem dJ3_inflate_12 : decode cJ3_inflate 12 = .ok (.iload 4, 2) := dk_21 4 (dk_at dksJ3_inflate_0 12 rfl rfl)
theorem dJ3_inflate_14 : decode cJ3_inflate 14 = .ok (.if_icmp .ge 27, 3) := dk_162 0 27 (dk_at dksJ3_inflate_0 14 rfl rfl)
theorem dJ3_inflate_17 : decode cJ3_inflate 17 = .ok (.aload_n 2, 1) := dk_44 (dk_at dksJ3_inflate_0 17 rfl rfl)
theorem dJ3_inflate_18 : decode cJ3_inflate 18 = .ok (.iload_n 3, 1) := dk_29 (dk_at dksJ3_inflate_0 18 rfl rfl)
theorem dJ3_inflate_19 : decode cJ3_inflate 19 = .ok (.iinc 3 1, 3) := dk_132 3 1 (dk_at dksJ3_inflate_0 19 rfl rfl)
theorem dJ3_inflate_22 : decode cJ3_inflate 22 = .ok (.aload_n 0, 1) := dk_42 (dk_at dksJ3_inflate_0 22 rfl rfl)
theorem dJ3_inflate_23 : decode cJ3_inflate 23 = .ok (.iload_n 1, 1) := dk_27 (dk_at dksJ3_inflate_0 23 rfl rfl)
theorem dJ3_inflate_24 : decode cJ3_inflate 24 = .ok (.iinc 1 1, 3) := dk_132 1 1 (dk_at dksJ3_inflate_1 0 rfl rfl)
theorem dJ3_inflate_27 : decode cJ3_inflate 27 = .ok (.baload, 1) := dk_51 (dk_at dksJ3_inflate_1 3 rfl rfl)
theorem dJ3_inflate_28 : decode cJ3_inflate 28 = .ok (.sipush 255, 3) := dk_17 0 255 (dk_at dksJ3_inflate_1 4 rfl rfl)
theorem dJ3_inflate_31 : decode cJ3_inflate 31 = .ok (.iand, 1) := dk_126 (dk_at dksJ3_inflate_1 7 rfl rfl)
theorem dJ3_inflate_32 : decode cJ3_inflate 32 = .ok (.invokestatic 111, 3) := dk_184 0 111 (dk_at dksJ3_inflate_1 8 rfl rfl)
theorem dJ3_inflate_35 : decode cJ3_inflate 35 = .ok (.iinc 5 1, 3) := dk_132 5 1 (dk_at dksJ3_inflate_1 11 rfl rfl)
theorem dJ3_inflate_38 : decode cJ3_inflate 38 = .ok (.goto (-28), 3) := dk_167 255 228 (dk_at dksJ3_inflate_1 14 rfl rfl)
theorem dJ3_inflate_41 : decode cJ3_inflate 41 = .ok (.return_, 1) := dk_177 (dk_at dksJ3_inflate_1 17 rfl rfl)
abbrev cJ3_checkBoundsOffCount : ByteArray := prog_41_method_94_code
def yJ3_checkBoundsOffCount : MethodName := ⟨RJ3, "checkBoundsOffCount", "(II[B)V"⟩
def dkwJ3_checkBoundsOffCount_0 : List UInt8 := [26, 27, 44, 184, 0, 48, 184, 1, 163, 87, 177]
abbrev dktJ3_checkBoundsOffCount_0 : List UInt8 := dkwJ3_checkBoundsOffCount_0 ++ []
theorem dksJ3_checkBoundsOffCount_0 : cJ3_checkBoundsOffCount.data.toList.drop 0 = dktJ3_checkBoundsOffCount_0 := by decide +kernel
theorem dJ3_checkBoundsOffCount_0 : decode cJ3_checkBoundsOffCount 0 = .ok (.iload_n 0, 1) := dk_26 (dk_at dksJ3_checkBoundsOffCount_0 0 rfl rfl)
theorem dJ3_checkBoundsOffCount_1 : decode cJ3_checkBoundsOffCount 1 = .ok (.iload_n 1, 1) := dk_27 (dk_at dksJ3_checkBoundsOffCount_0 1 rfl rfl)
theorem dJ3_checkBoundsOffCount_2 : decode cJ3_checkBoundsOffCount 2 = .ok (.aload_n 2, 1) := dk_44 (dk_at dksJ3_checkBoundsOffCount_0 2 rfl rfl)
theorem dJ3_checkBoundsOffCount_3 : decode cJ3_checkBoundsOffCount 3 = .ok (.invokestatic 48, 3) := dk_184 0 48 (dk_at dksJ3_checkBoundsOffCount_0 3 rfl rfl)
theorem dJ3_checkBoundsOffCount_6 : decode cJ3_checkBoundsOffCount 6 = .ok (.invokestatic 419, 3) := dk_184 1 163 (dk_at dksJ3_checkBoundsOffCount_0 6 rfl rfl)
theorem dJ3_checkBoundsOffCount_9 : decode cJ3_checkBoundsOffCount 9 = .ok (.pop, 1) := dk_87 (dk_at dksJ3_checkBoundsOffCount_0 9 rfl rfl)
theorem dJ3_checkBoundsOffCount_10 : decode cJ3_checkBoundsOffCount 10 = .ok (.return_, 1) := dk_177 (dk_at dksJ3_checkBoundsOffCount_0 10 rfl rfl)
abbrev cJ3_length : ByteArray := prog_41_method_6_code
def yJ3_length : MethodName := ⟨RJ3, "length", "([B)I"⟩
def dkwJ3_length_0 : List UInt8 := [42, 190, 4, 122, 172]
abbrev dktJ3_length_0 : List UInt8 := dkwJ3_length_0 ++ []
theorem dksJ3_length_0 : cJ3_length.data.toList.drop 0 = dktJ3_length_0 := by decide +kernel
theorem dJ3_length_0 : decode cJ3_length 0 = .ok (.aload_n 0, 1) := dk_42 (dk_at dksJ3_length_0 0 rfl rfl)
theorem dJ3_length_1 : decode cJ3_length 1 = .ok (.arraylength, 1) := dk_190 (dk_at dksJ3_length_0 1 rfl rfl)
theorem dJ3_length_2 : decode cJ3_length 2 = .ok (.iconst 1, 1) := dk_4 (dk_at dksJ3_length_0 2 rfl rfl)
theorem dJ3_length_3 : decode cJ3_length 3 = .ok (.ishr, 1) := dk_122 (dk_at dksJ3_length_0 3 rfl rfl)
theorem dJ3_length_4 : decode cJ3_length 4 = .ok (.ireturn, 1) := dk_172 (dk_at dksJ3_length_0 4 rfl rfl)
abbrev cJ3_putChar : ByteArray := prog_41_method_4_code
def yJ3_putChar : MethodName := ⟨RJ3, "putChar", "([BII)V"⟩
def dkwJ3_putChar_2 : List UInt8 := [178, 0, 63, 122, 145, 84, 177]
abbrev dktJ3_putChar_2 : List UInt8 := dkwJ3_putChar_2 ++ []
def dkwJ3_putChar_1 : List UInt8 := [183, 0, 56, 191, 27, 4, 120, 60, 42, 27, 132, 1, 1, 28, 178, 0, 59, 122, 145, 84, 42, 27, 28]
abbrev dktJ3_putChar_1 : List UInt8 := dkwJ3_putChar_1 ++ dktJ3_putChar_2
def dkwJ3_putChar_0 : List UInt8 := [178, 0, 44, 154, 0, 25, 27, 155, 0, 11, 27, 42, 184, 0, 48, 161, 0, 13, 187, 0, 52, 89, 18, 54]
abbrev dktJ3_putChar_0 : List UInt8 := dkwJ3_putChar_0 ++ dktJ3_putChar_1
theorem dksJ3_putChar_0 : cJ3_putChar.data.toList.drop 0 = dktJ3_putChar_0 := by decide +kernel
theorem dksJ3_putChar_1 : cJ3_putChar.data.toList.drop 24 = dktJ3_putChar_1 := dk_seg dksJ3_putChar_0 24 rfl rfl
theorem dksJ3_putChar_2 : cJ3_putChar.data.toList.drop 47 = dktJ3_putChar_2 := dk_seg dksJ3_putChar_1 23 rfl rfl
theorem dJ3_putChar_0 : decode cJ3_putChar 0 = .ok (.getstatic 44, 3) := dk_178 0 44 (dk_at dksJ3_putChar_0 0 rfl rfl)
theorem dJ3_putChar_3 : decode cJ3_putChar 3 = .ok (.ifCond .ne 25, 3) := dk_154 0 25 (dk_at dksJ3_putChar_0 3 rfl rfl)
theorem dJ3_putChar_6 : decode cJ3_putChar 6 = .ok (.iload_n 1, 1) := dk_27 (dk_at dksJ3_putChar_0 6 rfl rfl)
theorem dJ3_putChar_7 : decode cJ3_putChar 7 = .ok (.ifCond .lt 11, 3) := dk_155 0 11 (dk_at dksJ3_putChar_0 7 rfl rfl)
theorem dJ3_putChar_10 : decode cJ3_putChar 10 = .ok (.iload_n 1, 1) := dk_27 (dk_at dksJ3_putChar_0 10 rfl rfl)
theorem dJ3_putChar_11 : decode cJ3_putChar 11 = .ok (.aload_n 0, 1) := dk_42 (dk_at dksJ3_putChar_0 11 rfl rfl)
theorem dJ3_putChar_12 : decode cJ3_putChar 12 = .ok (.invokestatic 48, 3) := dk_184 0 48 (dk_at dksJ3_putChar_0 12 rfl rfl)
theorem dJ3_putChar_15 : decode cJ3_putChar 15 = .ok (.if_icmp .lt 13, 3) := dk_161 0 13 (dk_at dksJ3_putChar_0 15 rfl rfl)
theorem dJ3_putChar_18 : decode cJ3_putChar 18 = .ok (.new 52, 3) := dk_187 0 52 (dk_at dksJ3_putChar_0 18 rfl rfl)
theorem dJ3_putChar_21 : decode cJ3_putChar 21 = .ok (.dup, 1) := dk_89 (dk_at dksJ3_putChar_0 21 rfl rfl)
theorem dJ3_putChar_22 : decode cJ3_putChar 22 = .ok (.ldc 54, 2) := dk_18 54 (dk_at dksJ3_putChar_0 22 rfl rfl)
theorem dJ3_putChar_24 : decode cJ3_putChar 24 = .ok (.invokespecial 56, 3) := dk_183 0 56 (dk_at dksJ3_putChar_1 0 rfl rfl)
theorem dJ3_putChar_27 : decode cJ3_putChar 27 = .ok (.athrow, 1) := dk_191 (dk_at dksJ3_putChar_1 3 rfl rfl)
theorem dJ3_putChar_28 : decode cJ3_putChar 28 = .ok (.iload_n 1, 1) := dk_27 (dk_at dksJ3_putChar_1 4 rfl rfl)
theorem dJ3_putChar_29 : decode cJ3_putChar 29 = .ok (.iconst 1, 1) := dk_4 (dk_at dksJ3_putChar_1 5 rfl rfl)
theorem dJ3_putChar_30 : decode cJ3_putChar 30 = .ok (.ishl, 1) := dk_120 (dk_at dksJ3_putChar_1 6 rfl rfl)
theorem dJ3_putChar_31 : decode cJ3_putChar 31 = .ok (.istore_n 1, 1) := dk_60 (dk_at dksJ3_putChar_1 7 rfl rfl)
theorem dJ3_putChar_32 : decode cJ3_putChar 32 = .ok (.aload_n 0, 1) := dk_42 (dk_at dksJ3_putChar_1 8 rfl rfl)
theorem dJ3_putChar_33 : decode cJ3_putChar 33 = .ok (.iload_n 1, 1) := dk_27 (dk_at dksJ3_putChar_1 9 rfl rfl)
theorem dJ3_putChar_34 : decode cJ3_putChar 34 = .ok (.iinc 1 1, 3) := dk_132 1 1 (dk_at dksJ3_putChar_1 10 rfl rfl)
theorem dJ3_putChar_37 : decode cJ3_putChar 37 = .ok (.iload_n 2, 1) := dk_28 (dk_at dksJ3_putChar_1 13 rfl rfl)
theorem dJ3_putChar_38 : decode cJ3_putChar 38 = .ok (.getstatic 59, 3) := dk_178 0 59 (dk_at dksJ3_putChar_1 14 rfl rfl)
theorem dJ3_putChar_41 : decode cJ3_putChar 41 = .ok (.ishr, 1) := dk_122 (dk_at dksJ3_putChar_1 17 rfl rfl)
theorem dJ3_putChar_42 : decode cJ3_putChar 42 = .ok (.i2b, 1) := dk_145 (dk_at dksJ3_putChar_1 18 rfl rfl)
theorem dJ3_putChar_43 : decode cJ3_putChar 43 = .ok (.bastore, 1) := dk_84 (dk_at dksJ3_putChar_1 19 rfl rfl)
theorem dJ3_putChar_44 : decode cJ3_putChar 44 = .ok (.aload_n 0, 1) := dk_42 (dk_at dksJ3_putChar_1 20 rfl rfl)
theorem dJ3_putChar_45 : decode cJ3_putChar 45 = .ok (.iload_n 1, 1) := dk_27 (dk_at dksJ3_putChar_1 21 rfl rfl)
theorem dJ3_putChar_46 : decode cJ3_putChar 46 = .ok (.iload_n 2, 1) := dk_28 (dk_at dksJ3_putChar_1 22 rfl rfl)
theorem dJ3_putChar_47 : decode cJ3_putChar 47 = .ok (.getstatic 63, 3) := dk_178 0 63 (dk_at dksJ3_putChar_2 0 rfl rfl)
theorem dJ3_putChar_50 : decode cJ3_putChar 50 = .ok (.ishr, 1) := dk_122 (dk_at dksJ3_putChar_2 3 rfl rfl)
theorem dJ3_putChar_51 : decode cJ3_putChar 51 = .ok (.i2b, 1) := dk_145 (dk_at dksJ3_putChar_2 4 rfl rfl)
theorem dJ3_putChar_52 : decode cJ3_putChar 52 = .ok (.bastore, 1) := dk_84 (dk_at dksJ3_putChar_2 5 rfl rfl)
theorem dJ3_putChar_53 : decode cJ3_putChar 53 = .ok (.return_, 1) := dk_177 (dk_at dksJ3_putChar_2 6 rfl rfl)
abbrev cJ3_putCharSB : ByteArray := prog_41_method_71_code
def yJ3_putCharSB : MethodName := ⟨RJ3, "putCharSB", "([BII)V"⟩
def dkwJ3_putCharSB_0 : List UInt8 := [27, 42, 184, 0, 67, 42, 27, 28, 184, 0, 111, 177]
abbrev dktJ3_putCharSB_0 : List UInt8 := dkwJ3_putCharSB_0 ++ []
theorem dksJ3_putCharSB_0 : cJ3_putCharSB.data.toList.drop 0 = dktJ3_putCharSB_0 := by decide +kernel
theorem dJ3_putCharSB_0 : decode cJ3_putCharSB 0 = .ok (.iload_n 1, 1) := dk_27 (dk_at dksJ3_putCharSB_0 0 rfl rfl)
theorem dJ3_putCharSB_1 : decode cJ3_putCharSB 1 = .ok (.aload_n 0, 1) := dk_42 (dk_at dksJ3_putCharSB_0 1 rfl rfl)
theorem dJ3_putCharSB_2 : decode cJ3_putCharSB 2 = .ok (.invokestatic 67, 3) := dk_184 0 67 (dk_at dksJ3_putCharSB_0 2 rfl rfl)
theorem dJ3_putCharSB_5 : decode cJ3_putCharSB 5 = .ok (.aload_n 0, 1) := dk_42 (dk_at dksJ3_putCharSB_0 5 rfl rfl)
theorem dJ3_putCharSB_6 : decode cJ3_putCharSB 6 = .ok (.iload_n 1, 1) := dk_27 (dk_at dksJ3_putCharSB_0 6 rfl rfl)
theorem dJ3_putCharSB_7 : decode cJ3_putCharSB 7 = .ok (.iload_n 2, 1) := dk_28 (dk_at dksJ3_putCharSB_0 7 rfl rfl)
theorem dJ3_putCharSB_8 : decode cJ3_putCharSB 8 = .ok (.invokestatic 111, 3) := dk_184 0 111 (dk_at dksJ3_putCharSB_0 8 rfl rfl)
theorem dJ3_putCharSB_11 : decode cJ3_putCharSB 11 = .ok (.return_, 1) := dk_177 (dk_at dksJ3_putCharSB_0 11 rfl rfl)
abbrev cJ3_checkIndex : ByteArray := prog_41_method_91_code
def yJ3_checkIndex : MethodName := ⟨RJ3, "checkIndex", "(I[B)V"⟩
def dkwJ3_checkIndex_0 : List UInt8 := [26, 43, 184, 0, 48, 184, 1, 158, 177]
abbrev dktJ3_checkIndex_0 : List UInt8 := dkwJ3_checkIndex_0 ++ []
theorem dksJ3_checkIndex_0 : cJ3_checkIndex.data.toList.drop 0 = dktJ3_checkIndex_0 := by decide +kernel
theorem dJ3_checkIndex_0 : decode cJ3_checkIndex 0 = .ok (.iload_n 0, 1) := dk_26 (dk_at dksJ3_checkIndex_0 0 rfl rfl)
theorem dJ3_checkIndex_1 : decode cJ3_checkIndex 1 = .ok (.aload_n 1, 1) := dk_43 (dk_at dksJ3_checkIndex_0 1 rfl rfl)
theorem dJ3_checkIndex_2 : decode cJ3_checkIndex 2 = .ok (.invokestatic 48, 3) := dk_184 0 48 (dk_at dksJ3_checkIndex_0 2 rfl rfl)
theorem dJ3_checkIndex_5 : decode cJ3_checkIndex 5 = .ok (.invokestatic 414, 3) := dk_184 1 158 (dk_at dksJ3_checkIndex_0 5 rfl rfl)
theorem dJ3_checkIndex_8 : decode cJ3_checkIndex 8 = .ok (.return_, 1) := dk_177 (dk_at dksJ3_checkIndex_0 8 rfl rfl)
abbrev cJ3_putCharsAt : ByteArray := prog_41_method_81_code
def yJ3_putCharsAt : MethodName := ⟨RJ3, "putCharsAt", "([BICCCC)I"⟩
def dkwJ3_putCharsAt_3 : List UInt8 := [21, 6, 172]
abbrev dktJ3_putCharsAt_3 : List UInt8 := dkwJ3_putCharsAt_3 ++ []
def dkwJ3_putCharsAt_2 : List UInt8 := [184, 0, 111, 178, 0, 44, 154, 0, 17, 27, 21, 6, 159, 0, 11, 187, 0, 52, 89, 183, 0, 66, 191]
abbrev dktJ3_putCharsAt_2 : List UInt8 := dkwJ3_putCharsAt_2 ++ dktJ3_putCharsAt_3
def dkwJ3_putCharsAt_1 : List UInt8 := [132, 1, 1, 29, 184, 0, 111, 42, 27, 132, 1, 1, 21, 4, 184, 0, 111, 42, 27, 132, 1, 1, 21, 5]
abbrev dktJ3_putCharsAt_1 : List UInt8 := dkwJ3_putCharsAt_1 ++ dktJ3_putCharsAt_2
def dkwJ3_putCharsAt_0 : List UInt8 := [27, 7, 96, 54, 6, 27, 21, 6, 42, 184, 0, 96, 42, 27, 132, 1, 1, 28, 184, 0, 111, 42, 27]
abbrev dktJ3_putCharsAt_0 : List UInt8 := dkwJ3_putCharsAt_0 ++ dktJ3_putCharsAt_1
theorem dksJ3_putCharsAt_0 : cJ3_putCharsAt.data.toList.drop 0 = dktJ3_putCharsAt_0 := by decide +kernel
theorem dksJ3_putCharsAt_1 : cJ3_putCharsAt.data.toList.drop 23 = dktJ3_putCharsAt_1 := dk_seg dksJ3_putCharsAt_0 23 rfl rfl
theorem dksJ3_putCharsAt_2 : cJ3_putCharsAt.data.toList.drop 47 = dktJ3_putCharsAt_2 := dk_seg dksJ3_putCharsAt_1 24 rfl rfl
theorem dksJ3_putCharsAt_3 : cJ3_putCharsAt.data.toList.drop 70 = dktJ3_putCharsAt_3 := dk_seg dksJ3_putCharsAt_2 23 rfl rfl
theorem dJ3_putCharsAt_0 : decode cJ3_putCharsAt 0 = .ok (.iload_n 1, 1) := dk_27 (dk_at dksJ3_putCharsAt_0 0 rfl rfl)
theorem dJ3_putCharsAt_1 : decode cJ3_putCharsAt 1 = .ok (.iconst 4, 1) := dk_7 (dk_at dksJ3_putCharsAt_0 1 rfl rfl)
theorem dJ3_putCharsAt_2 : decode cJ3_putCharsAt 2 = .ok (.iadd, 1) := dk_96 (dk_at dksJ3_putCharsAt_0 2 rfl rfl)
theorem dJ3_putCharsAt_3 : decode cJ3_putCharsAt 3 = .ok (.istore 6, 2) := dk_54 6 (dk_at dksJ3_putCharsAt_0 3 rfl rfl)
theorem dJ3_putCharsAt_5 : decode cJ3_putCharsAt 5 = .ok (.iload_n 1, 1) := dk_27 (dk_at dksJ3_putCharsAt_0 5 rfl rfl)
theorem dJ3_putCharsAt_6 : decode cJ3_putCharsAt 6 = .ok (.iload 6, 2) := dk_21 6 (dk_at dksJ3_putCharsAt_0 6 rfl rfl)
theorem dJ3_putCharsAt_8 : decode cJ3_putCharsAt 8 = .ok (.aload_n 0, 1) := dk_42 (dk_at dksJ3_putCharsAt_0 8 rfl rfl)
theorem dJ3_putCharsAt_9 : decode cJ3_putCharsAt 9 = .ok (.invokestatic 96, 3) := dk_184 0 96 (dk_at dksJ3_putCharsAt_0 9 rfl rfl)
theorem dJ3_putCharsAt_12 : decode cJ3_putCharsAt 12 = .ok (.aload_n 0, 1) := dk_42 (dk_at dksJ3_putCharsAt_0 12 rfl rfl)
theorem dJ3_putCharsAt_13 : decode cJ3_putCharsAt 13 = .ok (.iload_n 1, 1) := dk_27 (dk_at dksJ3_putCharsAt_0 13 rfl rfl)
theorem dJ3_putCharsAt_14 : decode cJ3_putCharsAt 14 = .ok (.iinc 1 1, 3) := dk_132 1 1 (dk_at dksJ3_putCharsAt_0 14 rfl rfl)
theorem dJ3_putCharsAt_17 : decode cJ3_putCharsAt 17 = .ok (.iload_n 2, 1) := dk_28 (dk_at dksJ3_putCharsAt_0 17 rfl rfl)
theorem dJ3_putCharsAt_18 : decode cJ3_putCharsAt 18 = .ok (.invokestatic 111, 3) := dk_184 0 111 (dk_at dksJ3_putCharsAt_0 18 rfl rfl)
theorem dJ3_putCharsAt_21 : decode cJ3_putCharsAt 21 = .ok (.aload_n 0, 1) := dk_42 (dk_at dksJ3_putCharsAt_0 21 rfl rfl)
theorem dJ3_putCharsAt_22 : decode cJ3_putCharsAt 22 = .ok (.iload_n 1, 1) := dk_27 (dk_at dksJ3_putCharsAt_0 22 rfl rfl)
theorem dJ3_putCharsAt_23 : decode cJ3_putCharsAt 23 = .ok (.iinc 1 1, 3) := dk_132 1 1 (dk_at dksJ3_putCharsAt_1 0 rfl rfl)
theorem dJ3_putCharsAt_26 : decode cJ3_putCharsAt 26 = .ok (.iload_n 3, 1) := dk_29 (dk_at dksJ3_putCharsAt_1 3 rfl rfl)
theorem dJ3_putCharsAt_27 : decode cJ3_putCharsAt 27 = .ok (.invokestatic 111, 3) := dk_184 0 111 (dk_at dksJ3_putCharsAt_1 4 rfl rfl)
theorem dJ3_putCharsAt_30 : decode cJ3_putCharsAt 30 = .ok (.aload_n 0, 1) := dk_42 (dk_at dksJ3_putCharsAt_1 7 rfl rfl)
theorem dJ3_putCharsAt_31 : decode cJ3_putCharsAt 31 = .ok (.iload_n 1, 1) := dk_27 (dk_at dksJ3_putCharsAt_1 8 rfl rfl)
theorem dJ3_putCharsAt_32 : decode cJ3_putCharsAt 32 = .ok (.iinc 1 1, 3) := dk_132 1 1 (dk_at dksJ3_putCharsAt_1 9 rfl rfl)
theorem dJ3_putCharsAt_35 : decode cJ3_putCharsAt 35 = .ok (.iload 4, 2) := dk_21 4 (dk_at dksJ3_putCharsAt_1 12 rfl rfl)
theorem dJ3_putCharsAt_37 : decode cJ3_putCharsAt 37 = .ok (.invokestatic 111, 3) := dk_184 0 111 (dk_at dksJ3_putCharsAt_1 14 rfl rfl)
theorem dJ3_putCharsAt_40 : decode cJ3_putCharsAt 40 = .ok (.aload_n 0, 1) := dk_42 (dk_at dksJ3_putCharsAt_1 17 rfl rfl)
theorem dJ3_putCharsAt_41 : decode cJ3_putCharsAt 41 = .ok (.iload_n 1, 1) := dk_27 (dk_at dksJ3_putCharsAt_1 18 rfl rfl)
theorem dJ3_putCharsAt_42 : decode cJ3_putCharsAt 42 = .ok (.iinc 1 1, 3) := dk_132 1 1 (dk_at dksJ3_putCharsAt_1 19 rfl rfl)
theorem dJ3_putCharsAt_45 : decode cJ3_putCharsAt 45 = .ok (.iload 5, 2) := dk_21 5 (dk_at dksJ3_putCharsAt_1 22 rfl rfl)
theorem dJ3_putCharsAt_47 : decode cJ3_putCharsAt 47 = .ok (.invokestatic 111, 3) := dk_184 0 111 (dk_at dksJ3_putCharsAt_2 0 rfl rfl)
theorem dJ3_putCharsAt_50 : decode cJ3_putCharsAt 50 = .ok (.getstatic 44, 3) := dk_178 0 44 (dk_at dksJ3_putCharsAt_2 3 rfl rfl)
theorem dJ3_putCharsAt_53 : decode cJ3_putCharsAt 53 = .ok (.ifCond .ne 17, 3) := dk_154 0 17 (dk_at dksJ3_putCharsAt_2 6 rfl rfl)
theorem dJ3_putCharsAt_56 : decode cJ3_putCharsAt 56 = .ok (.iload_n 1, 1) := dk_27 (dk_at dksJ3_putCharsAt_2 9 rfl rfl)
theorem dJ3_putCharsAt_57 : decode cJ3_putCharsAt 57 = .ok (.iload 6, 2) := dk_21 6 (dk_at dksJ3_putCharsAt_2 10 rfl rfl)
theorem dJ3_putCharsAt_59 : decode cJ3_putCharsAt 59 = .ok (.if_icmp .eq 11, 3) := dk_159 0 11 (dk_at dksJ3_putCharsAt_2 12 rfl rfl)
theorem dJ3_putCharsAt_62 : decode cJ3_putCharsAt 62 = .ok (.new 52, 3) := dk_187 0 52 (dk_at dksJ3_putCharsAt_2 15 rfl rfl)
theorem dJ3_putCharsAt_65 : decode cJ3_putCharsAt 65 = .ok (.dup, 1) := dk_89 (dk_at dksJ3_putCharsAt_2 18 rfl rfl)
theorem dJ3_putCharsAt_66 : decode cJ3_putCharsAt 66 = .ok (.invokespecial 66, 3) := dk_183 0 66 (dk_at dksJ3_putCharsAt_2 19 rfl rfl)
theorem dJ3_putCharsAt_69 : decode cJ3_putCharsAt 69 = .ok (.athrow, 1) := dk_191 (dk_at dksJ3_putCharsAt_2 22 rfl rfl)
theorem dJ3_putCharsAt_70 : decode cJ3_putCharsAt 70 = .ok (.iload 6, 2) := dk_21 6 (dk_at dksJ3_putCharsAt_3 0 rfl rfl)
theorem dJ3_putCharsAt_72 : decode cJ3_putCharsAt 72 = .ok (.ireturn, 1) := dk_172 (dk_at dksJ3_putCharsAt_3 2 rfl rfl)
abbrev cJ3_checkBoundsBeginEnd : ByteArray := prog_41_method_93_code
def yJ3_checkBoundsBeginEnd : MethodName := ⟨RJ3, "checkBoundsBeginEnd", "(II[B)V"⟩
def dkwJ3_checkBoundsBeginEnd_0 : List UInt8 := [26, 27, 44, 184, 0, 48, 184, 0, 241, 177]
abbrev dktJ3_checkBoundsBeginEnd_0 : List UInt8 := dkwJ3_checkBoundsBeginEnd_0 ++ []
theorem dksJ3_checkBoundsBeginEnd_0 : cJ3_checkBoundsBeginEnd.data.toList.drop 0 = dktJ3_checkBoundsBeginEnd_0 := by decide +kernel
theorem dJ3_checkBoundsBeginEnd_0 : decode cJ3_checkBoundsBeginEnd 0 = .ok (.iload_n 0, 1) := dk_26 (dk_at dksJ3_checkBoundsBeginEnd_0 0 rfl rfl)
theorem dJ3_checkBoundsBeginEnd_1 : decode cJ3_checkBoundsBeginEnd 1 = .ok (.iload_n 1, 1) := dk_27 (dk_at dksJ3_checkBoundsBeginEnd_0 1 rfl rfl)
theorem dJ3_checkBoundsBeginEnd_2 : decode cJ3_checkBoundsBeginEnd 2 = .ok (.aload_n 2, 1) := dk_44 (dk_at dksJ3_checkBoundsBeginEnd_0 2 rfl rfl)
theorem dJ3_checkBoundsBeginEnd_3 : decode cJ3_checkBoundsBeginEnd 3 = .ok (.invokestatic 48, 3) := dk_184 0 48 (dk_at dksJ3_checkBoundsBeginEnd_0 3 rfl rfl)
theorem dJ3_checkBoundsBeginEnd_6 : decode cJ3_checkBoundsBeginEnd 6 = .ok (.invokestatic 241, 3) := dk_184 0 241 (dk_at dksJ3_checkBoundsBeginEnd_0 6 rfl rfl)
theorem dJ3_checkBoundsBeginEnd_9 : decode cJ3_checkBoundsBeginEnd 9 = .ok (.return_, 1) := dk_177 (dk_at dksJ3_checkBoundsBeginEnd_0 9 rfl rfl)
abbrev cJ3_getChars : ByteArray := prog_41_method_77_code
def yJ3_getChars : MethodName := ⟨RJ3, "getChars", "(III[B)I"⟩
def dkwJ3_getChars_1 : List UInt8 := [159, 0, 11, 187, 0, 52, 89, 183, 0, 66, 191, 21, 4, 172]
abbrev dktJ3_getChars_1 : List UInt8 := dkwJ3_getChars_1 ++ []
def dkwJ3_getChars_0 : List UInt8 := [27, 28, 45, 184, 0, 96, 26, 28, 45, 184, 1, 137, 54, 4, 178, 0, 44, 154, 0, 17, 27, 21, 4]
abbrev dktJ3_getChars_0 : List UInt8 := dkwJ3_getChars_0 ++ dktJ3_getChars_1
theorem dksJ3_getChars_0 : cJ3_getChars.data.toList.drop 0 = dktJ3_getChars_0 := by decide +kernel
theorem dksJ3_getChars_1 : cJ3_getChars.data.toList.drop 23 = dktJ3_getChars_1 := dk_seg dksJ3_getChars_0 23 rfl rfl
theorem dJ3_getChars_0 : decode cJ3_getChars 0 = .ok (.iload_n 1, 1) := dk_27 (dk_at dksJ3_getChars_0 0 rfl rfl)
theorem dJ3_getChars_1 : decode cJ3_getChars 1 = .ok (.iload_n 2, 1) := dk_28 (dk_at dksJ3_getChars_0 1 rfl rfl)
theorem dJ3_getChars_2 : decode cJ3_getChars 2 = .ok (.aload_n 3, 1) := dk_45 (dk_at dksJ3_getChars_0 2 rfl rfl)
theorem dJ3_getChars_3 : decode cJ3_getChars 3 = .ok (.invokestatic 96, 3) := dk_184 0 96 (dk_at dksJ3_getChars_0 3 rfl rfl)
theorem dJ3_getChars_6 : decode cJ3_getChars 6 = .ok (.iload_n 0, 1) := dk_26 (dk_at dksJ3_getChars_0 6 rfl rfl)
theorem dJ3_getChars_7 : decode cJ3_getChars 7 = .ok (.iload_n 2, 1) := dk_28 (dk_at dksJ3_getChars_0 7 rfl rfl)
theorem dJ3_getChars_8 : decode cJ3_getChars 8 = .ok (.aload_n 3, 1) := dk_45 (dk_at dksJ3_getChars_0 8 rfl rfl)
theorem dJ3_getChars_9 : decode cJ3_getChars 9 = .ok (.invokestatic 393, 3) := dk_184 1 137 (dk_at dksJ3_getChars_0 9 rfl rfl)
theorem dJ3_getChars_12 : decode cJ3_getChars 12 = .ok (.istore 4, 2) := dk_54 4 (dk_at dksJ3_getChars_0 12 rfl rfl)
theorem dJ3_getChars_14 : decode cJ3_getChars 14 = .ok (.getstatic 44, 3) := dk_178 0 44 (dk_at dksJ3_getChars_0 14 rfl rfl)
theorem dJ3_getChars_17 : decode cJ3_getChars 17 = .ok (.ifCond .ne 17, 3) := dk_154 0 17 (dk_at dksJ3_getChars_0 17 rfl rfl)
theorem dJ3_getChars_20 : decode cJ3_getChars 20 = .ok (.iload_n 1, 1) := dk_27 (dk_at dksJ3_getChars_0 20 rfl rfl)
theorem dJ3_getChars_21 : decode cJ3_getChars 21 = .ok (.iload 4, 2) := dk_21 4 (dk_at dksJ3_getChars_0 21 rfl rfl)
theorem dJ3_getChars_23 : decode cJ3_getChars 23 = .ok (.if_icmp .eq 11, 3) := dk_159 0 11 (dk_at dksJ3_getChars_1 0 rfl rfl)
theorem dJ3_getChars_26 : decode cJ3_getChars 26 = .ok (.new 52, 3) := dk_187 0 52 (dk_at dksJ3_getChars_1 3 rfl rfl)
theorem dJ3_getChars_29 : decode cJ3_getChars 29 = .ok (.dup, 1) := dk_89 (dk_at dksJ3_getChars_1 6 rfl rfl)
theorem dJ3_getChars_30 : decode cJ3_getChars 30 = .ok (.invokespecial 66, 3) := dk_183 0 66 (dk_at dksJ3_getChars_1 7 rfl rfl)
theorem dJ3_getChars_33 : decode cJ3_getChars 33 = .ok (.athrow, 1) := dk_191 (dk_at dksJ3_getChars_1 10 rfl rfl)
theorem dJ3_getChars_34 : decode cJ3_getChars 34 = .ok (.iload 4, 2) := dk_21 4 (dk_at dksJ3_getChars_1 11 rfl rfl)
theorem dJ3_getChars_36 : decode cJ3_getChars 36 = .ok (.ireturn, 1) := dk_172 (dk_at dksJ3_getChars_1 13 rfl rfl)
abbrev cJ3_getChars_2 : ByteArray := prog_41_method_89_code
def yJ3_getChars_2 : MethodName := ⟨RJ3, "getChars", "(II[B)I"⟩
def dkwJ3_getChars_2_5 : List UInt8 := [132, 5, 255, 21, 5, 16, 45, 184, 0, 111, 21, 5, 172]
abbrev dktJ3_getChars_2_5 : List UInt8 := dkwJ3_getChars_2_5 ++ []
def dkwJ3_getChars_2_4 : List UInt8 := [162, 0, 18, 44, 132, 5, 255, 21, 5, 178, 1, 151, 26, 116, 51, 184, 0, 111, 21, 6, 153, 0, 14, 44]
abbrev dktJ3_getChars_2_4 : List UInt8 := dkwJ3_getChars_2_4 ++ dktJ3_getChars_2_5
def dkwJ3_getChars_2_3 : List UInt8 := [184, 0, 111, 167, 255, 205, 44, 132, 5, 255, 21, 5, 178, 1, 147, 26, 116, 51, 184, 0, 111, 26, 16, 247]
abbrev dktJ3_getChars_2_3 : List UInt8 := dkwJ3_getChars_2_3 ++ dktJ3_getChars_2_4
def dkwJ3_getChars_2_2 : List UInt8 := [21, 5, 178, 1, 147, 21, 4, 51, 184, 0, 111, 44, 132, 5, 255, 21, 5, 178, 1, 151, 21, 4, 51]
abbrev dktJ3_getChars_2_2 : List UInt8 := dkwJ3_getChars_2_2 ++ dktJ3_getChars_2_3
def dkwJ3_getChars_2_1 : List UInt8 := [16, 156, 163, 0, 51, 26, 16, 100, 108, 62, 29, 16, 100, 104, 26, 100, 54, 4, 29, 59, 44, 132, 5, 255]
abbrev dktJ3_getChars_2_1 : List UInt8 := dkwJ3_getChars_2_1 ++ dktJ3_getChars_2_2
def dkwJ3_getChars_2_0 : List UInt8 := [27, 54, 5, 26, 156, 0, 7, 4, 167, 0, 4, 3, 54, 6, 21, 6, 154, 0, 6, 26, 116, 59, 26]
abbrev dktJ3_getChars_2_0 : List UInt8 := dkwJ3_getChars_2_0 ++ dktJ3_getChars_2_1
theorem dksJ3_getChars_2_0 : cJ3_getChars_2.data.toList.drop 0 = dktJ3_getChars_2_0 := by decide +kernel
theorem dksJ3_getChars_2_1 : cJ3_getChars_2.data.toList.drop 23 = dktJ3_getChars_2_1 := dk_seg dksJ3_getChars_2_0 23 rfl rfl
theorem dksJ3_getChars_2_2 : cJ3_getChars_2.data.toList.drop 47 = dktJ3_getChars_2_2 := dk_seg dksJ3_getChars_2_1 24 rfl rfl
theorem dksJ3_getChars_2_3 : cJ3_getChars_2.data.toList.drop 70 = dktJ3_getChars_2_3 := dk_seg dksJ3_getChars_2_2 23 rfl rfl
theorem dksJ3_getChars_2_4 : cJ3_getChars_2.data.toList.drop 94 = dktJ3_getChars_2_4 := dk_seg dksJ3_getChars_2_3 24 rfl rfl
theorem dksJ3_getChars_2_5 : cJ3_getChars_2.data.toList.drop 118 = dktJ3_getChars_2_5 := dk_seg dksJ3_getChars_2_4 24 rfl rfl
theorem dJ3_getChars_2_0 : decode cJ3_getChars_2 0 = .ok (.iload_n 1, 1) := dk_27 (dk_at dksJ3_getChars_2_0 0 rfl rfl)
theorem dJ3_getChars_2_1 : decode cJ3_getChars_2 1 = .ok (.istore 5, 2) := dk_54 5 (dk_at dksJ3_getChars_2_0 1 rfl rfl)
theorem dJ3_getChars_2_3 : decode cJ3_getChars_2 3 = .ok (.iload_n 0, 1) := dk_26 (dk_at dksJ3_getChars_2_0 3 rfl rfl)
theorem dJ3_getChars_2_4 : decode cJ3_getChars_2 4 = .ok (.ifCond .ge 7, 3) := dk_156 0 7 (dk_at dksJ3_getChars_2_0 4 rfl rfl)
theorem dJ3_getChars_2_7 : decode cJ3_getChars_2 7 = .ok (.iconst 1, 1) := dk_4 (dk_at dksJ3_getChars_2_0 7 rfl rfl)
theorem dJ3_getChars_2_8 : decode cJ3_getChars_2 8 = .ok (.goto 4, 3) := dk_167 0 4 (dk_at dksJ3_getChars_2_0 8 rfl rfl)
theorem dJ3_getChars_2_11 : decode cJ3_getChars_2 11 = .ok (.iconst 0, 1) := dk_3 (dk_at dksJ3_getChars_2_0 11 rfl rfl)
theorem dJ3_getChars_2_12 : decode cJ3_getChars_2 12 = .ok (.istore 6, 2) := dk_54 6 (dk_at dksJ3_getChars_2_0 12 rfl rfl)
theorem dJ3_getChars_2_14 : decode cJ3_getChars_2 14 = .ok (.iload 6, 2) := dk_21 6 (dk_at dksJ3_getChars_2_0 14 rfl rfl)
theorem dJ3_getChars_2_16 : decode cJ3_getChars_2 16 = .ok (.ifCond .ne 6, 3) := dk_154 0 6 (dk_at dksJ3_getChars_2_0 16 rfl rfl)
theorem dJ3_getChars_2_19 : decode cJ3_getChars_2 19 = .ok (.iload_n 0, 1) := dk_26 (dk_at dksJ3_getChars_2_0 19 rfl rfl)
theorem dJ3_getChars_2_20 : decode cJ3_getChars_2 20 = .ok (.ineg, 1) := dk_116 (dk_at dksJ3_getChars_2_0 20 rfl rfl)
theorem dJ3_getChars_2_21 : decode cJ3_getChars_2 21 = .ok (.istore_n 0, 1) := dk_59 (dk_at dksJ3_getChars_2_0 21 rfl rfl)
theorem dJ3_getChars_2_22 : decode cJ3_getChars_2 22 = .ok (.iload_n 0, 1) := dk_26 (dk_at dksJ3_getChars_2_0 22 rfl rfl)
theorem dJ3_getChars_2_23 : decode cJ3_getChars_2 23 = .ok (.bipush (-100), 2) := dk_16 156 (dk_at dksJ3_getChars_2_1 0 rfl rfl)
theorem dJ3_getChars_2_25 : decode cJ3_getChars_2 25 = .ok (.if_icmp .gt 51, 3) := dk_163 0 51 (dk_at dksJ3_getChars_2_1 2 rfl rfl)
theorem dJ3_getChars_2_28 : decode cJ3_getChars_2 28 = .ok (.iload_n 0, 1) := dk_26 (dk_at dksJ3_getChars_2_1 5 rfl rfl)
theorem dJ3_getChars_2_29 : decode cJ3_getChars_2 29 = .ok (.bipush 100, 2) := dk_16 100 (dk_at dksJ3_getChars_2_1 6 rfl rfl)
theorem dJ3_getChars_2_31 : decode cJ3_getChars_2 31 = .ok (.idiv, 1) := dk_108 (dk_at dksJ3_getChars_2_1 8 rfl rfl)
theorem dJ3_getChars_2_32 : decode cJ3_getChars_2 32 = .ok (.istore_n 3, 1) := dk_62 (dk_at dksJ3_getChars_2_1 9 rfl rfl)
theorem dJ3_getChars_2_33 : decode cJ3_getChars_2 33 = .ok (.iload_n 3, 1) := dk_29 (dk_at dksJ3_getChars_2_1 10 rfl rfl)
theorem dJ3_getChars_2_34 : decode cJ3_getChars_2 34 = .ok (.bipush 100, 2) := dk_16 100 (dk_at dksJ3_getChars_2_1 11 rfl rfl)
theorem dJ3_getChars_2_36 : decode cJ3_getChars_2 36 = .ok (.imul, 1) := dk_104 (dk_at dksJ3_getChars_2_1 13 rfl rfl)
theorem dJ3_getChars_2_37 : decode cJ3_getChars_2 37 = .ok (.iload_n 0, 1) := dk_26 (dk_at dksJ3_getChars_2_1 14 rfl rfl)
theorem dJ3_getChars_2_38 : decode cJ3_getChars_2 38 = .ok (.isub, 1) := dk_100 (dk_at dksJ3_getChars_2_1 15 rfl rfl)
theorem dJ3_getChars_2_39 : decode cJ3_getChars_2 39 = .ok (.istore 4, 2) := dk_54 4 (dk_at dksJ3_getChars_2_1 16 rfl rfl)
theorem dJ3_getChars_2_41 : decode cJ3_getChars_2 41 = .ok (.iload_n 3, 1) := dk_29 (dk_at dksJ3_getChars_2_1 18 rfl rfl)
theorem dJ3_getChars_2_42 : decode cJ3_getChars_2 42 = .ok (.istore_n 0, 1) := dk_59 (dk_at dksJ3_getChars_2_1 19 rfl rfl)
theorem dJ3_getChars_2_43 : decode cJ3_getChars_2 43 = .ok (.aload_n 2, 1) := dk_44 (dk_at dksJ3_getChars_2_1 20 rfl rfl)
theorem dJ3_getChars_2_44 : decode cJ3_getChars_2 44 = .ok (.iinc 5 (-1), 3) := dk_132 5 255 (dk_at dksJ3_getChars_2_1 21 rfl rfl)
theorem dJ3_getChars_2_47 : decode cJ3_getChars_2 47 = .ok (.iload 5, 2) := dk_21 5 (dk_at dksJ3_getChars_2_2 0 rfl rfl)
theorem dJ3_getChars_2_49 : decode cJ3_getChars_2 49 = .ok (.getstatic 403, 3) := dk_178 1 147 (dk_at dksJ3_getChars_2_2 2 rfl rfl)
theorem dJ3_getChars_2_52 : decode cJ3_getChars_2 52 = .ok (.iload 4, 2) := dk_21 4 (dk_at dksJ3_getChars_2_2 5 rfl rfl)
theorem dJ3_getChars_2_54 : decode cJ3_getChars_2 54 = .ok (.baload, 1) := dk_51 (dk_at dksJ3_getChars_2_2 7 rfl rfl)
theorem dJ3_getChars_2_55 : decode cJ3_getChars_2 55 = .ok (.invokestatic 111, 3) := dk_184 0 111 (dk_at dksJ3_getChars_2_2 8 rfl rfl)
theorem dJ3_getChars_2_58 : decode cJ3_getChars_2 58 = .ok (.aload_n 2, 1) := dk_44 (dk_at dksJ3_getChars_2_2 11 rfl rfl)
theorem dJ3_getChars_2_59 : decode cJ3_getChars_2 59 = .ok (.iinc 5 (-1), 3) := dk_132 5 255 (dk_at dksJ3_getChars_2_2 12 rfl rfl)
theorem dJ3_getChars_2_62 : decode cJ3_getChars_2 62 = .ok (.iload 5, 2) := dk_21 5 (dk_at dksJ3_getChars_2_2 15 rfl rfl)
theorem dJ3_getChars_2_64 : decode cJ3_getChars_2 64 = .ok (.getstatic 407, 3) := dk_178 1 151 (dk_at dksJ3_getChars_2_2 17 rfl rfl)
theorem dJ3_getChars_2_67 : decode cJ3_getChars_2 67 = .ok (.iload 4, 2) := dk_21 4 (dk_at dksJ3_getChars_2_2 20 rfl rfl)
theorem dJ3_getChars_2_69 : decode cJ3_getChars_2 69 = .ok (.baload, 1) := dk_51 (dk_at dksJ3_getChars_2_2 22 rfl rfl)
theorem dJ3_getChars_2_70 : decode cJ3_getChars_2 70 = .ok (.invokestatic 111, 3) := dk_184 0 111 (dk_at dksJ3_getChars_2_3 0 rfl rfl)
theorem dJ3_getChars_2_73 : decode cJ3_getChars_2 73 = .ok (.goto (-51), 3) := dk_167 255 205 (dk_at dksJ3_getChars_2_3 3 rfl rfl)
theorem dJ3_getChars_2_76 : decode cJ3_getChars_2 76 = .ok (.aload_n 2, 1) := dk_44 (dk_at dksJ3_getChars_2_3 6 rfl rfl)
theorem dJ3_getChars_2_77 : decode cJ3_getChars_2 77 = .ok (.iinc 5 (-1), 3) := dk_132 5 255 (dk_at dksJ3_getChars_2_3 7 rfl rfl)
theorem dJ3_getChars_2_80 : decode cJ3_getChars_2 80 = .ok (.iload 5, 2) := dk_21 5 (dk_at dksJ3_getChars_2_3 10 rfl rfl)
theorem dJ3_getChars_2_82 : decode cJ3_getChars_2 82 = .ok (.getstatic 403, 3) := dk_178 1 147 (dk_at dksJ3_getChars_2_3 12 rfl rfl)
theorem dJ3_getChars_2_85 : decode cJ3_getChars_2 85 = .ok (.iload_n 0, 1) := dk_26 (dk_at dksJ3_getChars_2_3 15 rfl rfl)
theorem dJ3_getChars_2_86 : decode cJ3_getChars_2 86 = .ok (.ineg, 1) := dk_116 (dk_at dksJ3_getChars_2_3 16 rfl rfl)
theorem dJ3_getChars_2_87 : decode cJ3_getChars_2 87 = .ok (.baload, 1) := dk_51 (dk_at dksJ3_getChars_2_3 17 rfl rfl)
theorem dJ3_getChars_2_88 : decode cJ3_getChars_2 88 = .ok (.invokestatic 111, 3) := dk_184 0 111 (dk_at dksJ3_getChars_2_3 18 rfl rfl)
theorem dJ3_getChars_2_91 : decode cJ3_getChars_2 91 = .ok (.iload_n 0, 1) := dk_26 (dk_at dksJ3_getChars_2_3 21 rfl rfl)
theorem dJ3_getChars_2_92 : decode cJ3_getChars_2 92 = .ok (.bipush (-9), 2) := dk_16 247 (dk_at dksJ3_getChars_2_3 22 rfl rfl)
theorem dJ3_getChars_2_94 : decode cJ3_getChars_2 94 = .ok (.if_icmp .ge 18, 3) := dk_162 0 18 (dk_at dksJ3_getChars_2_4 0 rfl rfl)
theorem dJ3_getChars_2_97 : decode cJ3_getChars_2 97 = .ok (.aload_n 2, 1) := dk_44 (dk_at dksJ3_getChars_2_4 3 rfl rfl)
theorem dJ3_getChars_2_98 : decode cJ3_getChars_2 98 = .ok (.iinc 5 (-1), 3) := dk_132 5 255 (dk_at dksJ3_getChars_2_4 4 rfl rfl)
theorem dJ3_getChars_2_101 : decode cJ3_getChars_2 101 = .ok (.iload 5, 2) := dk_21 5 (dk_at dksJ3_getChars_2_4 7 rfl rfl)
theorem dJ3_getChars_2_103 : decode cJ3_getChars_2 103 = .ok (.getstatic 407, 3) := dk_178 1 151 (dk_at dksJ3_getChars_2_4 9 rfl rfl)
theorem dJ3_getChars_2_106 : decode cJ3_getChars_2 106 = .ok (.iload_n 0, 1) := dk_26 (dk_at dksJ3_getChars_2_4 12 rfl rfl)
theorem dJ3_getChars_2_107 : decode cJ3_getChars_2 107 = .ok (.ineg, 1) := dk_116 (dk_at dksJ3_getChars_2_4 13 rfl rfl)
theorem dJ3_getChars_2_108 : decode cJ3_getChars_2 108 = .ok (.baload, 1) := dk_51 (dk_at dksJ3_getChars_2_4 14 rfl rfl)
theorem dJ3_getChars_2_109 : decode cJ3_getChars_2 109 = .ok (.invokestatic 111, 3) := dk_184 0 111 (dk_at dksJ3_getChars_2_4 15 rfl rfl)
theorem dJ3_getChars_2_112 : decode cJ3_getChars_2 112 = .ok (.iload 6, 2) := dk_21 6 (dk_at dksJ3_getChars_2_4 18 rfl rfl)
theorem dJ3_getChars_2_114 : decode cJ3_getChars_2 114 = .ok (.ifCond .eq 14, 3) := dk_153 0 14 (dk_at dksJ3_getChars_2_4 20 rfl rfl)
theorem dJ3_getChars_2_117 : decode cJ3_getChars_2 117 = .ok (.aload_n 2, 1) := dk_44 (dk_at dksJ3_getChars_2_4 23 rfl rfl)
theorem dJ3_getChars_2_118 : decode cJ3_getChars_2 118 = .ok (.iinc 5 (-1), 3) := dk_132 5 255 (dk_at dksJ3_getChars_2_5 0 rfl rfl)
theorem dJ3_getChars_2_121 : decode cJ3_getChars_2 121 = .ok (.iload 5, 2) := dk_21 5 (dk_at dksJ3_getChars_2_5 3 rfl rfl)
theorem dJ3_getChars_2_123 : decode cJ3_getChars_2 123 = .ok (.bipush 45, 2) := dk_16 45 (dk_at dksJ3_getChars_2_5 5 rfl rfl)
theorem dJ3_getChars_2_125 : decode cJ3_getChars_2 125 = .ok (.invokestatic 111, 3) := dk_184 0 111 (dk_at dksJ3_getChars_2_5 7 rfl rfl)
theorem dJ3_getChars_2_128 : decode cJ3_getChars_2 128 = .ok (.iload 5, 2) := dk_21 5 (dk_at dksJ3_getChars_2_5 10 rfl rfl)
theorem dJ3_getChars_2_130 : decode cJ3_getChars_2 130 = .ok (.ireturn, 1) := dk_172 (dk_at dksJ3_getChars_2_5 12 rfl rfl)
abbrev cJ3_compress : ByteArray := prog_41_method_17_code
def yJ3_compress : MethodName := ⟨RJ3, "compress", "([BII)[B"⟩
def dkwJ3_compress_2 : List UInt8 := [25, 5, 3, 45, 3, 28, 184, 0, 123, 28, 159, 0, 6, 25, 5, 176, 45, 176]
abbrev dktJ3_compress_2 : List UInt8 := dkwJ3_compress_2 ++ []
def dkwJ3_compress_1 : List UInt8 := [27, 28, 96, 184, 0, 11, 184, 0, 126, 58, 5, 25, 5, 21, 4, 184, 0, 71, 17, 0, 255, 163, 0, 16]
abbrev dktJ3_compress_1 : List UInt8 := dkwJ3_compress_1 ++ dktJ3_compress_2
def dkwJ3_compress_0 : List UInt8 := [28, 188, 8, 78, 42, 27, 45, 3, 28, 184, 0, 123, 54, 4, 21, 4, 28, 159, 0, 47, 42, 27, 4, 120]
abbrev dktJ3_compress_0 : List UInt8 := dkwJ3_compress_0 ++ dktJ3_compress_1
theorem dksJ3_compress_0 : cJ3_compress.data.toList.drop 0 = dktJ3_compress_0 := by decide +kernel
theorem dksJ3_compress_1 : cJ3_compress.data.toList.drop 24 = dktJ3_compress_1 := dk_seg dksJ3_compress_0 24 rfl rfl
theorem dksJ3_compress_2 : cJ3_compress.data.toList.drop 48 = dktJ3_compress_2 := dk_seg dksJ3_compress_1 24 rfl rfl
theorem dJ3_compress_0 : decode cJ3_compress 0 = .ok (.iload_n 2, 1) := dk_28 (dk_at dksJ3_compress_0 0 rfl rfl)
theorem dJ3_compress_1 : decode cJ3_compress 1 = .ok (.newarray .byte, 2) := dk_188_8 (dk_at dksJ3_compress_0 1 rfl rfl)
theorem dJ3_compress_3 : decode cJ3_compress 3 = .ok (.astore_n 3, 1) := dk_78 (dk_at dksJ3_compress_0 3 rfl rfl)
theorem dJ3_compress_4 : decode cJ3_compress 4 = .ok (.aload_n 0, 1) := dk_42 (dk_at dksJ3_compress_0 4 rfl rfl)
theorem dJ3_compress_5 : decode cJ3_compress 5 = .ok (.iload_n 1, 1) := dk_27 (dk_at dksJ3_compress_0 5 rfl rfl)
theorem dJ3_compress_6 : decode cJ3_compress 6 = .ok (.aload_n 3, 1) := dk_45 (dk_at dksJ3_compress_0 6 rfl rfl)
theorem dJ3_compress_7 : decode cJ3_compress 7 = .ok (.iconst 0, 1) := dk_3 (dk_at dksJ3_compress_0 7 rfl rfl)
theorem dJ3_compress_8 : decode cJ3_compress 8 = .ok (.iload_n 2, 1) := dk_28 (dk_at dksJ3_compress_0 8 rfl rfl)
theorem dJ3_compress_9 : decode cJ3_compress 9 = .ok (.invokestatic 123, 3) := dk_184 0 123 (dk_at dksJ3_compress_0 9 rfl rfl)
theorem dJ3_compress_12 : decode cJ3_compress 12 = .ok (.istore 4, 2) := dk_54 4 (dk_at dksJ3_compress_0 12 rfl rfl)
theorem dJ3_compress_14 : decode cJ3_compress 14 = .ok (.iload 4, 2) := dk_21 4 (dk_at dksJ3_compress_0 14 rfl rfl)
theorem dJ3_compress_16 : decode cJ3_compress 16 = .ok (.iload_n 2, 1) := dk_28 (dk_at dksJ3_compress_0 16 rfl rfl)
theorem dJ3_compress_17 : decode cJ3_compress 17 = .ok (.if_icmp .eq 47, 3) := dk_159 0 47 (dk_at dksJ3_compress_0 17 rfl rfl)
theorem dJ3_compress_20 : decode cJ3_compress 20 = .ok (.aload_n 0, 1) := dk_42 (dk_at dksJ3_compress_0 20 rfl rfl)
theorem dJ3_compress_21 : decode cJ3_compress 21 = .ok (.iload_n 1, 1) := dk_27 (dk_at dksJ3_compress_0 21 rfl rfl)
theorem dJ3_compress_22 : decode cJ3_compress 22 = .ok (.iconst 1, 1) := dk_4 (dk_at dksJ3_compress_0 22 rfl rfl)
theorem dJ3_compress_23 : decode cJ3_compress 23 = .ok (.ishl, 1) := dk_120 (dk_at dksJ3_compress_0 23 rfl rfl)
theorem dJ3_compress_24 : decode cJ3_compress 24 = .ok (.iload_n 1, 1) := dk_27 (dk_at dksJ3_compress_1 0 rfl rfl)
theorem dJ3_compress_25 : decode cJ3_compress 25 = .ok (.iload_n 2, 1) := dk_28 (dk_at dksJ3_compress_1 1 rfl rfl)
theorem dJ3_compress_26 : decode cJ3_compress 26 = .ok (.iadd, 1) := dk_96 (dk_at dksJ3_compress_1 2 rfl rfl)
theorem dJ3_compress_27 : decode cJ3_compress 27 = .ok (.invokestatic 11, 3) := dk_184 0 11 (dk_at dksJ3_compress_1 3 rfl rfl)
theorem dJ3_compress_30 : decode cJ3_compress 30 = .ok (.invokestatic 126, 3) := dk_184 0 126 (dk_at dksJ3_compress_1 6 rfl rfl)
theorem dJ3_compress_33 : decode cJ3_compress 33 = .ok (.astore 5, 2) := dk_58 5 (dk_at dksJ3_compress_1 9 rfl rfl)
theorem dJ3_compress_35 : decode cJ3_compress 35 = .ok (.aload 5, 2) := dk_25 5 (dk_at dksJ3_compress_1 11 rfl rfl)
theorem dJ3_compress_37 : decode cJ3_compress 37 = .ok (.iload 4, 2) := dk_21 4 (dk_at dksJ3_compress_1 13 rfl rfl)
theorem dJ3_compress_39 : decode cJ3_compress 39 = .ok (.invokestatic 71, 3) := dk_184 0 71 (dk_at dksJ3_compress_1 15 rfl rfl)
theorem dJ3_compress_42 : decode cJ3_compress 42 = .ok (.sipush 255, 3) := dk_17 0 255 (dk_at dksJ3_compress_1 18 rfl rfl)
theorem dJ3_compress_45 : decode cJ3_compress 45 = .ok (.if_icmp .gt 16, 3) := dk_163 0 16 (dk_at dksJ3_compress_1 21 rfl rfl)
theorem dJ3_compress_48 : decode cJ3_compress 48 = .ok (.aload 5, 2) := dk_25 5 (dk_at dksJ3_compress_2 0 rfl rfl)
theorem dJ3_compress_50 : decode cJ3_compress 50 = .ok (.iconst 0, 1) := dk_3 (dk_at dksJ3_compress_2 2 rfl rfl)
theorem dJ3_compress_51 : decode cJ3_compress 51 = .ok (.aload_n 3, 1) := dk_45 (dk_at dksJ3_compress_2 3 rfl rfl)
theorem dJ3_compress_52 : decode cJ3_compress 52 = .ok (.iconst 0, 1) := dk_3 (dk_at dksJ3_compress_2 4 rfl rfl)
theorem dJ3_compress_53 : decode cJ3_compress 53 = .ok (.iload_n 2, 1) := dk_28 (dk_at dksJ3_compress_2 5 rfl rfl)
theorem dJ3_compress_54 : decode cJ3_compress 54 = .ok (.invokestatic 123, 3) := dk_184 0 123 (dk_at dksJ3_compress_2 6 rfl rfl)
theorem dJ3_compress_57 : decode cJ3_compress 57 = .ok (.iload_n 2, 1) := dk_28 (dk_at dksJ3_compress_2 9 rfl rfl)
theorem dJ3_compress_58 : decode cJ3_compress 58 = .ok (.if_icmp .eq 6, 3) := dk_159 0 6 (dk_at dksJ3_compress_2 10 rfl rfl)
theorem dJ3_compress_61 : decode cJ3_compress 61 = .ok (.aload 5, 2) := dk_25 5 (dk_at dksJ3_compress_2 13 rfl rfl)
theorem dJ3_compress_63 : decode cJ3_compress 63 = .ok (.areturn, 1) := dk_176 (dk_at dksJ3_compress_2 15 rfl rfl)
theorem dJ3_compress_64 : decode cJ3_compress 64 = .ok (.aload_n 3, 1) := dk_45 (dk_at dksJ3_compress_2 16 rfl rfl)
theorem dJ3_compress_65 : decode cJ3_compress 65 = .ok (.areturn, 1) := dk_176 (dk_at dksJ3_compress_2 17 rfl rfl)
abbrev cJ3_compress_2 : ByteArray := prog_41_method_22_code
def yJ3_compress_2 : MethodName := ⟨RJ3, "compress", "([BI[BII)I"⟩
def dkwJ3_compress_2_2 : List UInt8 := [132, 5, 1, 167, 255, 216, 21, 4, 172]
abbrev dktJ3_compress_2_2 : List UInt8 := dkwJ3_compress_2_2 ++ []
def dkwJ3_compress_2_1 : List UInt8 := [21, 6, 17, 0, 255, 164, 0, 6, 21, 5, 172, 44, 29, 21, 6, 145, 84, 132, 1, 1, 132, 3, 1]
abbrev dktJ3_compress_2_1 : List UInt8 := dkwJ3_compress_2_1 ++ dktJ3_compress_2_2
def dkwJ3_compress_2_0 : List UInt8 := [27, 21, 4, 42, 184, 0, 173, 3, 54, 5, 21, 5, 21, 4, 162, 0, 39, 42, 27, 184, 0, 71, 54, 6]
abbrev dktJ3_compress_2_0 : List UInt8 := dkwJ3_compress_2_0 ++ dktJ3_compress_2_1
theorem dksJ3_compress_2_0 : cJ3_compress_2.data.toList.drop 0 = dktJ3_compress_2_0 := by decide +kernel
theorem dksJ3_compress_2_1 : cJ3_compress_2.data.toList.drop 24 = dktJ3_compress_2_1 := dk_seg dksJ3_compress_2_0 24 rfl rfl
theorem dksJ3_compress_2_2 : cJ3_compress_2.data.toList.drop 47 = dktJ3_compress_2_2 := dk_seg dksJ3_compress_2_1 23 rfl rfl
theorem dJ3_compress_2_0 : decode cJ3_compress_2 0 = .ok (.iload_n 1, 1) := dk_27 (dk_at dksJ3_compress_2_0 0 rfl rfl)
theorem dJ3_compress_2_1 : decode cJ3_compress_2 1 = .ok (.iload 4, 2) := dk_21 4 (dk_at dksJ3_compress_2_0 1 rfl rfl)
theorem dJ3_compress_2_3 : decode cJ3_compress_2 3 = .ok (.aload_n 0, 1) := dk_42 (dk_at dksJ3_compress_2_0 3 rfl rfl)
theorem dJ3_compress_2_4 : decode cJ3_compress_2 4 = .ok (.invokestatic 173, 3) := dk_184 0 173 (dk_at dksJ3_compress_2_0 4 rfl rfl)
theorem dJ3_compress_2_7 : decode cJ3_compress_2 7 = .ok (.iconst 0, 1) := dk_3 (dk_at dksJ3_compress_2_0 7 rfl rfl)
theorem dJ3_compress_2_8 : decode cJ3_compress_2 8 = .ok (.istore 5, 2) := dk_54 5 (dk_at dksJ3_compress_2_0 8 rfl rfl)
theorem dJ3_compress_2_10 : decode cJ3_compress_2 10 = .ok (.iload 5, 2) := dk_21 5 (dk_at dksJ3_compress_2_0 10 rfl rfl)
theorem dJ3_compress_2_12 : decode cJ3_compress_2 12 = .ok (.iload 4, 2) := dk_21 4 (dk_at dksJ3_compress_2_0 12 rfl rfl)
theorem dJ3_compress_2_14 : decode cJ3_compress_2 14 = .ok (.if_icmp .ge 39, 3) := dk_162 0 39 (dk_at dksJ3_compress_2_0 14 rfl rfl)
theorem dJ3_compress_2_17 : decode cJ3_compress_2 17 = .ok (.aload_n 0, 1) := dk_42 (dk_at dksJ3_compress_2_0 17 rfl rfl)
theorem dJ3_compress_2_18 : decode cJ3_compress_2 18 = .ok (.iload_n 1, 1) := dk_27 (dk_at dksJ3_compress_2_0 18 rfl rfl)
theorem dJ3_compress_2_19 : decode cJ3_compress_2 19 = .ok (.invokestatic 71, 3) := dk_184 0 71 (dk_at dksJ3_compress_2_0 19 rfl rfl)
theorem dJ3_compress_2_22 : decode cJ3_compress_2 22 = .ok (.istore 6, 2) := dk_54 6 (dk_at dksJ3_compress_2_0 22 rfl rfl)
theorem dJ3_compress_2_24 : decode cJ3_compress_2 24 = .ok (.iload 6, 2) := dk_21 6 (dk_at dksJ3_compress_2_1 0 rfl rfl)
theorem dJ3_compress_2_26 : decode cJ3_compress_2 26 = .ok (.sipush 255, 3) := dk_17 0 255 (dk_at dksJ3_compress_2_1 2 rfl rfl)
theorem dJ3_compress_2_29 : decode cJ3_compress_2 29 = .ok (.if_icmp .le 6, 3) := dk_164 0 6 (dk_at dksJ3_compress_2_1 5 rfl rfl)
theorem dJ3_compress_2_32 : decode cJ3_compress_2 32 = .ok (.iload 5, 2) := dk_21 5 (dk_at dksJ3_compress_2_1 8 rfl rfl)
theorem dJ3_compress_2_34 : decode cJ3_compress_2 34 = .ok (.ireturn, 1) := dk_172 (dk_at dksJ3_compress_2_1 10 rfl rfl)
theorem dJ3_compress_2_35 : decode cJ3_compress_2 35 = .ok (.aload_n 2, 1) := dk_44 (dk_at dksJ3_compress_2_1 11 rfl rfl)
theorem dJ3_compress_2_36 : decode cJ3_compress_2 36 = .ok (.iload_n 3, 1) := dk_29 (dk_at dksJ3_compress_2_1 12 rfl rfl)
theorem dJ3_compress_2_37 : decode cJ3_compress_2 37 = .ok (.iload 6, 2) := dk_21 6 (dk_at dksJ3_compress_2_1 13 rfl rfl)
theorem dJ3_compress_2_39 : decode cJ3_compress_2 39 = .ok (.i2b, 1) := dk_145 (dk_at dksJ3_compress_2_1 15 rfl rfl)
theorem dJ3_compress_2_40 : decode cJ3_compress_2 40 = .ok (.bastore, 1) := dk_84 (dk_at dksJ3_compress_2_1 16 rfl rfl)
theorem dJ3_compress_2_41 : decode cJ3_compress_2 41 = .ok (.iinc 1 1, 3) := dk_132 1 1 (dk_at dksJ3_compress_2_1 17 rfl rfl)
theorem dJ3_compress_2_44 : decode cJ3_compress_2 44 = .ok (.iinc 3 1, 3) := dk_132 3 1 (dk_at dksJ3_compress_2_1 20 rfl rfl)
theorem dJ3_compress_2_47 : decode cJ3_compress_2 47 = .ok (.iinc 5 1, 3) := dk_132 5 1 (dk_at dksJ3_compress_2_2 0 rfl rfl)
theorem dJ3_compress_2_50 : decode cJ3_compress_2 50 = .ok (.goto (-40), 3) := dk_167 255 216 (dk_at dksJ3_compress_2_2 3 rfl rfl)
theorem dJ3_compress_2_53 : decode cJ3_compress_2 53 = .ok (.iload 4, 2) := dk_21 4 (dk_at dksJ3_compress_2_2 6 rfl rfl)
theorem dJ3_compress_2_55 : decode cJ3_compress_2 55 = .ok (.ireturn, 1) := dk_172 (dk_at dksJ3_compress_2_2 8 rfl rfl)
abbrev cJ3_getChar : ByteArray := prog_41_method_5_code
def yJ3_getChar : MethodName := ⟨RJ3, "getChar", "([BI)C"⟩
def dkwJ3_getChar_2 : List UInt8 := [51, 17, 0, 255, 126, 178, 0, 63, 120, 128, 146, 172]
abbrev dktJ3_getChar_2 : List UInt8 := dkwJ3_getChar_2 ++ []
def dkwJ3_getChar_1 : List UInt8 := [183, 0, 56, 191, 27, 4, 120, 60, 42, 27, 132, 1, 1, 51, 17, 0, 255, 126, 178, 0, 59, 120, 42, 27]
abbrev dktJ3_getChar_1 : List UInt8 := dkwJ3_getChar_1 ++ dktJ3_getChar_2
def dkwJ3_getChar_0 : List UInt8 := [178, 0, 44, 154, 0, 25, 27, 155, 0, 11, 27, 42, 184, 0, 48, 161, 0, 13, 187, 0, 52, 89, 18, 54]
abbrev dktJ3_getChar_0 : List UInt8 := dkwJ3_getChar_0 ++ dktJ3_getChar_1
theorem dksJ3_getChar_0 : cJ3_getChar.data.toList.drop 0 = dktJ3_getChar_0 := by decide +kernel
theorem dksJ3_getChar_1 : cJ3_getChar.data.toList.drop 24 = dktJ3_getChar_1 := dk_seg dksJ3_getChar_0 24 rfl rfl
theorem dksJ3_getChar_2 : cJ3_getChar.data.toList.drop 48 = dktJ3_getChar_2 := dk_seg dksJ3_getChar_1 24 rfl rfl
theorem dJ3_getChar_0 : decode cJ3_getChar 0 = .ok (.getstatic 44, 3) := dk_178 0 44 (dk_at dksJ3_getChar_0 0 rfl rfl)
theorem dJ3_getChar_3 : decode cJ3_getChar 3 = .ok (.ifCond .ne 25, 3) := dk_154 0 25 (dk_at dksJ3_getChar_0 3 rfl rfl)
theorem dJ3_getChar_6 : decode cJ3_getChar 6 = .ok (.iload_n 1, 1) := dk_27 (dk_at dksJ3_getChar_0 6 rfl rfl)
theorem dJ3_getChar_7 : decode cJ3_getChar 7 = .ok (.ifCond .lt 11, 3) := dk_155 0 11 (dk_at dksJ3_getChar_0 7 rfl rfl)
theorem dJ3_getChar_10 : decode cJ3_getChar 10 = .ok (.iload_n 1, 1) := dk_27 (dk_at dksJ3_getChar_0 10 rfl rfl)
theorem dJ3_getChar_11 : decode cJ3_getChar 11 = .ok (.aload_n 0, 1) := dk_42 (dk_at dksJ3_getChar_0 11 rfl rfl)
theorem dJ3_getChar_12 : decode cJ3_getChar 12 = .ok (.invokestatic 48, 3) := dk_184 0 48 (dk_at dksJ3_getChar_0 12 rfl rfl)
theorem dJ3_getChar_15 : decode cJ3_getChar 15 = .ok (.if_icmp .lt 13, 3) := dk_161 0 13 (dk_at dksJ3_getChar_0 15 rfl rfl)
theorem dJ3_getChar_18 : decode cJ3_getChar 18 = .ok (.new 52, 3) := dk_187 0 52 (dk_at dksJ3_getChar_0 18 rfl rfl)
theorem dJ3_getChar_21 : decode cJ3_getChar 21 = .ok (.dup, 1) := dk_89 (dk_at dksJ3_getChar_0 21 rfl rfl)
theorem dJ3_getChar_22 : decode cJ3_getChar 22 = .ok (.ldc 54, 2) := dk_18 54 (dk_at dksJ3_getChar_0 22 rfl rfl)
theorem dJ3_getChar_24 : decode cJ3_getChar 24 = .ok (.invokespecial 56, 3) := dk_183 0 56 (dk_at dksJ3_getChar_1 0 rfl rfl)
theorem dJ3_getChar_27 : decode cJ3_getChar 27 = .ok (.athrow, 1) := dk_191 (dk_at dksJ3_getChar_1 3 rfl rfl)
theorem dJ3_getChar_28 : decode cJ3_getChar 28 = .ok (.iload_n 1, 1) := dk_27 (dk_at dksJ3_getChar_1 4 rfl rfl)
theorem dJ3_getChar_29 : decode cJ3_getChar 29 = .ok (.iconst 1, 1) := dk_4 (dk_at dksJ3_getChar_1 5 rfl rfl)
theorem dJ3_getChar_30 : decode cJ3_getChar 30 = .ok (.ishl, 1) := dk_120 (dk_at dksJ3_getChar_1 6 rfl rfl)
theorem dJ3_getChar_31 : decode cJ3_getChar 31 = .ok (.istore_n 1, 1) := dk_60 (dk_at dksJ3_getChar_1 7 rfl rfl)
theorem dJ3_getChar_32 : decode cJ3_getChar 32 = .ok (.aload_n 0, 1) := dk_42 (dk_at dksJ3_getChar_1 8 rfl rfl)
theorem dJ3_getChar_33 : decode cJ3_getChar 33 = .ok (.iload_n 1, 1) := dk_27 (dk_at dksJ3_getChar_1 9 rfl rfl)
theorem dJ3_getChar_34 : decode cJ3_getChar 34 = .ok (.iinc 1 1, 3) := dk_132 1 1 (dk_at dksJ3_getChar_1 10 rfl rfl)
theorem dJ3_getChar_37 : decode cJ3_getChar 37 = .ok (.baload, 1) := dk_51 (dk_at dksJ3_getChar_1 13 rfl rfl)
theorem dJ3_getChar_38 : decode cJ3_getChar 38 = .ok (.sipush 255, 3) := dk_17 0 255 (dk_at dksJ3_getChar_1 14 rfl rfl)
theorem dJ3_getChar_41 : decode cJ3_getChar 41 = .ok (.iand, 1) := dk_126 (dk_at dksJ3_getChar_1 17 rfl rfl)
theorem dJ3_getChar_42 : decode cJ3_getChar 42 = .ok (.getstatic 59, 3) := dk_178 0 59 (dk_at dksJ3_getChar_1 18 rfl rfl)
theorem dJ3_getChar_45 : decode cJ3_getChar 45 = .ok (.ishl, 1) := dk_120 (dk_at dksJ3_getChar_1 21 rfl rfl)
theorem dJ3_getChar_46 : decode cJ3_getChar 46 = .ok (.aload_n 0, 1) := dk_42 (dk_at dksJ3_getChar_1 22 rfl rfl)
theorem dJ3_getChar_47 : decode cJ3_getChar 47 = .ok (.iload_n 1, 1) := dk_27 (dk_at dksJ3_getChar_1 23 rfl rfl)
theorem dJ3_getChar_48 : decode cJ3_getChar 48 = .ok (.baload, 1) := dk_51 (dk_at dksJ3_getChar_2 0 rfl rfl)
theorem dJ3_getChar_49 : decode cJ3_getChar 49 = .ok (.sipush 255, 3) := dk_17 0 255 (dk_at dksJ3_getChar_2 1 rfl rfl)
theorem dJ3_getChar_52 : decode cJ3_getChar 52 = .ok (.iand, 1) := dk_126 (dk_at dksJ3_getChar_2 4 rfl rfl)
theorem dJ3_getChar_53 : decode cJ3_getChar 53 = .ok (.getstatic 63, 3) := dk_178 0 63 (dk_at dksJ3_getChar_2 5 rfl rfl)
theorem dJ3_getChar_56 : decode cJ3_getChar 56 = .ok (.ishl, 1) := dk_120 (dk_at dksJ3_getChar_2 8 rfl rfl)
theorem dJ3_getChar_57 : decode cJ3_getChar 57 = .ok (.ior, 1) := dk_128 (dk_at dksJ3_getChar_2 9 rfl rfl)
theorem dJ3_getChar_58 : decode cJ3_getChar 58 = .ok (.i2c, 1) := dk_146 (dk_at dksJ3_getChar_2 10 rfl rfl)
theorem dJ3_getChar_59 : decode cJ3_getChar 59 = .ok (.ireturn, 1) := dk_172 (dk_at dksJ3_getChar_2 11 rfl rfl)
abbrev cJ3_coderFromArrayLen : ByteArray := prog_41_method_15_code
def yJ3_coderFromArrayLen : MethodName := ⟨RJ3, "coderFromArrayLen", "([BI)B"⟩
def dkwJ3_coderFromArrayLen_0 : List UInt8 := [27, 42, 190, 100, 16, 31, 124, 145, 172]
abbrev dktJ3_coderFromArrayLen_0 : List UInt8 := dkwJ3_coderFromArrayLen_0 ++ []
theorem dksJ3_coderFromArrayLen_0 : cJ3_coderFromArrayLen.data.toList.drop 0 = dktJ3_coderFromArrayLen_0 := by decide +kernel
theorem dJ3_coderFromArrayLen_0 : decode cJ3_coderFromArrayLen 0 = .ok (.iload_n 1, 1) := dk_27 (dk_at dksJ3_coderFromArrayLen_0 0 rfl rfl)
theorem dJ3_coderFromArrayLen_1 : decode cJ3_coderFromArrayLen 1 = .ok (.aload_n 0, 1) := dk_42 (dk_at dksJ3_coderFromArrayLen_0 1 rfl rfl)
theorem dJ3_coderFromArrayLen_2 : decode cJ3_coderFromArrayLen 2 = .ok (.arraylength, 1) := dk_190 (dk_at dksJ3_coderFromArrayLen_0 2 rfl rfl)
theorem dJ3_coderFromArrayLen_3 : decode cJ3_coderFromArrayLen 3 = .ok (.isub, 1) := dk_100 (dk_at dksJ3_coderFromArrayLen_0 3 rfl rfl)
theorem dJ3_coderFromArrayLen_4 : decode cJ3_coderFromArrayLen 4 = .ok (.bipush 31, 2) := dk_16 31 (dk_at dksJ3_coderFromArrayLen_0 4 rfl rfl)
theorem dJ3_coderFromArrayLen_6 : decode cJ3_coderFromArrayLen 6 = .ok (.iushr, 1) := dk_124 (dk_at dksJ3_coderFromArrayLen_0 6 rfl rfl)
theorem dJ3_coderFromArrayLen_7 : decode cJ3_coderFromArrayLen 7 = .ok (.i2b, 1) := dk_145 (dk_at dksJ3_coderFromArrayLen_0 7 rfl rfl)
theorem dJ3_coderFromArrayLen_8 : decode cJ3_coderFromArrayLen 8 = .ok (.ireturn, 1) := dk_172 (dk_at dksJ3_coderFromArrayLen_0 8 rfl rfl)
abbrev cJ3_fillNull : ByteArray := prog_41_method_70_code
def yJ3_fillNull : MethodName := ⟨RJ3, "fillNull", "([BII)V"⟩
def dkwJ3_fillNull_0 : List UInt8 := [42, 27, 4, 120, 28, 4, 120, 3, 184, 1, 124, 177]
abbrev dktJ3_fillNull_0 : List UInt8 := dkwJ3_fillNull_0 ++ []
theorem dksJ3_fillNull_0 : cJ3_fillNull.data.toList.drop 0 = dktJ3_fillNull_0 := by decide +kernel
theorem dJ3_fillNull_0 : decode cJ3_fillNull 0 = .ok (.aload_n 0, 1) := dk_42 (dk_at dksJ3_fillNull_0 0 rfl rfl)
theorem dJ3_fillNull_1 : decode cJ3_fillNull 1 = .ok (.iload_n 1, 1) := dk_27 (dk_at dksJ3_fillNull_0 1 rfl rfl)
theorem dJ3_fillNull_2 : decode cJ3_fillNull 2 = .ok (.iconst 1, 1) := dk_4 (dk_at dksJ3_fillNull_0 2 rfl rfl)
theorem dJ3_fillNull_3 : decode cJ3_fillNull 3 = .ok (.ishl, 1) := dk_120 (dk_at dksJ3_fillNull_0 3 rfl rfl)
theorem dJ3_fillNull_4 : decode cJ3_fillNull 4 = .ok (.iload_n 2, 1) := dk_28 (dk_at dksJ3_fillNull_0 4 rfl rfl)
theorem dJ3_fillNull_5 : decode cJ3_fillNull 5 = .ok (.iconst 1, 1) := dk_4 (dk_at dksJ3_fillNull_0 5 rfl rfl)
theorem dJ3_fillNull_6 : decode cJ3_fillNull 6 = .ok (.ishl, 1) := dk_120 (dk_at dksJ3_fillNull_0 6 rfl rfl)
theorem dJ3_fillNull_7 : decode cJ3_fillNull 7 = .ok (.iconst 0, 1) := dk_3 (dk_at dksJ3_fillNull_0 7 rfl rfl)
theorem dJ3_fillNull_8 : decode cJ3_fillNull 8 = .ok (.invokestatic 380, 3) := dk_184 1 124 (dk_at dksJ3_fillNull_0 8 rfl rfl)
theorem dJ3_fillNull_11 : decode cJ3_fillNull 11 = .ok (.return_, 1) := dk_177 (dk_at dksJ3_fillNull_0 11 rfl rfl)
abbrev cJ3_charAt : ByteArray := prog_41_method_83_code
def yJ3_charAt : MethodName := ⟨RJ3, "charAt", "([BI)C"⟩
def dkwJ3_charAt_0 : List UInt8 := [27, 42, 184, 0, 67, 42, 27, 184, 0, 71, 172]
abbrev dktJ3_charAt_0 : List UInt8 := dkwJ3_charAt_0 ++ []
theorem dksJ3_charAt_0 : cJ3_charAt.data.toList.drop 0 = dktJ3_charAt_0 := by decide +kernel
theorem dJ3_charAt_0 : decode cJ3_charAt 0 = .ok (.iload_n 1, 1) := dk_27 (dk_at dksJ3_charAt_0 0 rfl rfl)
theorem dJ3_charAt_1 : decode cJ3_charAt 1 = .ok (.aload_n 0, 1) := dk_42 (dk_at dksJ3_charAt_0 1 rfl rfl)
theorem dJ3_charAt_2 : decode cJ3_charAt 2 = .ok (.invokestatic 67, 3) := dk_184 0 67 (dk_at dksJ3_charAt_0 2 rfl rfl)
theorem dJ3_charAt_5 : decode cJ3_charAt 5 = .ok (.aload_n 0, 1) := dk_42 (dk_at dksJ3_charAt_0 5 rfl rfl)
theorem dJ3_charAt_6 : decode cJ3_charAt 6 = .ok (.iload_n 1, 1) := dk_27 (dk_at dksJ3_charAt_0 6 rfl rfl)
theorem dJ3_charAt_7 : decode cJ3_charAt 7 = .ok (.invokestatic 71, 3) := dk_184 0 71 (dk_at dksJ3_charAt_0 7 rfl rfl)
theorem dJ3_charAt_10 : decode cJ3_charAt 10 = .ok (.ireturn, 1) := dk_172 (dk_at dksJ3_charAt_0 10 rfl rfl)
abbrev cJ3_putCharsSB : ByteArray := prog_41_method_73_code
def yJ3_putCharsSB : MethodName := ⟨RJ3, "putCharsSB", "([BILjava/lang/CharSequence;II)V"⟩
def dkwJ3_putCharsSB_1 : List UInt8 := [132, 1, 1, 44, 21, 5, 185, 1, 132, 2, 0, 184, 0, 111, 132, 5, 1, 167, 255, 230, 177]
abbrev dktJ3_putCharsSB_1 : List UInt8 := dkwJ3_putCharsSB_1 ++ []
def dkwJ3_putCharsSB_0 : List UInt8 := [27, 27, 21, 4, 96, 29, 100, 42, 184, 0, 96, 29, 54, 5, 21, 5, 21, 4, 162, 0, 25, 42, 27]
abbrev dktJ3_putCharsSB_0 : List UInt8 := dkwJ3_putCharsSB_0 ++ dktJ3_putCharsSB_1
theorem dksJ3_putCharsSB_0 : cJ3_putCharsSB.data.toList.drop 0 = dktJ3_putCharsSB_0 := by decide +kernel
theorem dksJ3_putCharsSB_1 : cJ3_putCharsSB.data.toList.drop 23 = dktJ3_putCharsSB_1 := dk_seg dksJ3_putCharsSB_0 23 rfl rfl
theorem dJ3_putCharsSB_0 : decode cJ3_putCharsSB 0 = .ok (.iload_n 1, 1) := dk_27 (dk_at dksJ3_putCharsSB_0 0 rfl rfl)
theorem dJ3_putCharsSB_1 : decode cJ3_putCharsSB 1 = .ok (.iload_n 1, 1) := dk_27 (dk_at dksJ3_putCharsSB_0 1 rfl rfl)
theorem dJ3_putCharsSB_2 : decode cJ3_putCharsSB 2 = .ok (.iload 4, 2) := dk_21 4 (dk_at dksJ3_putCharsSB_0 2 rfl rfl)
theorem dJ3_putCharsSB_4 : decode cJ3_putCharsSB 4 = .ok (.iadd, 1) := dk_96 (dk_at dksJ3_putCharsSB_0 4 rfl rfl)
theorem dJ3_putCharsSB_5 : decode cJ3_putCharsSB 5 = .ok (.iload_n 3, 1) := dk_29 (dk_at dksJ3_putCharsSB_0 5 rfl rfl)
theorem dJ3_putCharsSB_6 : decode cJ3_putCharsSB 6 = .ok (.isub, 1) := dk_100 (dk_at dksJ3_putCharsSB_0 6 rfl rfl)
theorem dJ3_putCharsSB_7 : decode cJ3_putCharsSB 7 = .ok (.aload_n 0, 1) := dk_42 (dk_at dksJ3_putCharsSB_0 7 rfl rfl)
theorem dJ3_putCharsSB_8 : decode cJ3_putCharsSB 8 = .ok (.invokestatic 96, 3) := dk_184 0 96 (dk_at dksJ3_putCharsSB_0 8 rfl rfl)
theorem dJ3_putCharsSB_11 : decode cJ3_putCharsSB 11 = .ok (.iload_n 3, 1) := dk_29 (dk_at dksJ3_putCharsSB_0 11 rfl rfl)
theorem dJ3_putCharsSB_12 : decode cJ3_putCharsSB 12 = .ok (.istore 5, 2) := dk_54 5 (dk_at dksJ3_putCharsSB_0 12 rfl rfl)
theorem dJ3_putCharsSB_14 : decode cJ3_putCharsSB 14 = .ok (.iload 5, 2) := dk_21 5 (dk_at dksJ3_putCharsSB_0 14 rfl rfl)
theorem dJ3_putCharsSB_16 : decode cJ3_putCharsSB 16 = .ok (.iload 4, 2) := dk_21 4 (dk_at dksJ3_putCharsSB_0 16 rfl rfl)
theorem dJ3_putCharsSB_18 : decode cJ3_putCharsSB 18 = .ok (.if_icmp .ge 25, 3) := dk_162 0 25 (dk_at dksJ3_putCharsSB_0 18 rfl rfl)
theorem dJ3_putCharsSB_21 : decode cJ3_putCharsSB 21 = .ok (.aload_n 0, 1) := dk_42 (dk_at dksJ3_putCharsSB_0 21 rfl rfl)
theorem dJ3_putCharsSB_22 : decode cJ3_putCharsSB 22 = .ok (.iload_n 1, 1) := dk_27 (dk_at dksJ3_putCharsSB_0 22 rfl rfl)
theorem dJ3_putCharsSB_23 : decode cJ3_putCharsSB 23 = .ok (.iinc 1 1, 3) := dk_132 1 1 (dk_at dksJ3_putCharsSB_1 0 rfl rfl)
theorem dJ3_putCharsSB_26 : decode cJ3_putCharsSB 26 = .ok (.aload_n 2, 1) := dk_44 (dk_at dksJ3_putCharsSB_1 3 rfl rfl)
theorem dJ3_putCharsSB_27 : decode cJ3_putCharsSB 27 = .ok (.iload 5, 2) := dk_21 5 (dk_at dksJ3_putCharsSB_1 4 rfl rfl)
theorem dJ3_putCharsSB_29 : decode cJ3_putCharsSB 29 = .ok (.invokeinterface 388 2, 5) := by decide +kernel
theorem dJ3_putCharsSB_34 : decode cJ3_putCharsSB 34 = .ok (.invokestatic 111, 3) := dk_184 0 111 (dk_at dksJ3_putCharsSB_1 11 rfl rfl)
theorem dJ3_putCharsSB_37 : decode cJ3_putCharsSB 37 = .ok (.iinc 5 1, 3) := dk_132 5 1 (dk_at dksJ3_putCharsSB_1 14 rfl rfl)
theorem dJ3_putCharsSB_40 : decode cJ3_putCharsSB 40 = .ok (.goto (-26), 3) := dk_167 255 230 (dk_at dksJ3_putCharsSB_1 17 rfl rfl)
theorem dJ3_putCharsSB_43 : decode cJ3_putCharsSB 43 = .ok (.return_, 1) := dk_177 (dk_at dksJ3_putCharsSB_1 20 rfl rfl)
abbrev cJ3_hashCode : ByteArray := prog_41_method_39_code
def yJ3_hashCode : MethodName := ⟨RJ3, "hashCode", "([B)I"⟩
def dkwJ3_hashCode_2 : List UInt8 := [3, 167, 0, 22, 42, 3, 184, 0, 71, 167, 0, 14, 42, 3, 42, 190, 4, 122, 3, 8, 184, 0, 220, 172]
abbrev dktJ3_hashCode_2 : List UInt8 := dkwJ3_hashCode_2 ++ []
def dkwJ3_hashCode_1 : List UInt8 := [171, 0, 0, 0, 0, 38, 0, 0, 0, 2, 0, 0, 0, 0, 0, 0, 0, 26, 0, 0, 0, 2, 0, 0, 0, 30]
abbrev dktJ3_hashCode_1 : List UInt8 := dkwJ3_hashCode_1 ++ dktJ3_hashCode_2
def dkwJ3_hashCode_0 : List UInt8 := [42, 190]
abbrev dktJ3_hashCode_0 : List UInt8 := dkwJ3_hashCode_0 ++ dktJ3_hashCode_1
theorem dksJ3_hashCode_0 : cJ3_hashCode.data.toList.drop 0 = dktJ3_hashCode_0 := by decide +kernel
theorem dksJ3_hashCode_1 : cJ3_hashCode.data.toList.drop 2 = dktJ3_hashCode_1 := dk_seg dksJ3_hashCode_0 2 rfl rfl
theorem dksJ3_hashCode_2 : cJ3_hashCode.data.toList.drop 28 = dktJ3_hashCode_2 := dk_seg dksJ3_hashCode_1 26 rfl rfl
theorem dJ3_hashCode_0 : decode cJ3_hashCode 0 = .ok (.aload_n 0, 1) := dk_42 (dk_at dksJ3_hashCode_0 0 rfl rfl)
theorem dJ3_hashCode_1 : decode cJ3_hashCode 1 = .ok (.arraylength, 1) := dk_190 (dk_at dksJ3_hashCode_0 1 rfl rfl)
theorem dJ3_hashCode_2 : decode cJ3_hashCode 2 = .ok (.lookupswitch 38 #[(0, 26), (2, 30)], 26) := by decide +kernel
theorem dJ3_hashCode_28 : decode cJ3_hashCode 28 = .ok (.iconst 0, 1) := dk_3 (dk_at dksJ3_hashCode_2 0 rfl rfl)
theorem dJ3_hashCode_29 : decode cJ3_hashCode 29 = .ok (.goto 22, 3) := dk_167 0 22 (dk_at dksJ3_hashCode_2 1 rfl rfl)
theorem dJ3_hashCode_32 : decode cJ3_hashCode 32 = .ok (.aload_n 0, 1) := dk_42 (dk_at dksJ3_hashCode_2 4 rfl rfl)
theorem dJ3_hashCode_33 : decode cJ3_hashCode 33 = .ok (.iconst 0, 1) := dk_3 (dk_at dksJ3_hashCode_2 5 rfl rfl)
theorem dJ3_hashCode_34 : decode cJ3_hashCode 34 = .ok (.invokestatic 71, 3) := dk_184 0 71 (dk_at dksJ3_hashCode_2 6 rfl rfl)
theorem dJ3_hashCode_37 : decode cJ3_hashCode 37 = .ok (.goto 14, 3) := dk_167 0 14 (dk_at dksJ3_hashCode_2 9 rfl rfl)
theorem dJ3_hashCode_40 : decode cJ3_hashCode 40 = .ok (.aload_n 0, 1) := dk_42 (dk_at dksJ3_hashCode_2 12 rfl rfl)
theorem dJ3_hashCode_41 : decode cJ3_hashCode 41 = .ok (.iconst 0, 1) := dk_3 (dk_at dksJ3_hashCode_2 13 rfl rfl)
theorem dJ3_hashCode_42 : decode cJ3_hashCode 42 = .ok (.aload_n 0, 1) := dk_42 (dk_at dksJ3_hashCode_2 14 rfl rfl)
theorem dJ3_hashCode_43 : decode cJ3_hashCode 43 = .ok (.arraylength, 1) := dk_190 (dk_at dksJ3_hashCode_2 15 rfl rfl)
theorem dJ3_hashCode_44 : decode cJ3_hashCode 44 = .ok (.iconst 1, 1) := dk_4 (dk_at dksJ3_hashCode_2 16 rfl rfl)
theorem dJ3_hashCode_45 : decode cJ3_hashCode 45 = .ok (.ishr, 1) := dk_122 (dk_at dksJ3_hashCode_2 17 rfl rfl)
theorem dJ3_hashCode_46 : decode cJ3_hashCode 46 = .ok (.iconst 0, 1) := dk_3 (dk_at dksJ3_hashCode_2 18 rfl rfl)
theorem dJ3_hashCode_47 : decode cJ3_hashCode 47 = .ok (.iconst 5, 1) := dk_8 (dk_at dksJ3_hashCode_2 19 rfl rfl)
theorem dJ3_hashCode_48 : decode cJ3_hashCode 48 = .ok (.invokestatic 220, 3) := dk_184 0 220 (dk_at dksJ3_hashCode_2 20 rfl rfl)
theorem dJ3_hashCode_51 : decode cJ3_hashCode 51 = .ok (.ireturn, 1) := dk_172 (dk_at dksJ3_hashCode_2 23 rfl rfl)
theorem q107 : (Jvm.Cond.initialized "java/lang/StringUTF16") ∈ lw_all := lw_g (lw_at lw_m1 5 rfl) rfl
theorem q176 : (Jvm.Cond.static ({ cls := "java/lang/StringUTF16", name := "newBytesFor", desc := "(I)[B" } : Jvm.MethodName)) ∈ lw_all := lw_g (lw_at lw_m1 74 rfl) rfl
theorem q177 : (Jvm.Cond.code ({ cls := "java/lang/StringUTF16", name := "newBytesFor", desc := "(I)[B" } : Jvm.MethodName) prog_41_method_2_code (1 : Nat) (Option.some (Jvm.ClassFile.FieldType.array Jvm.ClassFile.FieldType.byte))) ∈ lw_all := lw_g (lw_at lw_m1 75 rfl) rfl
theorem q178 : (Jvm.Cond.methodLink "java/lang/StringUTF16" (11 : Nat) ({ cls := "java/lang/StringUTF16", name := "newBytesLength", desc := "(I)I" } : Jvm.MethodName)) ∈ lw_all := lw_g (lw_at lw_m1 76 rfl) rfl
theorem q179 : (Jvm.Cond.static ({ cls := "java/lang/StringUTF16", name := "newBytesLength", desc := "(I)I" } : Jvm.MethodName)) ∈ lw_all := lw_g (lw_at lw_m1 77 rfl) rfl
theorem q180 : (Jvm.Cond.code ({ cls := "java/lang/StringUTF16", name := "newBytesLength", desc := "(I)I" } : Jvm.MethodName) prog_41_method_3_code (1 : Nat) (Option.some Jvm.ClassFile.FieldType.int)) ∈ lw_all := lw_g (lw_at lw_m1 78 rfl) rfl
theorem q181 : (Jvm.Cond.classLink "java/lang/StringUTF16" (17 : Nat) "java/lang/NegativeArraySizeException") ∈ lw_all := lw_g (lw_at lw_m1 79 rfl) rfl
theorem q239 : (Jvm.Cond.methodLink "java/lang/StringUTF16" (19 : Nat) ({ cls := "java/lang/NegativeArraySizeException", name := "<init>", desc := "()V" } : Jvm.MethodName)) ∈ lw_all := lw_g (lw_at lw_m1 137 rfl) rfl
theorem q265 : (Jvm.Cond.constant "java/lang/StringUTF16" (20 : Nat) (1073741823 : Int32)) ∈ lw_all := lw_g (lw_at lw_m1 163 rfl) rfl
theorem q691 : (Jvm.Cond.static ({ cls := "java/lang/StringUTF16", name := "inflate", desc := "([BI[BII)V" } : Jvm.MethodName)) ∈ lw_all := lw_g (lw_at lw_m3 109 rfl) rfl
theorem q692 : (Jvm.Cond.code ({ cls := "java/lang/StringUTF16", name := "inflate", desc := "([BI[BII)V" } : Jvm.MethodName) prog_41_method_86_code (6 : Nat) (Option.none : Option Jvm.ClassFile.FieldType)) ∈ lw_all := lw_g (lw_at lw_m3 110 rfl) rfl
theorem q693 : (Jvm.Cond.methodLink "java/lang/StringUTF16" (173 : Nat) ({ cls := "java/lang/StringUTF16", name := "checkBoundsOffCount", desc := "(II[B)V" } : Jvm.MethodName)) ∈ lw_all := lw_g (lw_at lw_m3 111 rfl) rfl
theorem q694 : (Jvm.Cond.static ({ cls := "java/lang/StringUTF16", name := "checkBoundsOffCount", desc := "(II[B)V" } : Jvm.MethodName)) ∈ lw_all := lw_g (lw_at lw_m3 112 rfl) rfl
theorem q695 : (Jvm.Cond.code ({ cls := "java/lang/StringUTF16", name := "checkBoundsOffCount", desc := "(II[B)V" } : Jvm.MethodName) prog_41_method_94_code (3 : Nat) (Option.none : Option Jvm.ClassFile.FieldType)) ∈ lw_all := lw_g (lw_at lw_m3 113 rfl) rfl
theorem q696 : (Jvm.Cond.methodLink "java/lang/StringUTF16" (48 : Nat) ({ cls := "java/lang/StringUTF16", name := "length", desc := "([B)I" } : Jvm.MethodName)) ∈ lw_all := lw_g (lw_at lw_m3 114 rfl) rfl
theorem q697 : (Jvm.Cond.static ({ cls := "java/lang/StringUTF16", name := "length", desc := "([B)I" } : Jvm.MethodName)) ∈ lw_all := lw_g (lw_at lw_m3 115 rfl) rfl
theorem q698 : (Jvm.Cond.code ({ cls := "java/lang/StringUTF16", name := "length", desc := "([B)I" } : Jvm.MethodName) prog_41_method_6_code (1 : Nat) (Option.some Jvm.ClassFile.FieldType.int)) ∈ lw_all := lw_g (lw_at lw_m3 116 rfl) rfl
theorem q699 : (Jvm.Cond.methodLink "java/lang/StringUTF16" (419 : Nat) ({ cls := "java/lang/String", name := "checkBoundsOffCount", desc := "(III)I" } : Jvm.MethodName)) ∈ lw_all := lw_g (lw_at lw_m3 117 rfl) rfl
theorem q707 : (Jvm.Cond.methodLink "java/lang/StringUTF16" (111 : Nat) ({ cls := "java/lang/StringUTF16", name := "putChar", desc := "([BII)V" } : Jvm.MethodName)) ∈ lw_all := lw_g (lw_at lw_m3 125 rfl) rfl
theorem q708 : (Jvm.Cond.static ({ cls := "java/lang/StringUTF16", name := "putChar", desc := "([BII)V" } : Jvm.MethodName)) ∈ lw_all := lw_g (lw_at lw_m3 126 rfl) rfl
theorem q709 : (Jvm.Cond.code ({ cls := "java/lang/StringUTF16", name := "putChar", desc := "([BII)V" } : Jvm.MethodName) prog_41_method_4_code (3 : Nat) (Option.none : Option Jvm.ClassFile.FieldType)) ∈ lw_all := lw_g (lw_at lw_m3 127 rfl) rfl
theorem q710 : (Jvm.Cond.fieldLink "java/lang/StringUTF16" (44 : Nat) "java/lang/StringUTF16" "$assertionsDisabled" "Z") ∈ lw_all := lw_g (lw_at lw_m3 128 rfl) rfl
theorem q711 : (Jvm.Cond.laysStatic "java/lang/StringUTF16" "$assertionsDisabled" "Z") ∈ lw_tbl := lw_at lw_m3 129 rfl
theorem q712 : (Jvm.Cond.fieldLink "java/lang/StringUTF16" (59 : Nat) "java/lang/StringUTF16" "HI_BYTE_SHIFT" "I") ∈ lw_all := lw_g (lw_at lw_m3 130 rfl) rfl
theorem q713 : (Jvm.Cond.laysStatic "java/lang/StringUTF16" "HI_BYTE_SHIFT" "I") ∈ lw_tbl := lw_at lw_m3 131 rfl
theorem q714 : (Jvm.Cond.fieldLink "java/lang/StringUTF16" (63 : Nat) "java/lang/StringUTF16" "LO_BYTE_SHIFT" "I") ∈ lw_all := lw_g (lw_at lw_m3 132 rfl) rfl
theorem q715 : (Jvm.Cond.laysStatic "java/lang/StringUTF16" "LO_BYTE_SHIFT" "I") ∈ lw_tbl := lw_at lw_m3 133 rfl
theorem q717 : (Jvm.Cond.static ({ cls := "java/lang/StringUTF16", name := "putCharSB", desc := "([BII)V" } : Jvm.MethodName)) ∈ lw_all := lw_g (lw_at lw_m3 135 rfl) rfl
theorem q718 : (Jvm.Cond.code ({ cls := "java/lang/StringUTF16", name := "putCharSB", desc := "([BII)V" } : Jvm.MethodName) prog_41_method_71_code (3 : Nat) (Option.none : Option Jvm.ClassFile.FieldType)) ∈ lw_all := lw_g (lw_at lw_m3 136 rfl) rfl
theorem q719 : (Jvm.Cond.methodLink "java/lang/StringUTF16" (67 : Nat) ({ cls := "java/lang/StringUTF16", name := "checkIndex", desc := "(I[B)V" } : Jvm.MethodName)) ∈ lw_all := lw_g (lw_at lw_m3 137 rfl) rfl
theorem q720 : (Jvm.Cond.static ({ cls := "java/lang/StringUTF16", name := "checkIndex", desc := "(I[B)V" } : Jvm.MethodName)) ∈ lw_all := lw_g (lw_at lw_m3 138 rfl) rfl
theorem q721 : (Jvm.Cond.code ({ cls := "java/lang/StringUTF16", name := "checkIndex", desc := "(I[B)V" } : Jvm.MethodName) prog_41_method_91_code (2 : Nat) (Option.none : Option Jvm.ClassFile.FieldType)) ∈ lw_all := lw_g (lw_at lw_m3 139 rfl) rfl
theorem q722 : (Jvm.Cond.methodLink "java/lang/StringUTF16" (414 : Nat) ({ cls := "java/lang/String", name := "checkIndex", desc := "(II)V" } : Jvm.MethodName)) ∈ lw_all := lw_g (lw_at lw_m3 140 rfl) rfl
theorem q759 : (Jvm.Cond.static ({ cls := "java/lang/StringUTF16", name := "putCharsAt", desc := "([BICCCC)I" } : Jvm.MethodName)) ∈ lw_all := lw_g (lw_at lw_m3 177 rfl) rfl
theorem q760 : (Jvm.Cond.code ({ cls := "java/lang/StringUTF16", name := "putCharsAt", desc := "([BICCCC)I" } : Jvm.MethodName) prog_41_method_81_code (7 : Nat) (Option.some Jvm.ClassFile.FieldType.int)) ∈ lw_all := lw_g (lw_at lw_m3 178 rfl) rfl
theorem q761 : (Jvm.Cond.methodLink "java/lang/StringUTF16" (96 : Nat) ({ cls := "java/lang/StringUTF16", name := "checkBoundsBeginEnd", desc := "(II[B)V" } : Jvm.MethodName)) ∈ lw_all := lw_g (lw_at lw_m3 179 rfl) rfl
theorem q762 : (Jvm.Cond.static ({ cls := "java/lang/StringUTF16", name := "checkBoundsBeginEnd", desc := "(II[B)V" } : Jvm.MethodName)) ∈ lw_all := lw_g (lw_at lw_m3 180 rfl) rfl
theorem q763 : (Jvm.Cond.code ({ cls := "java/lang/StringUTF16", name := "checkBoundsBeginEnd", desc := "(II[B)V" } : Jvm.MethodName) prog_41_method_93_code (3 : Nat) (Option.none : Option Jvm.ClassFile.FieldType)) ∈ lw_all := lw_g (lw_at lw_m3 181 rfl) rfl
theorem q764 : (Jvm.Cond.methodLink "java/lang/StringUTF16" (241 : Nat) ({ cls := "java/lang/String", name := "checkBoundsBeginEnd", desc := "(III)V" } : Jvm.MethodName)) ∈ lw_all := lw_g (lw_at lw_m3 182 rfl) rfl
theorem q812 : (Jvm.Cond.static ({ cls := "java/lang/StringUTF16", name := "getChars", desc := "(III[B)I" } : Jvm.MethodName)) ∈ lw_all := lw_g (lw_at lw_m3 230 rfl) rfl
theorem q813 : (Jvm.Cond.code ({ cls := "java/lang/StringUTF16", name := "getChars", desc := "(III[B)I" } : Jvm.MethodName) prog_41_method_77_code (5 : Nat) (Option.some Jvm.ClassFile.FieldType.int)) ∈ lw_all := lw_g (lw_at lw_m3 231 rfl) rfl
theorem q814 : (Jvm.Cond.methodLink "java/lang/StringUTF16" (393 : Nat) ({ cls := "java/lang/StringUTF16", name := "getChars", desc := "(II[B)I" } : Jvm.MethodName)) ∈ lw_all := lw_g (lw_at lw_m3 232 rfl) rfl
theorem q815 : (Jvm.Cond.static ({ cls := "java/lang/StringUTF16", name := "getChars", desc := "(II[B)I" } : Jvm.MethodName)) ∈ lw_all := lw_g (lw_at lw_m3 233 rfl) rfl
theorem q816 : (Jvm.Cond.code ({ cls := "java/lang/StringUTF16", name := "getChars", desc := "(II[B)I" } : Jvm.MethodName) prog_41_method_89_code (7 : Nat) (Option.some Jvm.ClassFile.FieldType.int)) ∈ lw_all := lw_g (lw_at lw_m3 234 rfl) rfl
theorem q817 : (Jvm.Cond.fieldLink "java/lang/StringUTF16" (403 : Nat) "java/lang/Integer" "DigitOnes" "[B") ∈ lw_all := lw_g (lw_at lw_m3 235 rfl) rfl
theorem q818 : (Jvm.Cond.fieldLink "java/lang/StringUTF16" (407 : Nat) "java/lang/Integer" "DigitTens" "[B") ∈ lw_all := lw_g (lw_at lw_m3 236 rfl) rfl
theorem q848 : (Jvm.Cond.static ({ cls := "java/lang/StringUTF16", name := "compress", desc := "([BII)[B" } : Jvm.MethodName)) ∈ lw_all := lw_g (lw_at lw_m4 26 rfl) rfl
theorem q849 : (Jvm.Cond.code ({ cls := "java/lang/StringUTF16", name := "compress", desc := "([BII)[B" } : Jvm.MethodName) prog_41_method_17_code (6 : Nat) (Option.some (Jvm.ClassFile.FieldType.array Jvm.ClassFile.FieldType.byte))) ∈ lw_all := lw_g (lw_at lw_m4 27 rfl) rfl
theorem q850 : (Jvm.Cond.methodLink "java/lang/StringUTF16" (123 : Nat) ({ cls := "java/lang/StringUTF16", name := "compress", desc := "([BI[BII)I" } : Jvm.MethodName)) ∈ lw_all := lw_g (lw_at lw_m4 28 rfl) rfl
theorem q851 : (Jvm.Cond.static ({ cls := "java/lang/StringUTF16", name := "compress", desc := "([BI[BII)I" } : Jvm.MethodName)) ∈ lw_all := lw_g (lw_at lw_m4 29 rfl) rfl
theorem q852 : (Jvm.Cond.code ({ cls := "java/lang/StringUTF16", name := "compress", desc := "([BI[BII)I" } : Jvm.MethodName) prog_41_method_22_code (7 : Nat) (Option.some Jvm.ClassFile.FieldType.int)) ∈ lw_all := lw_g (lw_at lw_m4 30 rfl) rfl
theorem q853 : (Jvm.Cond.methodLink "java/lang/StringUTF16" (71 : Nat) ({ cls := "java/lang/StringUTF16", name := "getChar", desc := "([BI)C" } : Jvm.MethodName)) ∈ lw_all := lw_g (lw_at lw_m4 31 rfl) rfl
theorem q854 : (Jvm.Cond.static ({ cls := "java/lang/StringUTF16", name := "getChar", desc := "([BI)C" } : Jvm.MethodName)) ∈ lw_all := lw_g (lw_at lw_m4 32 rfl) rfl
theorem q855 : (Jvm.Cond.code ({ cls := "java/lang/StringUTF16", name := "getChar", desc := "([BI)C" } : Jvm.MethodName) prog_41_method_5_code (2 : Nat) (Option.some Jvm.ClassFile.FieldType.char)) ∈ lw_all := lw_g (lw_at lw_m4 33 rfl) rfl
theorem q856 : (Jvm.Cond.methodLink "java/lang/StringUTF16" (126 : Nat) ({ cls := "java/util/Arrays", name := "copyOfRange", desc := "([BII)[B" } : Jvm.MethodName)) ∈ lw_all := lw_g (lw_at lw_m4 34 rfl) rfl
theorem q858 : (Jvm.Cond.static ({ cls := "java/lang/StringUTF16", name := "coderFromArrayLen", desc := "([BI)B" } : Jvm.MethodName)) ∈ lw_all := lw_g (lw_at lw_m4 36 rfl) rfl
theorem q859 : (Jvm.Cond.code ({ cls := "java/lang/StringUTF16", name := "coderFromArrayLen", desc := "([BI)B" } : Jvm.MethodName) prog_41_method_15_code (2 : Nat) (Option.some Jvm.ClassFile.FieldType.byte)) ∈ lw_all := lw_g (lw_at lw_m4 37 rfl) rfl
theorem q913 : (Jvm.Cond.static ({ cls := "java/lang/StringUTF16", name := "fillNull", desc := "([BII)V" } : Jvm.MethodName)) ∈ lw_all := lw_g (lw_at lw_m4 91 rfl) rfl
theorem q914 : (Jvm.Cond.code ({ cls := "java/lang/StringUTF16", name := "fillNull", desc := "([BII)V" } : Jvm.MethodName) prog_41_method_70_code (3 : Nat) (Option.none : Option Jvm.ClassFile.FieldType)) ∈ lw_all := lw_g (lw_at lw_m4 92 rfl) rfl
theorem q915 : (Jvm.Cond.methodLink "java/lang/StringUTF16" (380 : Nat) ({ cls := "java/util/Arrays", name := "fill", desc := "([BIIB)V" } : Jvm.MethodName)) ∈ lw_all := lw_g (lw_at lw_m4 93 rfl) rfl
theorem q980 : (Jvm.Cond.static ({ cls := "java/lang/StringUTF16", name := "charAt", desc := "([BI)C" } : Jvm.MethodName)) ∈ lw_all := lw_g (lw_at lw_m4 158 rfl) rfl
theorem q981 : (Jvm.Cond.code ({ cls := "java/lang/StringUTF16", name := "charAt", desc := "([BI)C" } : Jvm.MethodName) prog_41_method_83_code (2 : Nat) (Option.some Jvm.ClassFile.FieldType.char)) ∈ lw_all := lw_g (lw_at lw_m4 159 rfl) rfl
theorem q1667 : (Jvm.Cond.static ({ cls := "java/lang/StringUTF16", name := "putCharsSB", desc := "([BILjava/lang/CharSequence;II)V" } : Jvm.MethodName)) ∈ lw_all := lw_g (lw_at lw_m7 125 rfl) rfl
theorem q1668 : (Jvm.Cond.code ({ cls := "java/lang/StringUTF16", name := "putCharsSB", desc := "([BILjava/lang/CharSequence;II)V" } : Jvm.MethodName) prog_41_method_73_code (6 : Nat) (Option.none : Option Jvm.ClassFile.FieldType)) ∈ lw_all := lw_g (lw_at lw_m7 126 rfl) rfl
theorem q1669 : (Jvm.Cond.interfaceEntry "java/lang/StringUTF16" (388 : Nat)) ∈ lw_tbl := lw_at lw_m7 127 rfl
theorem q1670 : (Jvm.Cond.methodLink "java/lang/StringUTF16" (388 : Nat) ({ cls := "java/lang/CharSequence", name := "charAt", desc := "(I)C" } : Jvm.MethodName)) ∈ lw_all := lw_g (lw_at lw_m7 128 rfl) rfl
theorem q1840 : (Jvm.Cond.static ({ cls := "java/lang/StringUTF16", name := "hashCode", desc := "([B)I" } : Jvm.MethodName)) ∈ lw_all := lw_g (lw_at lw_m8 58 rfl) rfl
theorem q1841 : (Jvm.Cond.code ({ cls := "java/lang/StringUTF16", name := "hashCode", desc := "([B)I" } : Jvm.MethodName) prog_41_method_39_code (1 : Nat) (Option.some Jvm.ClassFile.FieldType.int)) ∈ lw_all := lw_g (lw_at lw_m8 59 rfl) rfl
theorem q1842 : (Jvm.Cond.methodLink "java/lang/StringUTF16" (220 : Nat) ({ cls := "jdk/internal/util/ArraysSupport", name := "vectorizedHashCode", desc := "(Ljava/lang/Object;IIII)I" } : Jvm.MethodName)) ∈ lw_all := lw_g (lw_at lw_m8 60 rfl) rfl

/-! java/lang/Throwable -/
set_option maxRecDepth 100000
def RJ4 : String := "java/lang/Throwable"
def TJ4 : u_T := fun k => match k with
  | 0 => ("java/lang/Throwable", "cause", "Ljava/lang/Throwable;", false)
  | 1 => ("java/lang/Throwable", "stackTrace", "[Ljava/lang/StackTraceElement;", false)
  | 2 => ("java/lang/Throwable", "suppressedExceptions", "Ljava/util/List;", false)
  | 3 => ("java/lang/Throwable", "detailMessage", "Ljava/lang/String;", false)
  | _ => ("java/lang/Throwable", "backtrace", "Ljava/lang/Object;", false)
def tyJ4 : Nat → FieldType := fun k => match k with
  | 0 => .object "java/lang/Throwable"
  | 1 => .array (.object "java/lang/StackTraceElement")
  | 2 => .object "java/util/List"
  | 3 => .object "java/lang/String"
  | _ => .object "java/lang/Object"
abbrev wsJ40 : List Cond := u_ws RJ4 TJ4 5
theorem nmJ4 : ∀ a, a < 5 → ∀ b, b < 5 → a ≠ b → (TJ4 a).2.1 ≠ (TJ4 b).2.1 := by decide +kernel
theorem tyJ4_ok : ∀ k, k < 5 → parseFieldDescriptor (TJ4 k).2.2.1 = some (tyJ4 k) := by decide +kernel
abbrev cJ4_init : ByteArray := prog_44_method_1_code
def yJ4_init : MethodName := ⟨RJ4, "<init>", "()V"⟩
def dkwJ4_init_1 : List UInt8 := [182, 0, 27, 87, 177]
abbrev dktJ4_init_1 : List UInt8 := dkwJ4_init_1 ++ []
def dkwJ4_init_0 : List UInt8 := [42, 183, 0, 1, 42, 42, 181, 0, 7, 42, 178, 0, 13, 181, 0, 17, 42, 178, 0, 20, 181, 0, 24, 42]
abbrev dktJ4_init_0 : List UInt8 := dkwJ4_init_0 ++ dktJ4_init_1
theorem dksJ4_init_0 : cJ4_init.data.toList.drop 0 = dktJ4_init_0 := by decide +kernel
theorem dksJ4_init_1 : cJ4_init.data.toList.drop 24 = dktJ4_init_1 := dk_seg dksJ4_init_0 24 rfl rfl
theorem dJ4_init_0 : decode cJ4_init 0 = .ok (.aload_n 0, 1) := dk_42 (dk_at dksJ4_init_0 0 rfl rfl)
theorem dJ4_init_1 : decode cJ4_init 1 = .ok (.invokespecial 1, 3) := dk_183 0 1 (dk_at dksJ4_init_0 1 rfl rfl)
theorem dJ4_init_4 : decode cJ4_init 4 = .ok (.aload_n 0, 1) := dk_42 (dk_at dksJ4_init_0 4 rfl rfl)
theorem dJ4_init_5 : decode cJ4_init 5 = .ok (.aload_n 0, 1) := dk_42 (dk_at dksJ4_init_0 5 rfl rfl)
theorem dJ4_init_6 : decode cJ4_init 6 = .ok (.putfield 7, 3) := dk_181 0 7 (dk_at dksJ4_init_0 6 rfl rfl)
theorem dJ4_init_9 : decode cJ4_init 9 = .ok (.aload_n 0, 1) := dk_42 (dk_at dksJ4_init_0 9 rfl rfl)
theorem dJ4_init_10 : decode cJ4_init 10 = .ok (.getstatic 13, 3) := dk_178 0 13 (dk_at dksJ4_init_0 10 rfl rfl)
theorem dJ4_init_13 : decode cJ4_init 13 = .ok (.putfield 17, 3) := dk_181 0 17 (dk_at dksJ4_init_0 13 rfl rfl)
theorem dJ4_init_16 : decode cJ4_init 16 = .ok (.aload_n 0, 1) := dk_42 (dk_at dksJ4_init_0 16 rfl rfl)
theorem dJ4_init_17 : decode cJ4_init 17 = .ok (.getstatic 20, 3) := dk_178 0 20 (dk_at dksJ4_init_0 17 rfl rfl)
theorem dJ4_init_20 : decode cJ4_init 20 = .ok (.putfield 24, 3) := dk_181 0 24 (dk_at dksJ4_init_0 20 rfl rfl)
theorem dJ4_init_23 : decode cJ4_init 23 = .ok (.aload_n 0, 1) := dk_42 (dk_at dksJ4_init_0 23 rfl rfl)
theorem dJ4_init_24 : decode cJ4_init 24 = .ok (.invokevirtual 27, 3) := dk_182 0 27 (dk_at dksJ4_init_1 0 rfl rfl)
theorem dJ4_init_27 : decode cJ4_init 27 = .ok (.pop, 1) := dk_87 (dk_at dksJ4_init_1 3 rfl rfl)
theorem dJ4_init_28 : decode cJ4_init 28 = .ok (.return_, 1) := dk_177 (dk_at dksJ4_init_1 4 rfl rfl)
abbrev cJ4_init_2 : ByteArray := prog_44_method_2_code
def yJ4_init_2 : MethodName := ⟨RJ4, "<init>", "(Ljava/lang/String;)V"⟩
def dkwJ4_init_2_1 : List UInt8 := [182, 0, 27, 87, 42, 43, 181, 0, 31, 177]
abbrev dktJ4_init_2_1 : List UInt8 := dkwJ4_init_2_1 ++ []
def dkwJ4_init_2_0 : List UInt8 := [42, 183, 0, 1, 42, 42, 181, 0, 7, 42, 178, 0, 13, 181, 0, 17, 42, 178, 0, 20, 181, 0, 24, 42]
abbrev dktJ4_init_2_0 : List UInt8 := dkwJ4_init_2_0 ++ dktJ4_init_2_1
theorem dksJ4_init_2_0 : cJ4_init_2.data.toList.drop 0 = dktJ4_init_2_0 := by decide +kernel
theorem dksJ4_init_2_1 : cJ4_init_2.data.toList.drop 24 = dktJ4_init_2_1 := dk_seg dksJ4_init_2_0 24 rfl rfl
theorem dJ4_init_2_0 : decode cJ4_init_2 0 = .ok (.aload_n 0, 1) := dk_42 (dk_at dksJ4_init_2_0 0 rfl rfl)
theorem dJ4_init_2_1 : decode cJ4_init_2 1 = .ok (.invokespecial 1, 3) := dk_183 0 1 (dk_at dksJ4_init_2_0 1 rfl rfl)
theorem dJ4_init_2_4 : decode cJ4_init_2 4 = .ok (.aload_n 0, 1) := dk_42 (dk_at dksJ4_init_2_0 4 rfl rfl)
theorem dJ4_init_2_5 : decode cJ4_init_2 5 = .ok (.aload_n 0, 1) := dk_42 (dk_at dksJ4_init_2_0 5 rfl rfl)
theorem dJ4_init_2_6 : decode cJ4_init_2 6 = .ok (.putfield 7, 3) := dk_181 0 7 (dk_at dksJ4_init_2_0 6 rfl rfl)
theorem dJ4_init_2_9 : decode cJ4_init_2 9 = .ok (.aload_n 0, 1) := dk_42 (dk_at dksJ4_init_2_0 9 rfl rfl)
theorem dJ4_init_2_10 : decode cJ4_init_2 10 = .ok (.getstatic 13, 3) := dk_178 0 13 (dk_at dksJ4_init_2_0 10 rfl rfl)
theorem dJ4_init_2_13 : decode cJ4_init_2 13 = .ok (.putfield 17, 3) := dk_181 0 17 (dk_at dksJ4_init_2_0 13 rfl rfl)
theorem dJ4_init_2_16 : decode cJ4_init_2 16 = .ok (.aload_n 0, 1) := dk_42 (dk_at dksJ4_init_2_0 16 rfl rfl)
theorem dJ4_init_2_17 : decode cJ4_init_2 17 = .ok (.getstatic 20, 3) := dk_178 0 20 (dk_at dksJ4_init_2_0 17 rfl rfl)
theorem dJ4_init_2_20 : decode cJ4_init_2 20 = .ok (.putfield 24, 3) := dk_181 0 24 (dk_at dksJ4_init_2_0 20 rfl rfl)
theorem dJ4_init_2_23 : decode cJ4_init_2 23 = .ok (.aload_n 0, 1) := dk_42 (dk_at dksJ4_init_2_0 23 rfl rfl)
theorem dJ4_init_2_24 : decode cJ4_init_2 24 = .ok (.invokevirtual 27, 3) := dk_182 0 27 (dk_at dksJ4_init_2_1 0 rfl rfl)
theorem dJ4_init_2_27 : decode cJ4_init_2 27 = .ok (.pop, 1) := dk_87 (dk_at dksJ4_init_2_1 3 rfl rfl)
theorem dJ4_init_2_28 : decode cJ4_init_2 28 = .ok (.aload_n 0, 1) := dk_42 (dk_at dksJ4_init_2_1 4 rfl rfl)
theorem dJ4_init_2_29 : decode cJ4_init_2 29 = .ok (.aload_n 1, 1) := dk_43 (dk_at dksJ4_init_2_1 5 rfl rfl)
theorem dJ4_init_2_30 : decode cJ4_init_2 30 = .ok (.putfield 31, 3) := dk_181 0 31 (dk_at dksJ4_init_2_1 6 rfl rfl)
theorem dJ4_init_2_33 : decode cJ4_init_2 33 = .ok (.return_, 1) := dk_177 (dk_at dksJ4_init_2_1 9 rfl rfl)
abbrev cJ4_init_3 : ByteArray := prog_44_method_5_code
def yJ4_init_3 : MethodName := ⟨RJ4, "<init>", "(Ljava/lang/String;Ljava/lang/Throwable;ZZ)V"⟩
def dkwJ4_init_3_2 : List UInt8 := [44, 181, 0, 7, 29, 154, 0, 8, 42, 1, 181, 0, 24, 177]
abbrev dktJ4_init_3_2 : List UInt8 := dkwJ4_init_3_2 ++ []
def dkwJ4_init_3_1 : List UInt8 := [21, 4, 153, 0, 11, 42, 182, 0, 27, 87, 167, 0, 8, 42, 1, 181, 0, 17, 42, 43, 181, 0, 31, 42]
abbrev dktJ4_init_3_1 : List UInt8 := dkwJ4_init_3_1 ++ dktJ4_init_3_2
def dkwJ4_init_3_0 : List UInt8 := [42, 183, 0, 1, 42, 42, 181, 0, 7, 42, 178, 0, 13, 181, 0, 17, 42, 178, 0, 20, 181, 0, 24]
abbrev dktJ4_init_3_0 : List UInt8 := dkwJ4_init_3_0 ++ dktJ4_init_3_1
theorem dksJ4_init_3_0 : cJ4_init_3.data.toList.drop 0 = dktJ4_init_3_0 := by decide +kernel
theorem dksJ4_init_3_1 : cJ4_init_3.data.toList.drop 23 = dktJ4_init_3_1 := dk_seg dksJ4_init_3_0 23 rfl rfl
theorem dksJ4_init_3_2 : cJ4_init_3.data.toList.drop 47 = dktJ4_init_3_2 := dk_seg dksJ4_init_3_1 24 rfl rfl
theorem dJ4_init_3_0 : decode cJ4_init_3 0 = .ok (.aload_n 0, 1) := dk_42 (dk_at dksJ4_init_3_0 0 rfl rfl)
theorem dJ4_init_3_1 : decode cJ4_init_3 1 = .ok (.invokespecial 1, 3) := dk_183 0 1 (dk_at dksJ4_init_3_0 1 rfl rfl)
theorem dJ4_init_3_4 : decode cJ4_init_3 4 = .ok (.aload_n 0, 1) := dk_42 (dk_at dksJ4_init_3_0 4 rfl rfl)
theorem dJ4_init_3_5 : decode cJ4_init_3 5 = .ok (.aload_n 0, 1) := dk_42 (dk_at dksJ4_init_3_0 5 rfl rfl)
theorem dJ4_init_3_6 : decode cJ4_init_3 6 = .ok (.putfield 7, 3) := dk_181 0 7 (dk_at dksJ4_init_3_0 6 rfl rfl)
theorem dJ4_init_3_9 : decode cJ4_init_3 9 = .ok (.aload_n 0, 1) := dk_42 (dk_at dksJ4_init_3_0 9 rfl rfl)
theorem dJ4_init_3_10 : decode cJ4_init_3 10 = .ok (.getstatic 13, 3) := dk_178 0 13 (dk_at dksJ4_init_3_0 10 rfl rfl)
theorem dJ4_init_3_13 : decode cJ4_init_3 13 = .ok (.putfield 17, 3) := dk_181 0 17 (dk_at dksJ4_init_3_0 13 rfl rfl)
theorem dJ4_init_3_16 : decode cJ4_init_3 16 = .ok (.aload_n 0, 1) := dk_42 (dk_at dksJ4_init_3_0 16 rfl rfl)
theorem dJ4_init_3_17 : decode cJ4_init_3 17 = .ok (.getstatic 20, 3) := dk_178 0 20 (dk_at dksJ4_init_3_0 17 rfl rfl)
theorem dJ4_init_3_20 : decode cJ4_init_3 20 = .ok (.putfield 24, 3) := dk_181 0 24 (dk_at dksJ4_init_3_0 20 rfl rfl)
theorem dJ4_init_3_23 : decode cJ4_init_3 23 = .ok (.iload 4, 2) := dk_21 4 (dk_at dksJ4_init_3_1 0 rfl rfl)
theorem dJ4_init_3_25 : decode cJ4_init_3 25 = .ok (.ifCond .eq 11, 3) := dk_153 0 11 (dk_at dksJ4_init_3_1 2 rfl rfl)
theorem dJ4_init_3_28 : decode cJ4_init_3 28 = .ok (.aload_n 0, 1) := dk_42 (dk_at dksJ4_init_3_1 5 rfl rfl)
theorem dJ4_init_3_29 : decode cJ4_init_3 29 = .ok (.invokevirtual 27, 3) := dk_182 0 27 (dk_at dksJ4_init_3_1 6 rfl rfl)
theorem dJ4_init_3_32 : decode cJ4_init_3 32 = .ok (.pop, 1) := dk_87 (dk_at dksJ4_init_3_1 9 rfl rfl)
theorem dJ4_init_3_33 : decode cJ4_init_3 33 = .ok (.goto 8, 3) := dk_167 0 8 (dk_at dksJ4_init_3_1 10 rfl rfl)
theorem dJ4_init_3_36 : decode cJ4_init_3 36 = .ok (.aload_n 0, 1) := dk_42 (dk_at dksJ4_init_3_1 13 rfl rfl)
theorem dJ4_init_3_37 : decode cJ4_init_3 37 = .ok (.aconst_null, 1) := dk_1 (dk_at dksJ4_init_3_1 14 rfl rfl)
theorem dJ4_init_3_38 : decode cJ4_init_3 38 = .ok (.putfield 17, 3) := dk_181 0 17 (dk_at dksJ4_init_3_1 15 rfl rfl)
theorem dJ4_init_3_41 : decode cJ4_init_3 41 = .ok (.aload_n 0, 1) := dk_42 (dk_at dksJ4_init_3_1 18 rfl rfl)
theorem dJ4_init_3_42 : decode cJ4_init_3 42 = .ok (.aload_n 1, 1) := dk_43 (dk_at dksJ4_init_3_1 19 rfl rfl)
theorem dJ4_init_3_43 : decode cJ4_init_3 43 = .ok (.putfield 31, 3) := dk_181 0 31 (dk_at dksJ4_init_3_1 20 rfl rfl)
theorem dJ4_init_3_46 : decode cJ4_init_3 46 = .ok (.aload_n 0, 1) := dk_42 (dk_at dksJ4_init_3_1 23 rfl rfl)
theorem dJ4_init_3_47 : decode cJ4_init_3 47 = .ok (.aload_n 2, 1) := dk_44 (dk_at dksJ4_init_3_2 0 rfl rfl)
theorem dJ4_init_3_48 : decode cJ4_init_3 48 = .ok (.putfield 7, 3) := dk_181 0 7 (dk_at dksJ4_init_3_2 1 rfl rfl)
theorem dJ4_init_3_51 : decode cJ4_init_3 51 = .ok (.iload_n 3, 1) := dk_29 (dk_at dksJ4_init_3_2 4 rfl rfl)
theorem dJ4_init_3_52 : decode cJ4_init_3 52 = .ok (.ifCond .ne 8, 3) := dk_154 0 8 (dk_at dksJ4_init_3_2 5 rfl rfl)
theorem dJ4_init_3_55 : decode cJ4_init_3 55 = .ok (.aload_n 0, 1) := dk_42 (dk_at dksJ4_init_3_2 8 rfl rfl)
theorem dJ4_init_3_56 : decode cJ4_init_3 56 = .ok (.aconst_null, 1) := dk_1 (dk_at dksJ4_init_3_2 9 rfl rfl)
theorem dJ4_init_3_57 : decode cJ4_init_3 57 = .ok (.putfield 24, 3) := dk_181 0 24 (dk_at dksJ4_init_3_2 10 rfl rfl)
theorem dJ4_init_3_60 : decode cJ4_init_3 60 = .ok (.return_, 1) := dk_177 (dk_at dksJ4_init_3_2 13 rfl rfl)
abbrev cJ4_toString : ByteArray := prog_44_method_11_code
def yJ4_toString : MethodName := ⟨RJ4, "toString", "()Ljava/lang/String;"⟩
def dkwJ4_toString_1 : List UInt8 := [43, 182, 0, 49, 18, 81, 182, 0, 49, 44, 182, 0, 49, 182, 0, 60, 167, 0, 4, 43, 176]
abbrev dktJ4_toString_1 : List UInt8 := dkwJ4_toString_1 ++ []
def dkwJ4_toString_0 : List UInt8 := [42, 182, 0, 69, 182, 0, 73, 76, 42, 182, 0, 78, 77, 44, 198, 0, 29, 187, 0, 44, 89, 183, 0, 46]
abbrev dktJ4_toString_0 : List UInt8 := dkwJ4_toString_0 ++ dktJ4_toString_1
theorem dksJ4_toString_0 : cJ4_toString.data.toList.drop 0 = dktJ4_toString_0 := by decide +kernel
theorem dksJ4_toString_1 : cJ4_toString.data.toList.drop 24 = dktJ4_toString_1 := dk_seg dksJ4_toString_0 24 rfl rfl
theorem dJ4_toString_0 : decode cJ4_toString 0 = .ok (.aload_n 0, 1) := dk_42 (dk_at dksJ4_toString_0 0 rfl rfl)
theorem dJ4_toString_1 : decode cJ4_toString 1 = .ok (.invokevirtual 69, 3) := dk_182 0 69 (dk_at dksJ4_toString_0 1 rfl rfl)
theorem dJ4_toString_4 : decode cJ4_toString 4 = .ok (.invokevirtual 73, 3) := dk_182 0 73 (dk_at dksJ4_toString_0 4 rfl rfl)
theorem dJ4_toString_7 : decode cJ4_toString 7 = .ok (.astore_n 1, 1) := dk_76 (dk_at dksJ4_toString_0 7 rfl rfl)
theorem dJ4_toString_8 : decode cJ4_toString 8 = .ok (.aload_n 0, 1) := dk_42 (dk_at dksJ4_toString_0 8 rfl rfl)
theorem dJ4_toString_9 : decode cJ4_toString 9 = .ok (.invokevirtual 78, 3) := dk_182 0 78 (dk_at dksJ4_toString_0 9 rfl rfl)
theorem dJ4_toString_12 : decode cJ4_toString 12 = .ok (.astore_n 2, 1) := dk_77 (dk_at dksJ4_toString_0 12 rfl rfl)
theorem dJ4_toString_13 : decode cJ4_toString 13 = .ok (.aload_n 2, 1) := dk_44 (dk_at dksJ4_toString_0 13 rfl rfl)
theorem dJ4_toString_14 : decode cJ4_toString 14 = .ok (.ifnull 29, 3) := dk_198 0 29 (dk_at dksJ4_toString_0 14 rfl rfl)
theorem dJ4_toString_17 : decode cJ4_toString 17 = .ok (.new 44, 3) := dk_187 0 44 (dk_at dksJ4_toString_0 17 rfl rfl)
theorem dJ4_toString_20 : decode cJ4_toString 20 = .ok (.dup, 1) := dk_89 (dk_at dksJ4_toString_0 20 rfl rfl)
theorem dJ4_toString_21 : decode cJ4_toString 21 = .ok (.invokespecial 46, 3) := dk_183 0 46 (dk_at dksJ4_toString_0 21 rfl rfl)
theorem dJ4_toString_24 : decode cJ4_toString 24 = .ok (.aload_n 1, 1) := dk_43 (dk_at dksJ4_toString_1 0 rfl rfl)
theorem dJ4_toString_25 : decode cJ4_toString 25 = .ok (.invokevirtual 49, 3) := dk_182 0 49 (dk_at dksJ4_toString_1 1 rfl rfl)
theorem dJ4_toString_28 : decode cJ4_toString 28 = .ok (.ldc 81, 2) := dk_18 81 (dk_at dksJ4_toString_1 4 rfl rfl)
theorem dJ4_toString_30 : decode cJ4_toString 30 = .ok (.invokevirtual 49, 3) := dk_182 0 49 (dk_at dksJ4_toString_1 6 rfl rfl)
theorem dJ4_toString_33 : decode cJ4_toString 33 = .ok (.aload_n 2, 1) := dk_44 (dk_at dksJ4_toString_1 9 rfl rfl)
theorem dJ4_toString_34 : decode cJ4_toString 34 = .ok (.invokevirtual 49, 3) := dk_182 0 49 (dk_at dksJ4_toString_1 10 rfl rfl)
theorem dJ4_toString_37 : decode cJ4_toString 37 = .ok (.invokevirtual 60, 3) := dk_182 0 60 (dk_at dksJ4_toString_1 13 rfl rfl)
theorem dJ4_toString_40 : decode cJ4_toString 40 = .ok (.goto 4, 3) := dk_167 0 4 (dk_at dksJ4_toString_1 16 rfl rfl)
theorem dJ4_toString_43 : decode cJ4_toString 43 = .ok (.aload_n 1, 1) := dk_43 (dk_at dksJ4_toString_1 19 rfl rfl)
theorem dJ4_toString_44 : decode cJ4_toString 44 = .ok (.areturn, 1) := dk_176 (dk_at dksJ4_toString_1 20 rfl rfl)
abbrev cJ4_getLocalizedMessage : ByteArray := prog_44_method_7_code
def yJ4_getLocalizedMessage : MethodName := ⟨RJ4, "getLocalizedMessage", "()Ljava/lang/String;"⟩
theorem dJ4_getLocalizedMessage_0 : decode cJ4_getLocalizedMessage 0 = .ok (.aload_n 0, 1) := by decide +kernel
theorem dJ4_getLocalizedMessage_1 : decode cJ4_getLocalizedMessage 1 = .ok (.invokevirtual 39, 3) := by decide +kernel
theorem dJ4_getLocalizedMessage_4 : decode cJ4_getLocalizedMessage 4 = .ok (.areturn, 1) := by decide +kernel
abbrev cJ4_getMessage : ByteArray := prog_44_method_6_code
def yJ4_getMessage : MethodName := ⟨RJ4, "getMessage", "()Ljava/lang/String;"⟩
theorem dJ4_getMessage_0 : decode cJ4_getMessage 0 = .ok (.aload_n 0, 1) := by decide +kernel
theorem dJ4_getMessage_1 : decode cJ4_getMessage 1 = .ok (.getfield 31, 3) := by decide +kernel
theorem dJ4_getMessage_4 : decode cJ4_getMessage 4 = .ok (.areturn, 1) := by decide +kernel
theorem q108 : (Jvm.Cond.initialized "java/lang/Throwable") ∈ lw_all := lw_g (lw_at lw_m1 6 rfl) rfl
theorem q188 : (Jvm.Cond.declares ({ cls := "java/lang/Throwable", name := "<init>", desc := "()V" } : Jvm.MethodName)) ∈ lw_tbl := lw_at lw_m1 86 rfl
theorem q189 : (Jvm.Cond.declares ({ cls := "java/lang/Throwable", name := "<init>", desc := "(Ljava/lang/String;)V" } : Jvm.MethodName)) ∈ lw_tbl := lw_at lw_m1 87 rfl
theorem q193 : (Jvm.Cond.lays "java/lang/Throwable" "java/lang/Throwable" "cause" "Ljava/lang/Throwable;") ∈ lw_all := lw_g (lw_at lw_m1 91 rfl) rfl
theorem q195 : (Jvm.Cond.lays "java/lang/Throwable" "java/lang/Throwable" "stackTrace" "[Ljava/lang/StackTraceElement;") ∈ lw_all := lw_g (lw_at lw_m1 93 rfl) rfl
theorem q197 : (Jvm.Cond.lays "java/lang/Throwable" "java/lang/Throwable" "suppressedExceptions" "Ljava/util/List;") ∈ lw_all := lw_g (lw_at lw_m1 95 rfl) rfl
theorem q199 : (Jvm.Cond.lays "java/lang/Throwable" "java/lang/Throwable" "detailMessage" "Ljava/lang/String;") ∈ lw_all := lw_g (lw_at lw_m1 97 rfl) rfl
theorem q201 : (Jvm.Cond.lays "java/lang/Throwable" "java/lang/Throwable" "backtrace" "Ljava/lang/Object;") ∈ lw_all := lw_g (lw_at lw_m1 99 rfl) rfl
theorem q202 : (Jvm.Cond.fieldLink "java/lang/Throwable" (198 : Nat) "java/lang/Throwable" "backtrace" "Ljava/lang/Object;") ∈ lw_all := lw_g (lw_at lw_m1 100 rfl) rfl
theorem q203 : (Jvm.Cond.superclass "java/lang/Throwable" "java/lang/Object") ∈ lw_all := lw_g (lw_at lw_m1 101 rfl) rfl
theorem q204 : (Jvm.Cond.instanceMethod ({ cls := "java/lang/Throwable", name := "<init>", desc := "()V" } : Jvm.MethodName)) ∈ lw_all := lw_g (lw_at lw_m1 102 rfl) rfl
theorem q205 : (Jvm.Cond.code ({ cls := "java/lang/Throwable", name := "<init>", desc := "()V" } : Jvm.MethodName) prog_44_method_1_code (1 : Nat) (Option.none : Option Jvm.ClassFile.FieldType)) ∈ lw_all := lw_g (lw_at lw_m1 103 rfl) rfl
theorem q206 : (Jvm.Cond.methodLink "java/lang/Throwable" (1 : Nat) ({ cls := "java/lang/Object", name := "<init>", desc := "()V" } : Jvm.MethodName)) ∈ lw_all := lw_g (lw_at lw_m1 104 rfl) rfl
theorem q207 : (Jvm.Cond.fieldLink "java/lang/Throwable" (13 : Nat) "java/lang/Throwable" "UNASSIGNED_STACK" "[Ljava/lang/StackTraceElement;") ∈ lw_all := lw_g (lw_at lw_m1 105 rfl) rfl
theorem q208 : (Jvm.Cond.laysStatic "java/lang/Throwable" "UNASSIGNED_STACK" "[Ljava/lang/StackTraceElement;") ∈ lw_tbl := lw_at lw_m1 106 rfl
theorem q209 : (Jvm.Cond.fieldLink "java/lang/Throwable" (20 : Nat) "java/lang/Throwable" "SUPPRESSED_SENTINEL" "Ljava/util/List;") ∈ lw_all := lw_g (lw_at lw_m1 107 rfl) rfl
theorem q210 : (Jvm.Cond.laysStatic "java/lang/Throwable" "SUPPRESSED_SENTINEL" "Ljava/util/List;") ∈ lw_tbl := lw_at lw_m1 108 rfl
theorem q211 : (Jvm.Cond.methodLink "java/lang/Throwable" (27 : Nat) ({ cls := "java/lang/Throwable", name := "fillInStackTrace", desc := "()Ljava/lang/Throwable;" } : Jvm.MethodName)) ∈ lw_all := lw_g (lw_at lw_m1 109 rfl) rfl
theorem q212 : (Jvm.Cond.instanceMethod ({ cls := "java/lang/Throwable", name := "fillInStackTrace", desc := "()Ljava/lang/Throwable;" } : Jvm.MethodName)) ∈ lw_all := lw_g (lw_at lw_m1 110 rfl) rfl
theorem q213 : (Jvm.Cond.sameMethod "java/lang/Throwable" "java/lang/Throwable" "fillInStackTrace" "()Ljava/lang/Throwable;") ∈ lw_all := lw_g (lw_at lw_m1 111 rfl) rfl
theorem q228 : (Jvm.Cond.declares ({ cls := "java/lang/Throwable", name := "fillInStackTrace", desc := "()Ljava/lang/Throwable;" } : Jvm.MethodName)) ∈ lw_tbl := lw_at lw_m1 126 rfl
theorem q232 : (Jvm.Cond.codeSync ({ cls := "java/lang/Throwable", name := "fillInStackTrace", desc := "()Ljava/lang/Throwable;" } : Jvm.MethodName) prog_44_method_18_code (1 : Nat) (Option.some (Jvm.ClassFile.FieldType.object "java/lang/Throwable"))) ∈ lw_all := lw_g (lw_at lw_m1 130 rfl) rfl
theorem q233 : (Jvm.Cond.methodLink "java/lang/Throwable" (202 : Nat) ({ cls := "java/lang/Throwable", name := "fillInStackTrace", desc := "(I)Ljava/lang/Throwable;" } : Jvm.MethodName)) ∈ lw_all := lw_g (lw_at lw_m1 131 rfl) rfl
theorem q234 : (Jvm.Cond.privateMethod ({ cls := "java/lang/Throwable", name := "fillInStackTrace", desc := "(I)Ljava/lang/Throwable;" } : Jvm.MethodName)) ∈ lw_tbl := lw_at lw_m1 132 rfl
theorem q235 : (Jvm.Cond.instanceMethod ({ cls := "java/lang/Throwable", name := "fillInStackTrace", desc := "(I)Ljava/lang/Throwable;" } : Jvm.MethodName)) ∈ lw_all := lw_g (lw_at lw_m1 133 rfl) rfl
theorem q236 : (Jvm.Cond.instantiable "java/lang/Throwable" (6 : Nat)) ∈ lw_all := lw_g (lw_at lw_m1 134 rfl) rfl
theorem q237 : (Jvm.Cond.native ({ cls := "java/lang/Throwable", name := "fillInStackTrace", desc := "(I)Ljava/lang/Throwable;" } : Jvm.MethodName)) ∈ lw_all := lw_g (lw_at lw_m1 135 rfl) rfl
theorem q249 : (Jvm.Cond.fieldLink "java/lang/Throwable" (198 : Nat) "java/lang/Throwable" "backtrace" "Ljava/lang/Object;") ∈ lw_all := lw_g (lw_at lw_m1 147 rfl) rfl
theorem q250 : (Jvm.Cond.fieldLink "java/lang/Throwable" (31 : Nat) "java/lang/Throwable" "detailMessage" "Ljava/lang/String;") ∈ lw_all := lw_g (lw_at lw_m1 148 rfl) rfl
theorem q251 : (Jvm.Cond.fieldLink "java/lang/Throwable" (7 : Nat) "java/lang/Throwable" "cause" "Ljava/lang/Throwable;") ∈ lw_all := lw_g (lw_at lw_m1 149 rfl) rfl
theorem q252 : (Jvm.Cond.fieldLink "java/lang/Throwable" (17 : Nat) "java/lang/Throwable" "stackTrace" "[Ljava/lang/StackTraceElement;") ∈ lw_all := lw_g (lw_at lw_m1 150 rfl) rfl
theorem q253 : (Jvm.Cond.fieldLink "java/lang/Throwable" (24 : Nat) "java/lang/Throwable" "suppressedExceptions" "Ljava/util/List;") ∈ lw_all := lw_g (lw_at lw_m1 151 rfl) rfl
theorem q254 : (Jvm.Cond.soleField "java/lang/Throwable" "backtrace") ∈ lw_all := lw_g (lw_at lw_m1 152 rfl) rfl
theorem q255 : (Jvm.Cond.soleField "java/lang/Throwable" "detailMessage") ∈ lw_all := lw_g (lw_at lw_m1 153 rfl) rfl
theorem q256 : (Jvm.Cond.soleField "java/lang/Throwable" "cause") ∈ lw_all := lw_g (lw_at lw_m1 154 rfl) rfl
theorem q257 : (Jvm.Cond.soleField "java/lang/Throwable" "stackTrace") ∈ lw_all := lw_g (lw_at lw_m1 155 rfl) rfl
theorem q259 : (Jvm.Cond.soleField "java/lang/Throwable" "depth") ∈ lw_all := lw_g (lw_at lw_m1 157 rfl) rfl
theorem q260 : (Jvm.Cond.soleField "java/lang/Throwable" "suppressedExceptions") ∈ lw_all := lw_g (lw_at lw_m1 158 rfl) rfl
theorem q401 : (Jvm.Cond.instanceMethod ({ cls := "java/lang/Throwable", name := "<init>", desc := "(Ljava/lang/String;)V" } : Jvm.MethodName)) ∈ lw_all := lw_g (lw_at lw_m2 59 rfl) rfl
theorem q402 : (Jvm.Cond.code ({ cls := "java/lang/Throwable", name := "<init>", desc := "(Ljava/lang/String;)V" } : Jvm.MethodName) prog_44_method_2_code (2 : Nat) (Option.none : Option Jvm.ClassFile.FieldType)) ∈ lw_all := lw_g (lw_at lw_m2 60 rfl) rfl
theorem q1020 : (Jvm.Cond.instanceMethod ({ cls := "java/lang/Throwable", name := "<init>", desc := "(Ljava/lang/String;Ljava/lang/Throwable;ZZ)V" } : Jvm.MethodName)) ∈ lw_all := lw_g (lw_at lw_m4 198 rfl) rfl
theorem q1021 : (Jvm.Cond.code ({ cls := "java/lang/Throwable", name := "<init>", desc := "(Ljava/lang/String;Ljava/lang/Throwable;ZZ)V" } : Jvm.MethodName) prog_44_method_5_code (5 : Nat) (Option.none : Option Jvm.ClassFile.FieldType)) ∈ lw_all := lw_g (lw_at lw_m4 199 rfl) rfl
theorem q1544 : (Jvm.Cond.instanceMethod ({ cls := "java/lang/Throwable", name := "toString", desc := "()Ljava/lang/String;" } : Jvm.MethodName)) ∈ lw_all := lw_g (lw_at lw_m7 2 rfl) rfl
theorem q1545 : (Jvm.Cond.code ({ cls := "java/lang/Throwable", name := "toString", desc := "()Ljava/lang/String;" } : Jvm.MethodName) prog_44_method_11_code (3 : Nat) (Option.some (Jvm.ClassFile.FieldType.object "java/lang/String"))) ∈ lw_all := lw_g (lw_at lw_m7 3 rfl) rfl
theorem q1546 : (Jvm.Cond.methodLink "java/lang/Throwable" (69 : Nat) ({ cls := "java/lang/Object", name := "getClass", desc := "()Ljava/lang/Class;" } : Jvm.MethodName)) ∈ lw_all := lw_g (lw_at lw_m7 4 rfl) rfl
theorem q1547 : (Jvm.Cond.methodLink "java/lang/Throwable" (78 : Nat) ({ cls := "java/lang/Throwable", name := "getLocalizedMessage", desc := "()Ljava/lang/String;" } : Jvm.MethodName)) ∈ lw_all := lw_g (lw_at lw_m7 5 rfl) rfl
theorem q1548 : (Jvm.Cond.instanceMethod ({ cls := "java/lang/Throwable", name := "getLocalizedMessage", desc := "()Ljava/lang/String;" } : Jvm.MethodName)) ∈ lw_all := lw_g (lw_at lw_m7 6 rfl) rfl
theorem q1549 : (Jvm.Cond.sameMethod "java/lang/Throwable" "java/lang/Throwable" "getLocalizedMessage" "()Ljava/lang/String;") ∈ lw_all := lw_g (lw_at lw_m7 7 rfl) rfl
theorem q1557 : (Jvm.Cond.code ({ cls := "java/lang/Throwable", name := "getLocalizedMessage", desc := "()Ljava/lang/String;" } : Jvm.MethodName) prog_44_method_7_code (1 : Nat) (Option.some (Jvm.ClassFile.FieldType.object "java/lang/String"))) ∈ lw_all := lw_g (lw_at lw_m7 15 rfl) rfl
theorem q1558 : (Jvm.Cond.methodLink "java/lang/Throwable" (39 : Nat) ({ cls := "java/lang/Throwable", name := "getMessage", desc := "()Ljava/lang/String;" } : Jvm.MethodName)) ∈ lw_all := lw_g (lw_at lw_m7 16 rfl) rfl
theorem q1559 : (Jvm.Cond.instanceMethod ({ cls := "java/lang/Throwable", name := "getMessage", desc := "()Ljava/lang/String;" } : Jvm.MethodName)) ∈ lw_all := lw_g (lw_at lw_m7 17 rfl) rfl
theorem q1560 : (Jvm.Cond.sameMethod "java/lang/Throwable" "java/lang/Throwable" "getMessage" "()Ljava/lang/String;") ∈ lw_all := lw_g (lw_at lw_m7 18 rfl) rfl
theorem q1571 : (Jvm.Cond.declares ({ cls := "java/lang/Throwable", name := "getMessage", desc := "()Ljava/lang/String;" } : Jvm.MethodName)) ∈ lw_tbl := lw_at lw_m7 29 rfl
theorem q1572 : (Jvm.Cond.code ({ cls := "java/lang/Throwable", name := "getMessage", desc := "()Ljava/lang/String;" } : Jvm.MethodName) prog_44_method_6_code (1 : Nat) (Option.some (Jvm.ClassFile.FieldType.object "java/lang/String"))) ∈ lw_all := lw_g (lw_at lw_m7 30 rfl) rfl
theorem q1574 : (Jvm.Cond.classLink "java/lang/Throwable" (44 : Nat) "java/lang/StringBuilder") ∈ lw_all := lw_g (lw_at lw_m7 32 rfl) rfl
theorem q1575 : (Jvm.Cond.methodLink "java/lang/Throwable" (46 : Nat) ({ cls := "java/lang/StringBuilder", name := "<init>", desc := "()V" } : Jvm.MethodName)) ∈ lw_all := lw_g (lw_at lw_m7 33 rfl) rfl
theorem q1576 : (Jvm.Cond.methodLink "java/lang/Throwable" (49 : Nat) ({ cls := "java/lang/StringBuilder", name := "append", desc := "(Ljava/lang/String;)Ljava/lang/StringBuilder;" } : Jvm.MethodName)) ∈ lw_all := lw_g (lw_at lw_m7 34 rfl) rfl
theorem q1577 : (Jvm.Cond.stringRef "java/lang/Throwable" (81 : Nat) ": ") ∈ lw_tbl := lw_at lw_m7 35 rfl
theorem q1578 : (Jvm.Cond.methodLink "java/lang/Throwable" (60 : Nat) ({ cls := "java/lang/StringBuilder", name := "toString", desc := "()Ljava/lang/String;" } : Jvm.MethodName)) ∈ lw_all := lw_g (lw_at lw_m7 36 rfl) rfl
theorem q2590 : (Jvm.Cond.sameMethod "java/lang/Throwable" "java/lang/Throwable" "fillInStackTrace" "(I)Ljava/lang/Throwable;") ∈ lw_all := lw_g (lw_at lw_m11 88 rfl) rfl
theorem q2653 : (Jvm.Cond.castable "java/lang/Throwable" "java/lang/Object") ∈ lw_tbl := lw_at lw_m11 151 rfl
theorem in_J4 : ∀ w ∈ wsJ40, w ∈ lw_all := lw_in wsJ40 [193, 195, 197, 199, 201] (by decide +kernel) (by decide +kernel)

/-! java/lang/Exception -/
set_option maxRecDepth 100000
def RJ5 : String := "java/lang/Exception"
abbrev cJ5_init : ByteArray := prog_28_method_1_code
def yJ5_init : MethodName := ⟨RJ5, "<init>", "()V"⟩
theorem dJ5_init_0 : decode cJ5_init 0 = .ok (.aload_n 0, 1) := by decide +kernel
theorem dJ5_init_1 : decode cJ5_init 1 = .ok (.invokespecial 1, 3) := by decide +kernel
theorem dJ5_init_4 : decode cJ5_init 4 = .ok (.return_, 1) := by decide +kernel
abbrev cJ5_init_2 : ByteArray := prog_28_method_2_code
def yJ5_init_2 : MethodName := ⟨RJ5, "<init>", "(Ljava/lang/String;)V"⟩
def dkwJ5_init_2_0 : List UInt8 := [42, 43, 183, 0, 7, 177]
abbrev dktJ5_init_2_0 : List UInt8 := dkwJ5_init_2_0 ++ []
theorem dksJ5_init_2_0 : cJ5_init_2.data.toList.drop 0 = dktJ5_init_2_0 := by decide +kernel
theorem dJ5_init_2_0 : decode cJ5_init_2 0 = .ok (.aload_n 0, 1) := dk_42 (dk_at dksJ5_init_2_0 0 rfl rfl)
theorem dJ5_init_2_1 : decode cJ5_init_2 1 = .ok (.aload_n 1, 1) := dk_43 (dk_at dksJ5_init_2_0 1 rfl rfl)
theorem dJ5_init_2_2 : decode cJ5_init_2 2 = .ok (.invokespecial 7, 3) := dk_183 0 7 (dk_at dksJ5_init_2_0 2 rfl rfl)
theorem dJ5_init_2_5 : decode cJ5_init_2 5 = .ok (.return_, 1) := dk_177 (dk_at dksJ5_init_2_0 5 rfl rfl)
abbrev cJ5_init_3 : ByteArray := prog_28_method_5_code
def yJ5_init_3 : MethodName := ⟨RJ5, "<init>", "(Ljava/lang/String;Ljava/lang/Throwable;ZZ)V"⟩
def dkwJ5_init_3_0 : List UInt8 := [42, 43, 44, 29, 21, 4, 183, 0, 16, 177]
abbrev dktJ5_init_3_0 : List UInt8 := dkwJ5_init_3_0 ++ []
theorem dksJ5_init_3_0 : cJ5_init_3.data.toList.drop 0 = dktJ5_init_3_0 := by decide +kernel
theorem dJ5_init_3_0 : decode cJ5_init_3 0 = .ok (.aload_n 0, 1) := dk_42 (dk_at dksJ5_init_3_0 0 rfl rfl)
theorem dJ5_init_3_1 : decode cJ5_init_3 1 = .ok (.aload_n 1, 1) := dk_43 (dk_at dksJ5_init_3_0 1 rfl rfl)
theorem dJ5_init_3_2 : decode cJ5_init_3 2 = .ok (.aload_n 2, 1) := dk_44 (dk_at dksJ5_init_3_0 2 rfl rfl)
theorem dJ5_init_3_3 : decode cJ5_init_3 3 = .ok (.iload_n 3, 1) := dk_29 (dk_at dksJ5_init_3_0 3 rfl rfl)
theorem dJ5_init_3_4 : decode cJ5_init_3 4 = .ok (.iload 4, 2) := dk_21 4 (dk_at dksJ5_init_3_0 4 rfl rfl)
theorem dJ5_init_3_6 : decode cJ5_init_3 6 = .ok (.invokespecial 16, 3) := dk_183 0 16 (dk_at dksJ5_init_3_0 6 rfl rfl)
theorem dJ5_init_3_9 : decode cJ5_init_3 9 = .ok (.return_, 1) := dk_177 (dk_at dksJ5_init_3_0 9 rfl rfl)
theorem q109 : (Jvm.Cond.initialized "java/lang/Exception") ∈ lw_all := lw_g (lw_at lw_m1 7 rfl) rfl
theorem q186 : (Jvm.Cond.declares ({ cls := "java/lang/Exception", name := "<init>", desc := "()V" } : Jvm.MethodName)) ∈ lw_tbl := lw_at lw_m1 84 rfl
theorem q187 : (Jvm.Cond.declares ({ cls := "java/lang/Exception", name := "<init>", desc := "(Ljava/lang/String;)V" } : Jvm.MethodName)) ∈ lw_tbl := lw_at lw_m1 85 rfl
theorem q231 : (Jvm.Cond.superclass "java/lang/Exception" "java/lang/Throwable") ∈ lw_all := lw_g (lw_at lw_m1 129 rfl) rfl
theorem q246 : (Jvm.Cond.instanceMethod ({ cls := "java/lang/Exception", name := "<init>", desc := "()V" } : Jvm.MethodName)) ∈ lw_all := lw_g (lw_at lw_m1 144 rfl) rfl
theorem q247 : (Jvm.Cond.code ({ cls := "java/lang/Exception", name := "<init>", desc := "()V" } : Jvm.MethodName) prog_28_method_1_code (1 : Nat) (Option.none : Option Jvm.ClassFile.FieldType)) ∈ lw_all := lw_g (lw_at lw_m1 145 rfl) rfl
theorem q248 : (Jvm.Cond.methodLink "java/lang/Exception" (1 : Nat) ({ cls := "java/lang/Throwable", name := "<init>", desc := "()V" } : Jvm.MethodName)) ∈ lw_all := lw_g (lw_at lw_m1 146 rfl) rfl
theorem q398 : (Jvm.Cond.instanceMethod ({ cls := "java/lang/Exception", name := "<init>", desc := "(Ljava/lang/String;)V" } : Jvm.MethodName)) ∈ lw_all := lw_g (lw_at lw_m2 56 rfl) rfl
theorem q399 : (Jvm.Cond.code ({ cls := "java/lang/Exception", name := "<init>", desc := "(Ljava/lang/String;)V" } : Jvm.MethodName) prog_28_method_2_code (2 : Nat) (Option.none : Option Jvm.ClassFile.FieldType)) ∈ lw_all := lw_g (lw_at lw_m2 57 rfl) rfl
theorem q400 : (Jvm.Cond.methodLink "java/lang/Exception" (7 : Nat) ({ cls := "java/lang/Throwable", name := "<init>", desc := "(Ljava/lang/String;)V" } : Jvm.MethodName)) ∈ lw_all := lw_g (lw_at lw_m2 58 rfl) rfl
theorem q1017 : (Jvm.Cond.instanceMethod ({ cls := "java/lang/Exception", name := "<init>", desc := "(Ljava/lang/String;Ljava/lang/Throwable;ZZ)V" } : Jvm.MethodName)) ∈ lw_all := lw_g (lw_at lw_m4 195 rfl) rfl
theorem q1018 : (Jvm.Cond.code ({ cls := "java/lang/Exception", name := "<init>", desc := "(Ljava/lang/String;Ljava/lang/Throwable;ZZ)V" } : Jvm.MethodName) prog_28_method_5_code (5 : Nat) (Option.none : Option Jvm.ClassFile.FieldType)) ∈ lw_all := lw_g (lw_at lw_m4 196 rfl) rfl
theorem q1019 : (Jvm.Cond.methodLink "java/lang/Exception" (16 : Nat) ({ cls := "java/lang/Throwable", name := "<init>", desc := "(Ljava/lang/String;Ljava/lang/Throwable;ZZ)V" } : Jvm.MethodName)) ∈ lw_all := lw_g (lw_at lw_m4 197 rfl) rfl

/-! java/lang/RuntimeException -/
set_option maxRecDepth 100000
def RJ6 : String := "java/lang/RuntimeException"
abbrev cJ6_init : ByteArray := prog_36_method_1_code
def yJ6_init : MethodName := ⟨RJ6, "<init>", "()V"⟩
theorem dJ6_init_0 : decode cJ6_init 0 = .ok (.aload_n 0, 1) := by decide +kernel
theorem dJ6_init_1 : decode cJ6_init 1 = .ok (.invokespecial 1, 3) := by decide +kernel
theorem dJ6_init_4 : decode cJ6_init 4 = .ok (.return_, 1) := by decide +kernel
abbrev cJ6_init_2 : ByteArray := prog_36_method_2_code
def yJ6_init_2 : MethodName := ⟨RJ6, "<init>", "(Ljava/lang/String;)V"⟩
def dkwJ6_init_2_0 : List UInt8 := [42, 43, 183, 0, 7, 177]
abbrev dktJ6_init_2_0 : List UInt8 := dkwJ6_init_2_0 ++ []
theorem dksJ6_init_2_0 : cJ6_init_2.data.toList.drop 0 = dktJ6_init_2_0 := by decide +kernel
theorem dJ6_init_2_0 : decode cJ6_init_2 0 = .ok (.aload_n 0, 1) := dk_42 (dk_at dksJ6_init_2_0 0 rfl rfl)
theorem dJ6_init_2_1 : decode cJ6_init_2 1 = .ok (.aload_n 1, 1) := dk_43 (dk_at dksJ6_init_2_0 1 rfl rfl)
theorem dJ6_init_2_2 : decode cJ6_init_2 2 = .ok (.invokespecial 7, 3) := dk_183 0 7 (dk_at dksJ6_init_2_0 2 rfl rfl)
theorem dJ6_init_2_5 : decode cJ6_init_2 5 = .ok (.return_, 1) := dk_177 (dk_at dksJ6_init_2_0 5 rfl rfl)
abbrev cJ6_init_3 : ByteArray := prog_36_method_5_code
def yJ6_init_3 : MethodName := ⟨RJ6, "<init>", "(Ljava/lang/String;Ljava/lang/Throwable;ZZ)V"⟩
def dkwJ6_init_3_0 : List UInt8 := [42, 43, 44, 29, 21, 4, 183, 0, 16, 177]
abbrev dktJ6_init_3_0 : List UInt8 := dkwJ6_init_3_0 ++ []
theorem dksJ6_init_3_0 : cJ6_init_3.data.toList.drop 0 = dktJ6_init_3_0 := by decide +kernel
theorem dJ6_init_3_0 : decode cJ6_init_3 0 = .ok (.aload_n 0, 1) := dk_42 (dk_at dksJ6_init_3_0 0 rfl rfl)
theorem dJ6_init_3_1 : decode cJ6_init_3 1 = .ok (.aload_n 1, 1) := dk_43 (dk_at dksJ6_init_3_0 1 rfl rfl)
theorem dJ6_init_3_2 : decode cJ6_init_3 2 = .ok (.aload_n 2, 1) := dk_44 (dk_at dksJ6_init_3_0 2 rfl rfl)
theorem dJ6_init_3_3 : decode cJ6_init_3 3 = .ok (.iload_n 3, 1) := dk_29 (dk_at dksJ6_init_3_0 3 rfl rfl)
theorem dJ6_init_3_4 : decode cJ6_init_3 4 = .ok (.iload 4, 2) := dk_21 4 (dk_at dksJ6_init_3_0 4 rfl rfl)
theorem dJ6_init_3_6 : decode cJ6_init_3 6 = .ok (.invokespecial 16, 3) := dk_183 0 16 (dk_at dksJ6_init_3_0 6 rfl rfl)
theorem dJ6_init_3_9 : decode cJ6_init_3 9 = .ok (.return_, 1) := dk_177 (dk_at dksJ6_init_3_0 9 rfl rfl)
theorem q110 : (Jvm.Cond.initialized "java/lang/RuntimeException") ∈ lw_all := lw_g (lw_at lw_m1 8 rfl) rfl
theorem q184 : (Jvm.Cond.declares ({ cls := "java/lang/RuntimeException", name := "<init>", desc := "()V" } : Jvm.MethodName)) ∈ lw_tbl := lw_at lw_m1 82 rfl
theorem q185 : (Jvm.Cond.declares ({ cls := "java/lang/RuntimeException", name := "<init>", desc := "(Ljava/lang/String;)V" } : Jvm.MethodName)) ∈ lw_tbl := lw_at lw_m1 83 rfl
theorem q227 : (Jvm.Cond.sameMethod "java/lang/RuntimeException" "java/lang/Throwable" "fillInStackTrace" "()Ljava/lang/Throwable;") ∈ lw_all := lw_g (lw_at lw_m1 125 rfl) rfl
theorem q230 : (Jvm.Cond.superclass "java/lang/RuntimeException" "java/lang/Exception") ∈ lw_all := lw_g (lw_at lw_m1 128 rfl) rfl
theorem q243 : (Jvm.Cond.instanceMethod ({ cls := "java/lang/RuntimeException", name := "<init>", desc := "()V" } : Jvm.MethodName)) ∈ lw_all := lw_g (lw_at lw_m1 141 rfl) rfl
theorem q244 : (Jvm.Cond.code ({ cls := "java/lang/RuntimeException", name := "<init>", desc := "()V" } : Jvm.MethodName) prog_36_method_1_code (1 : Nat) (Option.none : Option Jvm.ClassFile.FieldType)) ∈ lw_all := lw_g (lw_at lw_m1 142 rfl) rfl
theorem q245 : (Jvm.Cond.methodLink "java/lang/RuntimeException" (1 : Nat) ({ cls := "java/lang/Exception", name := "<init>", desc := "()V" } : Jvm.MethodName)) ∈ lw_all := lw_g (lw_at lw_m1 143 rfl) rfl
theorem q395 : (Jvm.Cond.instanceMethod ({ cls := "java/lang/RuntimeException", name := "<init>", desc := "(Ljava/lang/String;)V" } : Jvm.MethodName)) ∈ lw_all := lw_g (lw_at lw_m2 53 rfl) rfl
theorem q396 : (Jvm.Cond.code ({ cls := "java/lang/RuntimeException", name := "<init>", desc := "(Ljava/lang/String;)V" } : Jvm.MethodName) prog_36_method_2_code (2 : Nat) (Option.none : Option Jvm.ClassFile.FieldType)) ∈ lw_all := lw_g (lw_at lw_m2 54 rfl) rfl
theorem q397 : (Jvm.Cond.methodLink "java/lang/RuntimeException" (7 : Nat) ({ cls := "java/lang/Exception", name := "<init>", desc := "(Ljava/lang/String;)V" } : Jvm.MethodName)) ∈ lw_all := lw_g (lw_at lw_m2 55 rfl) rfl
theorem q1014 : (Jvm.Cond.instanceMethod ({ cls := "java/lang/RuntimeException", name := "<init>", desc := "(Ljava/lang/String;Ljava/lang/Throwable;ZZ)V" } : Jvm.MethodName)) ∈ lw_all := lw_g (lw_at lw_m4 192 rfl) rfl
theorem q1015 : (Jvm.Cond.code ({ cls := "java/lang/RuntimeException", name := "<init>", desc := "(Ljava/lang/String;Ljava/lang/Throwable;ZZ)V" } : Jvm.MethodName) prog_36_method_5_code (5 : Nat) (Option.none : Option Jvm.ClassFile.FieldType)) ∈ lw_all := lw_g (lw_at lw_m4 193 rfl) rfl
theorem q1016 : (Jvm.Cond.methodLink "java/lang/RuntimeException" (16 : Nat) ({ cls := "java/lang/Exception", name := "<init>", desc := "(Ljava/lang/String;Ljava/lang/Throwable;ZZ)V" } : Jvm.MethodName)) ∈ lw_all := lw_g (lw_at lw_m4 194 rfl) rfl
theorem q1570 : (Jvm.Cond.sameMethod "java/lang/RuntimeException" "java/lang/Throwable" "getMessage" "()Ljava/lang/String;") ∈ lw_all := lw_g (lw_at lw_m7 28 rfl) rfl
theorem q1883 : (Jvm.Cond.castable "java/lang/RuntimeException" "java/lang/Throwable") ∈ lw_tbl := lw_at lw_m8 101 rfl

/-! java/lang/NegativeArraySizeException -/
set_option maxRecDepth 100000
def RJ7 : String := "java/lang/NegativeArraySizeException"
def TJ7 : u_T := fun k => match k with
  | 0 => ("java/lang/Throwable", "cause", "Ljava/lang/Throwable;", false)
  | 1 => ("java/lang/Throwable", "stackTrace", "[Ljava/lang/StackTraceElement;", false)
  | 2 => ("java/lang/Throwable", "suppressedExceptions", "Ljava/util/List;", false)
  | 3 => ("java/lang/Throwable", "detailMessage", "Ljava/lang/String;", false)
  | 4 => ("java/lang/Throwable", "backtrace", "Ljava/lang/Object;", false)
  | _ => ("java/lang/Throwable", "depth", "I", false)
def tyJ7 : Nat → FieldType := fun k => match k with
  | 0 => .object "java/lang/Throwable"
  | 1 => .array (.object "java/lang/StackTraceElement")
  | 2 => .object "java/util/List"
  | 3 => .object "java/lang/String"
  | 4 => .object "java/lang/Object"
  | _ => .int
abbrev wsJ70 : List Cond := u_ws RJ7 TJ7 6
theorem nmJ7 : ∀ a, a < 6 → ∀ b, b < 6 → a ≠ b → (TJ7 a).2.1 ≠ (TJ7 b).2.1 := by decide +kernel
theorem tyJ7_ok : ∀ k, k < 6 → parseFieldDescriptor (TJ7 k).2.2.1 = some (tyJ7 k) := by decide +kernel
abbrev cJ7_init : ByteArray := prog_33_method_1_code
def yJ7_init : MethodName := ⟨RJ7, "<init>", "()V"⟩
theorem dJ7_init_0 : decode cJ7_init 0 = .ok (.aload_n 0, 1) := by decide +kernel
theorem dJ7_init_1 : decode cJ7_init 1 = .ok (.invokespecial 1, 3) := by decide +kernel
theorem dJ7_init_4 : decode cJ7_init 4 = .ok (.return_, 1) := by decide +kernel
abbrev cJ7_init_2 : ByteArray := prog_33_method_2_code
def yJ7_init_2 : MethodName := ⟨RJ7, "<init>", "(Ljava/lang/String;)V"⟩
def dkwJ7_init_2_0 : List UInt8 := [42, 43, 183, 0, 7, 177]
abbrev dktJ7_init_2_0 : List UInt8 := dkwJ7_init_2_0 ++ []
theorem dksJ7_init_2_0 : cJ7_init_2.data.toList.drop 0 = dktJ7_init_2_0 := by decide +kernel
theorem dJ7_init_2_0 : decode cJ7_init_2 0 = .ok (.aload_n 0, 1) := dk_42 (dk_at dksJ7_init_2_0 0 rfl rfl)
theorem dJ7_init_2_1 : decode cJ7_init_2 1 = .ok (.aload_n 1, 1) := dk_43 (dk_at dksJ7_init_2_0 1 rfl rfl)
theorem dJ7_init_2_2 : decode cJ7_init_2 2 = .ok (.invokespecial 7, 3) := dk_183 0 7 (dk_at dksJ7_init_2_0 2 rfl rfl)
theorem dJ7_init_2_5 : decode cJ7_init_2 5 = .ok (.return_, 1) := dk_177 (dk_at dksJ7_init_2_0 5 rfl rfl)
theorem q111 : (Jvm.Cond.initialized "java/lang/NegativeArraySizeException") ∈ lw_all := lw_g (lw_at lw_m1 9 rfl) rfl
theorem q182 : (Jvm.Cond.instantiable "java/lang/NegativeArraySizeException" (6 : Nat)) ∈ lw_all := lw_g (lw_at lw_m1 80 rfl) rfl
theorem q183 : (Jvm.Cond.castable "java/lang/NegativeArraySizeException" "java/lang/NegativeArraySizeException") ∈ lw_tbl := lw_at lw_m1 81 rfl
theorem q190 : (Jvm.Cond.selects "java/lang/NegativeArraySizeException" ({ cls := "java/lang/Throwable", name := "fillInStackTrace", desc := "(I)Ljava/lang/Throwable;" } : Jvm.MethodName) ({ cls := "java/lang/Throwable", name := "fillInStackTrace", desc := "(I)Ljava/lang/Throwable;" } : Jvm.MethodName)) ∈ lw_all := lw_g (lw_at lw_m1 88 rfl) rfl
theorem q191 : (Jvm.Cond.selects "java/lang/NegativeArraySizeException" ({ cls := "java/lang/Throwable", name := "fillInStackTrace", desc := "()Ljava/lang/Throwable;" } : Jvm.MethodName) ({ cls := "java/lang/Throwable", name := "fillInStackTrace", desc := "()Ljava/lang/Throwable;" } : Jvm.MethodName)) ∈ lw_all := lw_g (lw_at lw_m1 89 rfl) rfl
theorem q192 : (Jvm.Cond.lays "java/lang/NegativeArraySizeException" "java/lang/Throwable" "cause" "Ljava/lang/Throwable;") ∈ lw_all := lw_g (lw_at lw_m1 90 rfl) rfl
theorem q194 : (Jvm.Cond.lays "java/lang/NegativeArraySizeException" "java/lang/Throwable" "stackTrace" "[Ljava/lang/StackTraceElement;") ∈ lw_all := lw_g (lw_at lw_m1 92 rfl) rfl
theorem q196 : (Jvm.Cond.lays "java/lang/NegativeArraySizeException" "java/lang/Throwable" "suppressedExceptions" "Ljava/util/List;") ∈ lw_all := lw_g (lw_at lw_m1 94 rfl) rfl
theorem q198 : (Jvm.Cond.lays "java/lang/NegativeArraySizeException" "java/lang/Throwable" "detailMessage" "Ljava/lang/String;") ∈ lw_all := lw_g (lw_at lw_m1 96 rfl) rfl
theorem q200 : (Jvm.Cond.lays "java/lang/NegativeArraySizeException" "java/lang/Throwable" "backtrace" "Ljava/lang/Object;") ∈ lw_all := lw_g (lw_at lw_m1 98 rfl) rfl
theorem q240 : (Jvm.Cond.instanceMethod ({ cls := "java/lang/NegativeArraySizeException", name := "<init>", desc := "()V" } : Jvm.MethodName)) ∈ lw_all := lw_g (lw_at lw_m1 138 rfl) rfl
theorem q241 : (Jvm.Cond.code ({ cls := "java/lang/NegativeArraySizeException", name := "<init>", desc := "()V" } : Jvm.MethodName) prog_33_method_1_code (1 : Nat) (Option.none : Option Jvm.ClassFile.FieldType)) ∈ lw_all := lw_g (lw_at lw_m1 139 rfl) rfl
theorem q242 : (Jvm.Cond.methodLink "java/lang/NegativeArraySizeException" (1 : Nat) ({ cls := "java/lang/RuntimeException", name := "<init>", desc := "()V" } : Jvm.MethodName)) ∈ lw_all := lw_g (lw_at lw_m1 140 rfl) rfl
theorem q258 : (Jvm.Cond.lays "java/lang/NegativeArraySizeException" "java/lang/Throwable" "depth" "I") ∈ lw_all := lw_g (lw_at lw_m1 156 rfl) rfl
theorem q261 : (Jvm.Cond.superclass "java/lang/NegativeArraySizeException" "java/lang/RuntimeException") ∈ lw_all := lw_g (lw_at lw_m1 159 rfl) rfl
theorem q591 : (Jvm.Cond.selects "java/lang/NegativeArraySizeException" ({ cls := "java/lang/Object", name := "getClass", desc := "()Ljava/lang/Class;" } : Jvm.MethodName) ({ cls := "java/lang/Object", name := "getClass", desc := "()Ljava/lang/Class;" } : Jvm.MethodName)) ∈ lw_all := lw_g (lw_at lw_m3 9 rfl) rfl
theorem q1554 : (Jvm.Cond.selects "java/lang/NegativeArraySizeException" ({ cls := "java/lang/Throwable", name := "getLocalizedMessage", desc := "()Ljava/lang/String;" } : Jvm.MethodName) ({ cls := "java/lang/Throwable", name := "getLocalizedMessage", desc := "()Ljava/lang/String;" } : Jvm.MethodName)) ∈ lw_all := lw_g (lw_at lw_m7 12 rfl) rfl
theorem q1565 : (Jvm.Cond.selects "java/lang/NegativeArraySizeException" ({ cls := "java/lang/Throwable", name := "getMessage", desc := "()Ljava/lang/String;" } : Jvm.MethodName) ({ cls := "java/lang/Throwable", name := "getMessage", desc := "()Ljava/lang/String;" } : Jvm.MethodName)) ∈ lw_all := lw_g (lw_at lw_m7 23 rfl) rfl
theorem q1586 : (Jvm.Cond.selects "java/lang/NegativeArraySizeException" ({ cls := "java/lang/Object", name := "toString", desc := "()Ljava/lang/String;" } : Jvm.MethodName) ({ cls := "java/lang/Throwable", name := "toString", desc := "()Ljava/lang/String;" } : Jvm.MethodName)) ∈ lw_all := lw_g (lw_at lw_m7 44 rfl) rfl
theorem q1935 : (Jvm.Cond.instanceMethod ({ cls := "java/lang/NegativeArraySizeException", name := "<init>", desc := "(Ljava/lang/String;)V" } : Jvm.MethodName)) ∈ lw_all := lw_g (lw_at lw_m8 153 rfl) rfl
theorem q1936 : (Jvm.Cond.code ({ cls := "java/lang/NegativeArraySizeException", name := "<init>", desc := "(Ljava/lang/String;)V" } : Jvm.MethodName) prog_33_method_2_code (2 : Nat) (Option.none : Option Jvm.ClassFile.FieldType)) ∈ lw_all := lw_g (lw_at lw_m8 154 rfl) rfl
theorem q1937 : (Jvm.Cond.methodLink "java/lang/NegativeArraySizeException" (7 : Nat) ({ cls := "java/lang/RuntimeException", name := "<init>", desc := "(Ljava/lang/String;)V" } : Jvm.MethodName)) ∈ lw_all := lw_g (lw_at lw_m8 155 rfl) rfl
theorem q2631 : (Jvm.Cond.castable "java/lang/NegativeArraySizeException" "java/lang/Object") ∈ lw_tbl := lw_at lw_m11 129 rfl
theorem in_J7 : ∀ w ∈ wsJ70, w ∈ lw_all := lw_in wsJ70 [192, 194, 196, 198, 200, 258] (by decide +kernel) (by decide +kernel)

/-! jdk/internal/util/ArraysSupport -/
set_option maxRecDepth 100000
def RJ8 : String := "jdk/internal/util/ArraysSupport"
abbrev cJ8_newLength : ByteArray := prog_59_method_27_code
def yJ8_newLength : MethodName := ⟨RJ8, "newLength", "(III)I"⟩
def dkwJ8_newLength_1 : List UInt8 := [184, 0, 201, 172]
abbrev dktJ8_newLength_1 : List UInt8 := dkwJ8_newLength_1 ++ []
def dkwJ8_newLength_0 : List UInt8 := [26, 27, 28, 184, 0, 194, 96, 62, 3, 29, 162, 0, 11, 29, 18, 200, 163, 0, 5, 29, 172, 26, 27]
abbrev dktJ8_newLength_0 : List UInt8 := dkwJ8_newLength_0 ++ dktJ8_newLength_1
theorem dksJ8_newLength_0 : cJ8_newLength.data.toList.drop 0 = dktJ8_newLength_0 := by decide +kernel
theorem dksJ8_newLength_1 : cJ8_newLength.data.toList.drop 23 = dktJ8_newLength_1 := dk_seg dksJ8_newLength_0 23 rfl rfl
theorem dJ8_newLength_0 : decode cJ8_newLength 0 = .ok (.iload_n 0, 1) := dk_26 (dk_at dksJ8_newLength_0 0 rfl rfl)
theorem dJ8_newLength_1 : decode cJ8_newLength 1 = .ok (.iload_n 1, 1) := dk_27 (dk_at dksJ8_newLength_0 1 rfl rfl)
theorem dJ8_newLength_2 : decode cJ8_newLength 2 = .ok (.iload_n 2, 1) := dk_28 (dk_at dksJ8_newLength_0 2 rfl rfl)
theorem dJ8_newLength_3 : decode cJ8_newLength 3 = .ok (.invokestatic 194, 3) := dk_184 0 194 (dk_at dksJ8_newLength_0 3 rfl rfl)
theorem dJ8_newLength_6 : decode cJ8_newLength 6 = .ok (.iadd, 1) := dk_96 (dk_at dksJ8_newLength_0 6 rfl rfl)
theorem dJ8_newLength_7 : decode cJ8_newLength 7 = .ok (.istore_n 3, 1) := dk_62 (dk_at dksJ8_newLength_0 7 rfl rfl)
theorem dJ8_newLength_8 : decode cJ8_newLength 8 = .ok (.iconst 0, 1) := dk_3 (dk_at dksJ8_newLength_0 8 rfl rfl)
theorem dJ8_newLength_9 : decode cJ8_newLength 9 = .ok (.iload_n 3, 1) := dk_29 (dk_at dksJ8_newLength_0 9 rfl rfl)
theorem dJ8_newLength_10 : decode cJ8_newLength 10 = .ok (.if_icmp .ge 11, 3) := dk_162 0 11 (dk_at dksJ8_newLength_0 10 rfl rfl)
theorem dJ8_newLength_13 : decode cJ8_newLength 13 = .ok (.iload_n 3, 1) := dk_29 (dk_at dksJ8_newLength_0 13 rfl rfl)
theorem dJ8_newLength_14 : decode cJ8_newLength 14 = .ok (.ldc 200, 2) := dk_18 200 (dk_at dksJ8_newLength_0 14 rfl rfl)
theorem dJ8_newLength_16 : decode cJ8_newLength 16 = .ok (.if_icmp .gt 5, 3) := dk_163 0 5 (dk_at dksJ8_newLength_0 16 rfl rfl)
theorem dJ8_newLength_19 : decode cJ8_newLength 19 = .ok (.iload_n 3, 1) := dk_29 (dk_at dksJ8_newLength_0 19 rfl rfl)
theorem dJ8_newLength_20 : decode cJ8_newLength 20 = .ok (.ireturn, 1) := dk_172 (dk_at dksJ8_newLength_0 20 rfl rfl)
theorem dJ8_newLength_21 : decode cJ8_newLength 21 = .ok (.iload_n 0, 1) := dk_26 (dk_at dksJ8_newLength_0 21 rfl rfl)
theorem dJ8_newLength_22 : decode cJ8_newLength 22 = .ok (.iload_n 1, 1) := dk_27 (dk_at dksJ8_newLength_0 22 rfl rfl)
theorem dJ8_newLength_23 : decode cJ8_newLength 23 = .ok (.invokestatic 201, 3) := dk_184 0 201 (dk_at dksJ8_newLength_1 0 rfl rfl)
theorem dJ8_newLength_26 : decode cJ8_newLength 26 = .ok (.ireturn, 1) := dk_172 (dk_at dksJ8_newLength_1 3 rfl rfl)
abbrev cJ8_hugeLength : ByteArray := prog_59_method_28_code
def yJ8_hugeLength : MethodName := ⟨RJ8, "hugeLength", "(II)I"⟩
def dkwJ8_hugeLength_2 : List UInt8 := [191, 28, 18, 200, 163, 0, 6, 18, 200, 172, 28, 172]
abbrev dktJ8_hugeLength_2 : List UInt8 := dkwJ8_hugeLength_2 ++ []
def dkwJ8_hugeLength_1 : List UInt8 := [26, 182, 0, 98, 18, 208, 182, 0, 94, 27, 182, 0, 98, 18, 210, 182, 0, 94, 182, 0, 101, 183, 0, 212]
abbrev dktJ8_hugeLength_1 : List UInt8 := dkwJ8_hugeLength_1 ++ dktJ8_hugeLength_2
def dkwJ8_hugeLength_0 : List UInt8 := [26, 27, 96, 61, 28, 156, 0, 44, 187, 0, 204, 89, 187, 0, 89, 89, 183, 0, 91, 18, 206, 182, 0, 94]
abbrev dktJ8_hugeLength_0 : List UInt8 := dkwJ8_hugeLength_0 ++ dktJ8_hugeLength_1
theorem dksJ8_hugeLength_0 : cJ8_hugeLength.data.toList.drop 0 = dktJ8_hugeLength_0 := by decide +kernel
theorem dksJ8_hugeLength_1 : cJ8_hugeLength.data.toList.drop 24 = dktJ8_hugeLength_1 := dk_seg dksJ8_hugeLength_0 24 rfl rfl
theorem dksJ8_hugeLength_2 : cJ8_hugeLength.data.toList.drop 48 = dktJ8_hugeLength_2 := dk_seg dksJ8_hugeLength_1 24 rfl rfl
theorem dJ8_hugeLength_0 : decode cJ8_hugeLength 0 = .ok (.iload_n 0, 1) := dk_26 (dk_at dksJ8_hugeLength_0 0 rfl rfl)
theorem dJ8_hugeLength_1 : decode cJ8_hugeLength 1 = .ok (.iload_n 1, 1) := dk_27 (dk_at dksJ8_hugeLength_0 1 rfl rfl)
theorem dJ8_hugeLength_2 : decode cJ8_hugeLength 2 = .ok (.iadd, 1) := dk_96 (dk_at dksJ8_hugeLength_0 2 rfl rfl)
theorem dJ8_hugeLength_3 : decode cJ8_hugeLength 3 = .ok (.istore_n 2, 1) := dk_61 (dk_at dksJ8_hugeLength_0 3 rfl rfl)
theorem dJ8_hugeLength_4 : decode cJ8_hugeLength 4 = .ok (.iload_n 2, 1) := dk_28 (dk_at dksJ8_hugeLength_0 4 rfl rfl)
theorem dJ8_hugeLength_5 : decode cJ8_hugeLength 5 = .ok (.ifCond .ge 44, 3) := dk_156 0 44 (dk_at dksJ8_hugeLength_0 5 rfl rfl)
theorem dJ8_hugeLength_8 : decode cJ8_hugeLength 8 = .ok (.new 204, 3) := dk_187 0 204 (dk_at dksJ8_hugeLength_0 8 rfl rfl)
theorem dJ8_hugeLength_11 : decode cJ8_hugeLength 11 = .ok (.dup, 1) := dk_89 (dk_at dksJ8_hugeLength_0 11 rfl rfl)
theorem dJ8_hugeLength_12 : decode cJ8_hugeLength 12 = .ok (.new 89, 3) := dk_187 0 89 (dk_at dksJ8_hugeLength_0 12 rfl rfl)
theorem dJ8_hugeLength_15 : decode cJ8_hugeLength 15 = .ok (.dup, 1) := dk_89 (dk_at dksJ8_hugeLength_0 15 rfl rfl)
theorem dJ8_hugeLength_16 : decode cJ8_hugeLength 16 = .ok (.invokespecial 91, 3) := dk_183 0 91 (dk_at dksJ8_hugeLength_0 16 rfl rfl)
theorem dJ8_hugeLength_19 : decode cJ8_hugeLength 19 = .ok (.ldc 206, 2) := dk_18 206 (dk_at dksJ8_hugeLength_0 19 rfl rfl)
theorem dJ8_hugeLength_21 : decode cJ8_hugeLength 21 = .ok (.invokevirtual 94, 3) := dk_182 0 94 (dk_at dksJ8_hugeLength_0 21 rfl rfl)
theorem dJ8_hugeLength_24 : decode cJ8_hugeLength 24 = .ok (.iload_n 0, 1) := dk_26 (dk_at dksJ8_hugeLength_1 0 rfl rfl)
theorem dJ8_hugeLength_25 : decode cJ8_hugeLength 25 = .ok (.invokevirtual 98, 3) := dk_182 0 98 (dk_at dksJ8_hugeLength_1 1 rfl rfl)
theorem dJ8_hugeLength_28 : decode cJ8_hugeLength 28 = .ok (.ldc 208, 2) := dk_18 208 (dk_at dksJ8_hugeLength_1 4 rfl rfl)
theorem dJ8_hugeLength_30 : decode cJ8_hugeLength 30 = .ok (.invokevirtual 94, 3) := dk_182 0 94 (dk_at dksJ8_hugeLength_1 6 rfl rfl)
theorem dJ8_hugeLength_33 : decode cJ8_hugeLength 33 = .ok (.iload_n 1, 1) := dk_27 (dk_at dksJ8_hugeLength_1 9 rfl rfl)
theorem dJ8_hugeLength_34 : decode cJ8_hugeLength 34 = .ok (.invokevirtual 98, 3) := dk_182 0 98 (dk_at dksJ8_hugeLength_1 10 rfl rfl)
theorem dJ8_hugeLength_37 : decode cJ8_hugeLength 37 = .ok (.ldc 210, 2) := dk_18 210 (dk_at dksJ8_hugeLength_1 13 rfl rfl)
theorem dJ8_hugeLength_39 : decode cJ8_hugeLength 39 = .ok (.invokevirtual 94, 3) := dk_182 0 94 (dk_at dksJ8_hugeLength_1 15 rfl rfl)
theorem dJ8_hugeLength_42 : decode cJ8_hugeLength 42 = .ok (.invokevirtual 101, 3) := dk_182 0 101 (dk_at dksJ8_hugeLength_1 18 rfl rfl)
theorem dJ8_hugeLength_45 : decode cJ8_hugeLength 45 = .ok (.invokespecial 212, 3) := dk_183 0 212 (dk_at dksJ8_hugeLength_1 21 rfl rfl)
theorem dJ8_hugeLength_48 : decode cJ8_hugeLength 48 = .ok (.athrow, 1) := dk_191 (dk_at dksJ8_hugeLength_2 0 rfl rfl)
theorem dJ8_hugeLength_49 : decode cJ8_hugeLength 49 = .ok (.iload_n 2, 1) := dk_28 (dk_at dksJ8_hugeLength_2 1 rfl rfl)
theorem dJ8_hugeLength_50 : decode cJ8_hugeLength 50 = .ok (.ldc 200, 2) := dk_18 200 (dk_at dksJ8_hugeLength_2 2 rfl rfl)
theorem dJ8_hugeLength_52 : decode cJ8_hugeLength 52 = .ok (.if_icmp .gt 6, 3) := dk_163 0 6 (dk_at dksJ8_hugeLength_2 4 rfl rfl)
theorem dJ8_hugeLength_55 : decode cJ8_hugeLength 55 = .ok (.ldc 200, 2) := dk_18 200 (dk_at dksJ8_hugeLength_2 7 rfl rfl)
theorem dJ8_hugeLength_57 : decode cJ8_hugeLength 57 = .ok (.ireturn, 1) := dk_172 (dk_at dksJ8_hugeLength_2 9 rfl rfl)
theorem dJ8_hugeLength_58 : decode cJ8_hugeLength 58 = .ok (.iload_n 2, 1) := dk_28 (dk_at dksJ8_hugeLength_2 10 rfl rfl)
theorem dJ8_hugeLength_59 : decode cJ8_hugeLength 59 = .ok (.ireturn, 1) := dk_172 (dk_at dksJ8_hugeLength_2 11 rfl rfl)
abbrev cJ8_vectorizedHashCode : ByteArray := prog_59_method_4_code
def yJ8_vectorizedHashCode : MethodName := ⟨RJ8, "vectorizedHashCode", "(Ljava/lang/Object;IIII)I"⟩
def dkwJ8_vectorizedHashCode_6 : List UInt8 := [183, 0, 91, 18, 92, 182, 0, 94, 21, 4, 182, 0, 98, 182, 0, 101, 183, 0, 105, 191, 172]
abbrev dktJ8_vectorizedHashCode_6 : List UInt8 := dkwJ8_vectorizedHashCode_6 ++ []
def dkwJ8_vectorizedHashCode_5 : List UInt8 := [167, 0, 44, 29, 42, 192, 0, 82, 27, 28, 184, 0, 84, 167, 0, 31, 187, 0, 87, 89, 187, 0, 89, 89]
abbrev dktJ8_vectorizedHashCode_5 : List UInt8 := dkwJ8_vectorizedHashCode_5 ++ dktJ8_vectorizedHashCode_6
def dkwJ8_vectorizedHashCode_4 : List UInt8 := [29, 42, 192, 0, 60, 27, 28, 184, 0, 75, 167, 0, 57, 29, 42, 192, 0, 77, 27, 28, 184, 0, 79]
abbrev dktJ8_vectorizedHashCode_4 : List UInt8 := dkwJ8_vectorizedHashCode_4 ++ dktJ8_vectorizedHashCode_5
def dkwJ8_vectorizedHashCode_3 : List UInt8 := [192, 0, 60, 27, 28, 184, 0, 66, 167, 0, 83, 29, 42, 192, 0, 69, 27, 28, 184, 0, 71, 167, 0, 70]
abbrev dktJ8_vectorizedHashCode_3 : List UInt8 := dkwJ8_vectorizedHashCode_3 ++ dktJ8_vectorizedHashCode_4
def dkwJ8_vectorizedHashCode_2 : List UInt8 := [29, 42, 192, 0, 60, 27, 28, 184, 0, 62, 167, 0, 103, 42, 193, 0, 60, 153, 0, 16, 29, 42]
abbrev dktJ8_vectorizedHashCode_2 : List UInt8 := dkwJ8_vectorizedHashCode_2 ++ dktJ8_vectorizedHashCode_3
def dkwJ8_vectorizedHashCode_1 : List UInt8 := [170, 0, 0, 0, 0, 127, 0, 0, 0, 4, 0, 0, 0, 10, 0, 0, 0, 42, 0, 0, 0, 55, 0, 0, 0, 127, 0, 0, 0, 127, 0, 0, 0, 88, 0, 0, 0, 101, 0, 0, 0, 114]
abbrev dktJ8_vectorizedHashCode_1 : List UInt8 := dkwJ8_vectorizedHashCode_1 ++ dktJ8_vectorizedHashCode_2
def dkwJ8_vectorizedHashCode_0 : List UInt8 := [21, 4]
abbrev dktJ8_vectorizedHashCode_0 : List UInt8 := dkwJ8_vectorizedHashCode_0 ++ dktJ8_vectorizedHashCode_1
theorem dksJ8_vectorizedHashCode_0 : cJ8_vectorizedHashCode.data.toList.drop 0 = dktJ8_vectorizedHashCode_0 := by decide +kernel
theorem dksJ8_vectorizedHashCode_1 : cJ8_vectorizedHashCode.data.toList.drop 2 = dktJ8_vectorizedHashCode_1 := dk_seg dksJ8_vectorizedHashCode_0 2 rfl rfl
theorem dksJ8_vectorizedHashCode_2 : cJ8_vectorizedHashCode.data.toList.drop 44 = dktJ8_vectorizedHashCode_2 := dk_seg dksJ8_vectorizedHashCode_1 42 rfl rfl
theorem dksJ8_vectorizedHashCode_3 : cJ8_vectorizedHashCode.data.toList.drop 66 = dktJ8_vectorizedHashCode_3 := dk_seg dksJ8_vectorizedHashCode_2 22 rfl rfl
theorem dksJ8_vectorizedHashCode_4 : cJ8_vectorizedHashCode.data.toList.drop 90 = dktJ8_vectorizedHashCode_4 := dk_seg dksJ8_vectorizedHashCode_3 24 rfl rfl
theorem dksJ8_vectorizedHashCode_5 : cJ8_vectorizedHashCode.data.toList.drop 113 = dktJ8_vectorizedHashCode_5 := dk_seg dksJ8_vectorizedHashCode_4 23 rfl rfl
theorem dksJ8_vectorizedHashCode_6 : cJ8_vectorizedHashCode.data.toList.drop 137 = dktJ8_vectorizedHashCode_6 := dk_seg dksJ8_vectorizedHashCode_5 24 rfl rfl
theorem dJ8_vectorizedHashCode_0 : decode cJ8_vectorizedHashCode 0 = .ok (.iload 4, 2) := dk_21 4 (dk_at dksJ8_vectorizedHashCode_0 0 rfl rfl)
theorem dJ8_vectorizedHashCode_2 : decode cJ8_vectorizedHashCode 2 = .ok (.tableswitch 127 4 10 #[42, 55, 127, 127, 88, 101, 114], 42) := by decide +kernel
theorem dJ8_vectorizedHashCode_44 : decode cJ8_vectorizedHashCode 44 = .ok (.iload_n 3, 1) := dk_29 (dk_at dksJ8_vectorizedHashCode_2 0 rfl rfl)
theorem dJ8_vectorizedHashCode_45 : decode cJ8_vectorizedHashCode 45 = .ok (.aload_n 0, 1) := dk_42 (dk_at dksJ8_vectorizedHashCode_2 1 rfl rfl)
theorem dJ8_vectorizedHashCode_46 : decode cJ8_vectorizedHashCode 46 = .ok (.checkcast 60, 3) := dk_192 0 60 (dk_at dksJ8_vectorizedHashCode_2 2 rfl rfl)
theorem dJ8_vectorizedHashCode_49 : decode cJ8_vectorizedHashCode 49 = .ok (.iload_n 1, 1) := dk_27 (dk_at dksJ8_vectorizedHashCode_2 5 rfl rfl)
theorem dJ8_vectorizedHashCode_50 : decode cJ8_vectorizedHashCode 50 = .ok (.iload_n 2, 1) := dk_28 (dk_at dksJ8_vectorizedHashCode_2 6 rfl rfl)
theorem dJ8_vectorizedHashCode_51 : decode cJ8_vectorizedHashCode 51 = .ok (.invokestatic 62, 3) := dk_184 0 62 (dk_at dksJ8_vectorizedHashCode_2 7 rfl rfl)
theorem dJ8_vectorizedHashCode_54 : decode cJ8_vectorizedHashCode 54 = .ok (.goto 103, 3) := dk_167 0 103 (dk_at dksJ8_vectorizedHashCode_2 10 rfl rfl)
theorem dJ8_vectorizedHashCode_57 : decode cJ8_vectorizedHashCode 57 = .ok (.aload_n 0, 1) := dk_42 (dk_at dksJ8_vectorizedHashCode_2 13 rfl rfl)
theorem dJ8_vectorizedHashCode_58 : decode cJ8_vectorizedHashCode 58 = .ok (.instanceof 60, 3) := dk_193 0 60 (dk_at dksJ8_vectorizedHashCode_2 14 rfl rfl)
theorem dJ8_vectorizedHashCode_61 : decode cJ8_vectorizedHashCode 61 = .ok (.ifCond .eq 16, 3) := dk_153 0 16 (dk_at dksJ8_vectorizedHashCode_2 17 rfl rfl)
theorem dJ8_vectorizedHashCode_64 : decode cJ8_vectorizedHashCode 64 = .ok (.iload_n 3, 1) := dk_29 (dk_at dksJ8_vectorizedHashCode_2 20 rfl rfl)
theorem dJ8_vectorizedHashCode_65 : decode cJ8_vectorizedHashCode 65 = .ok (.aload_n 0, 1) := dk_42 (dk_at dksJ8_vectorizedHashCode_2 21 rfl rfl)
theorem dJ8_vectorizedHashCode_66 : decode cJ8_vectorizedHashCode 66 = .ok (.checkcast 60, 3) := dk_192 0 60 (dk_at dksJ8_vectorizedHashCode_3 0 rfl rfl)
theorem dJ8_vectorizedHashCode_69 : decode cJ8_vectorizedHashCode 69 = .ok (.iload_n 1, 1) := dk_27 (dk_at dksJ8_vectorizedHashCode_3 3 rfl rfl)
theorem dJ8_vectorizedHashCode_70 : decode cJ8_vectorizedHashCode 70 = .ok (.iload_n 2, 1) := dk_28 (dk_at dksJ8_vectorizedHashCode_3 4 rfl rfl)
theorem dJ8_vectorizedHashCode_71 : decode cJ8_vectorizedHashCode 71 = .ok (.invokestatic 66, 3) := dk_184 0 66 (dk_at dksJ8_vectorizedHashCode_3 5 rfl rfl)
theorem dJ8_vectorizedHashCode_74 : decode cJ8_vectorizedHashCode 74 = .ok (.goto 83, 3) := dk_167 0 83 (dk_at dksJ8_vectorizedHashCode_3 8 rfl rfl)
theorem dJ8_vectorizedHashCode_77 : decode cJ8_vectorizedHashCode 77 = .ok (.iload_n 3, 1) := dk_29 (dk_at dksJ8_vectorizedHashCode_3 11 rfl rfl)
theorem dJ8_vectorizedHashCode_78 : decode cJ8_vectorizedHashCode 78 = .ok (.aload_n 0, 1) := dk_42 (dk_at dksJ8_vectorizedHashCode_3 12 rfl rfl)
theorem dJ8_vectorizedHashCode_79 : decode cJ8_vectorizedHashCode 79 = .ok (.checkcast 69, 3) := dk_192 0 69 (dk_at dksJ8_vectorizedHashCode_3 13 rfl rfl)
theorem dJ8_vectorizedHashCode_82 : decode cJ8_vectorizedHashCode 82 = .ok (.iload_n 1, 1) := dk_27 (dk_at dksJ8_vectorizedHashCode_3 16 rfl rfl)
theorem dJ8_vectorizedHashCode_83 : decode cJ8_vectorizedHashCode 83 = .ok (.iload_n 2, 1) := dk_28 (dk_at dksJ8_vectorizedHashCode_3 17 rfl rfl)
theorem dJ8_vectorizedHashCode_84 : decode cJ8_vectorizedHashCode 84 = .ok (.invokestatic 71, 3) := dk_184 0 71 (dk_at dksJ8_vectorizedHashCode_3 18 rfl rfl)
theorem dJ8_vectorizedHashCode_87 : decode cJ8_vectorizedHashCode 87 = .ok (.goto 70, 3) := dk_167 0 70 (dk_at dksJ8_vectorizedHashCode_3 21 rfl rfl)
theorem dJ8_vectorizedHashCode_90 : decode cJ8_vectorizedHashCode 90 = .ok (.iload_n 3, 1) := dk_29 (dk_at dksJ8_vectorizedHashCode_4 0 rfl rfl)
theorem dJ8_vectorizedHashCode_91 : decode cJ8_vectorizedHashCode 91 = .ok (.aload_n 0, 1) := dk_42 (dk_at dksJ8_vectorizedHashCode_4 1 rfl rfl)
theorem dJ8_vectorizedHashCode_92 : decode cJ8_vectorizedHashCode 92 = .ok (.checkcast 60, 3) := dk_192 0 60 (dk_at dksJ8_vectorizedHashCode_4 2 rfl rfl)
theorem dJ8_vectorizedHashCode_95 : decode cJ8_vectorizedHashCode 95 = .ok (.iload_n 1, 1) := dk_27 (dk_at dksJ8_vectorizedHashCode_4 5 rfl rfl)
theorem dJ8_vectorizedHashCode_96 : decode cJ8_vectorizedHashCode 96 = .ok (.iload_n 2, 1) := dk_28 (dk_at dksJ8_vectorizedHashCode_4 6 rfl rfl)
theorem dJ8_vectorizedHashCode_97 : decode cJ8_vectorizedHashCode 97 = .ok (.invokestatic 75, 3) := dk_184 0 75 (dk_at dksJ8_vectorizedHashCode_4 7 rfl rfl)
theorem dJ8_vectorizedHashCode_100 : decode cJ8_vectorizedHashCode 100 = .ok (.goto 57, 3) := dk_167 0 57 (dk_at dksJ8_vectorizedHashCode_4 10 rfl rfl)
theorem dJ8_vectorizedHashCode_103 : decode cJ8_vectorizedHashCode 103 = .ok (.iload_n 3, 1) := dk_29 (dk_at dksJ8_vectorizedHashCode_4 13 rfl rfl)
theorem dJ8_vectorizedHashCode_104 : decode cJ8_vectorizedHashCode 104 = .ok (.aload_n 0, 1) := dk_42 (dk_at dksJ8_vectorizedHashCode_4 14 rfl rfl)
theorem dJ8_vectorizedHashCode_105 : decode cJ8_vectorizedHashCode 105 = .ok (.checkcast 77, 3) := dk_192 0 77 (dk_at dksJ8_vectorizedHashCode_4 15 rfl rfl)
theorem dJ8_vectorizedHashCode_108 : decode cJ8_vectorizedHashCode 108 = .ok (.iload_n 1, 1) := dk_27 (dk_at dksJ8_vectorizedHashCode_4 18 rfl rfl)
theorem dJ8_vectorizedHashCode_109 : decode cJ8_vectorizedHashCode 109 = .ok (.iload_n 2, 1) := dk_28 (dk_at dksJ8_vectorizedHashCode_4 19 rfl rfl)
theorem dJ8_vectorizedHashCode_110 : decode cJ8_vectorizedHashCode 110 = .ok (.invokestatic 79, 3) := dk_184 0 79 (dk_at dksJ8_vectorizedHashCode_4 20 rfl rfl)
theorem dJ8_vectorizedHashCode_113 : decode cJ8_vectorizedHashCode 113 = .ok (.goto 44, 3) := dk_167 0 44 (dk_at dksJ8_vectorizedHashCode_5 0 rfl rfl)
theorem dJ8_vectorizedHashCode_116 : decode cJ8_vectorizedHashCode 116 = .ok (.iload_n 3, 1) := dk_29 (dk_at dksJ8_vectorizedHashCode_5 3 rfl rfl)
theorem dJ8_vectorizedHashCode_117 : decode cJ8_vectorizedHashCode 117 = .ok (.aload_n 0, 1) := dk_42 (dk_at dksJ8_vectorizedHashCode_5 4 rfl rfl)
theorem dJ8_vectorizedHashCode_118 : decode cJ8_vectorizedHashCode 118 = .ok (.checkcast 82, 3) := dk_192 0 82 (dk_at dksJ8_vectorizedHashCode_5 5 rfl rfl)
theorem dJ8_vectorizedHashCode_121 : decode cJ8_vectorizedHashCode 121 = .ok (.iload_n 1, 1) := dk_27 (dk_at dksJ8_vectorizedHashCode_5 8 rfl rfl)
theorem dJ8_vectorizedHashCode_122 : decode cJ8_vectorizedHashCode 122 = .ok (.iload_n 2, 1) := dk_28 (dk_at dksJ8_vectorizedHashCode_5 9 rfl rfl)
theorem dJ8_vectorizedHashCode_123 : decode cJ8_vectorizedHashCode 123 = .ok (.invokestatic 84, 3) := dk_184 0 84 (dk_at dksJ8_vectorizedHashCode_5 10 rfl rfl)
theorem dJ8_vectorizedHashCode_126 : decode cJ8_vectorizedHashCode 126 = .ok (.goto 31, 3) := dk_167 0 31 (dk_at dksJ8_vectorizedHashCode_5 13 rfl rfl)
theorem dJ8_vectorizedHashCode_129 : decode cJ8_vectorizedHashCode 129 = .ok (.new 87, 3) := dk_187 0 87 (dk_at dksJ8_vectorizedHashCode_5 16 rfl rfl)
theorem dJ8_vectorizedHashCode_132 : decode cJ8_vectorizedHashCode 132 = .ok (.dup, 1) := dk_89 (dk_at dksJ8_vectorizedHashCode_5 19 rfl rfl)
theorem dJ8_vectorizedHashCode_133 : decode cJ8_vectorizedHashCode 133 = .ok (.new 89, 3) := dk_187 0 89 (dk_at dksJ8_vectorizedHashCode_5 20 rfl rfl)
theorem dJ8_vectorizedHashCode_136 : decode cJ8_vectorizedHashCode 136 = .ok (.dup, 1) := dk_89 (dk_at dksJ8_vectorizedHashCode_5 23 rfl rfl)
theorem dJ8_vectorizedHashCode_137 : decode cJ8_vectorizedHashCode 137 = .ok (.invokespecial 91, 3) := dk_183 0 91 (dk_at dksJ8_vectorizedHashCode_6 0 rfl rfl)
theorem dJ8_vectorizedHashCode_140 : decode cJ8_vectorizedHashCode 140 = .ok (.ldc 92, 2) := dk_18 92 (dk_at dksJ8_vectorizedHashCode_6 3 rfl rfl)
theorem dJ8_vectorizedHashCode_142 : decode cJ8_vectorizedHashCode 142 = .ok (.invokevirtual 94, 3) := dk_182 0 94 (dk_at dksJ8_vectorizedHashCode_6 5 rfl rfl)
theorem dJ8_vectorizedHashCode_145 : decode cJ8_vectorizedHashCode 145 = .ok (.iload 4, 2) := dk_21 4 (dk_at dksJ8_vectorizedHashCode_6 8 rfl rfl)
theorem dJ8_vectorizedHashCode_147 : decode cJ8_vectorizedHashCode 147 = .ok (.invokevirtual 98, 3) := dk_182 0 98 (dk_at dksJ8_vectorizedHashCode_6 10 rfl rfl)
theorem dJ8_vectorizedHashCode_150 : decode cJ8_vectorizedHashCode 150 = .ok (.invokevirtual 101, 3) := dk_182 0 101 (dk_at dksJ8_vectorizedHashCode_6 13 rfl rfl)
theorem dJ8_vectorizedHashCode_153 : decode cJ8_vectorizedHashCode 153 = .ok (.invokespecial 105, 3) := dk_183 0 105 (dk_at dksJ8_vectorizedHashCode_6 16 rfl rfl)
theorem dJ8_vectorizedHashCode_156 : decode cJ8_vectorizedHashCode 156 = .ok (.athrow, 1) := dk_191 (dk_at dksJ8_vectorizedHashCode_6 19 rfl rfl)
theorem dJ8_vectorizedHashCode_157 : decode cJ8_vectorizedHashCode 157 = .ok (.ireturn, 1) := dk_172 (dk_at dksJ8_vectorizedHashCode_6 20 rfl rfl)
abbrev cJ8_signedHashCode : ByteArray := prog_59_method_5_code
def yJ8_signedHashCode : MethodName := ⟨RJ8, "signedHashCode", "(I[BII)I"⟩
def dkwJ8_signedHashCode_1 : List UInt8 := [17, 0, 255, 126, 96, 59, 132, 5, 1, 167, 255, 232, 26, 172]
abbrev dktJ8_signedHashCode_1 : List UInt8 := dkwJ8_signedHashCode_1 ++ []
def dkwJ8_signedHashCode_0 : List UInt8 := [28, 29, 96, 54, 4, 28, 54, 5, 21, 5, 21, 4, 162, 0, 23, 16, 31, 26, 104, 43, 21, 5, 51]
abbrev dktJ8_signedHashCode_0 : List UInt8 := dkwJ8_signedHashCode_0 ++ dktJ8_signedHashCode_1
theorem dksJ8_signedHashCode_0 : cJ8_signedHashCode.data.toList.drop 0 = dktJ8_signedHashCode_0 := by decide +kernel
theorem dksJ8_signedHashCode_1 : cJ8_signedHashCode.data.toList.drop 23 = dktJ8_signedHashCode_1 := dk_seg dksJ8_signedHashCode_0 23 rfl rfl
theorem dJ8_signedHashCode_0 : decode cJ8_signedHashCode 0 = .ok (.iload_n 2, 1) := dk_28 (dk_at dksJ8_signedHashCode_0 0 rfl rfl)
theorem dJ8_signedHashCode_1 : decode cJ8_signedHashCode 1 = .ok (.iload_n 3, 1) := dk_29 (dk_at dksJ8_signedHashCode_0 1 rfl rfl)
theorem dJ8_signedHashCode_2 : decode cJ8_signedHashCode 2 = .ok (.iadd, 1) := dk_96 (dk_at dksJ8_signedHashCode_0 2 rfl rfl)
theorem dJ8_signedHashCode_3 : decode cJ8_signedHashCode 3 = .ok (.istore 4, 2) := dk_54 4 (dk_at dksJ8_signedHashCode_0 3 rfl rfl)
theorem dJ8_signedHashCode_5 : decode cJ8_signedHashCode 5 = .ok (.iload_n 2, 1) := dk_28 (dk_at dksJ8_signedHashCode_0 5 rfl rfl)
theorem dJ8_signedHashCode_6 : decode cJ8_signedHashCode 6 = .ok (.istore 5, 2) := dk_54 5 (dk_at dksJ8_signedHashCode_0 6 rfl rfl)
theorem dJ8_signedHashCode_8 : decode cJ8_signedHashCode 8 = .ok (.iload 5, 2) := dk_21 5 (dk_at dksJ8_signedHashCode_0 8 rfl rfl)
theorem dJ8_signedHashCode_10 : decode cJ8_signedHashCode 10 = .ok (.iload 4, 2) := dk_21 4 (dk_at dksJ8_signedHashCode_0 10 rfl rfl)
theorem dJ8_signedHashCode_12 : decode cJ8_signedHashCode 12 = .ok (.if_icmp .ge 23, 3) := dk_162 0 23 (dk_at dksJ8_signedHashCode_0 12 rfl rfl)
theorem dJ8_signedHashCode_15 : decode cJ8_signedHashCode 15 = .ok (.bipush 31, 2) := dk_16 31 (dk_at dksJ8_signedHashCode_0 15 rfl rfl)
theorem dJ8_signedHashCode_17 : decode cJ8_signedHashCode 17 = .ok (.iload_n 0, 1) := dk_26 (dk_at dksJ8_signedHashCode_0 17 rfl rfl)
theorem dJ8_signedHashCode_18 : decode cJ8_signedHashCode 18 = .ok (.imul, 1) := dk_104 (dk_at dksJ8_signedHashCode_0 18 rfl rfl)
theorem dJ8_signedHashCode_19 : decode cJ8_signedHashCode 19 = .ok (.aload_n 1, 1) := dk_43 (dk_at dksJ8_signedHashCode_0 19 rfl rfl)
theorem dJ8_signedHashCode_20 : decode cJ8_signedHashCode 20 = .ok (.iload 5, 2) := dk_21 5 (dk_at dksJ8_signedHashCode_0 20 rfl rfl)
theorem dJ8_signedHashCode_22 : decode cJ8_signedHashCode 22 = .ok (.baload, 1) := dk_51 (dk_at dksJ8_signedHashCode_0 22 rfl rfl)
theorem dJ8_signedHashCode_23 : decode cJ8_signedHashCode 23 = .ok (.sipush 255, 3) := dk_17 0 255 (dk_at dksJ8_signedHashCode_1 0 rfl rfl)
theorem dJ8_signedHashCode_26 : decode cJ8_signedHashCode 26 = .ok (.iand, 1) := dk_126 (dk_at dksJ8_signedHashCode_1 3 rfl rfl)
theorem dJ8_signedHashCode_27 : decode cJ8_signedHashCode 27 = .ok (.iadd, 1) := dk_96 (dk_at dksJ8_signedHashCode_1 4 rfl rfl)
theorem dJ8_signedHashCode_28 : decode cJ8_signedHashCode 28 = .ok (.istore_n 0, 1) := dk_59 (dk_at dksJ8_signedHashCode_1 5 rfl rfl)
theorem dJ8_signedHashCode_29 : decode cJ8_signedHashCode 29 = .ok (.iinc 5 1, 3) := dk_132 5 1 (dk_at dksJ8_signedHashCode_1 6 rfl rfl)
theorem dJ8_signedHashCode_32 : decode cJ8_signedHashCode 32 = .ok (.goto (-24), 3) := dk_167 255 232 (dk_at dksJ8_signedHashCode_1 9 rfl rfl)
theorem dJ8_signedHashCode_35 : decode cJ8_signedHashCode 35 = .ok (.iload_n 0, 1) := dk_26 (dk_at dksJ8_signedHashCode_1 12 rfl rfl)
theorem dJ8_signedHashCode_36 : decode cJ8_signedHashCode 36 = .ok (.ireturn, 1) := dk_172 (dk_at dksJ8_signedHashCode_1 13 rfl rfl)
abbrev cJ8_utf16hashCode : ByteArray := prog_59_method_10_code
def yJ8_utf16hashCode : MethodName := ⟨RJ8, "utf16hashCode", "(I[BII)I"⟩
def dkwJ8_utf16hashCode_1 : List UInt8 := [21, 5, 185, 0, 110, 3, 0, 96, 59, 132, 5, 1, 167, 255, 229, 26, 172]
abbrev dktJ8_utf16hashCode_1 : List UInt8 := dkwJ8_utf16hashCode_1 ++ []
def dkwJ8_utf16hashCode_0 : List UInt8 := [28, 29, 96, 54, 4, 28, 54, 5, 21, 5, 21, 4, 162, 0, 26, 16, 31, 26, 104, 178, 0, 106, 43]
abbrev dktJ8_utf16hashCode_0 : List UInt8 := dkwJ8_utf16hashCode_0 ++ dktJ8_utf16hashCode_1
theorem dksJ8_utf16hashCode_0 : cJ8_utf16hashCode.data.toList.drop 0 = dktJ8_utf16hashCode_0 := by decide +kernel
theorem dksJ8_utf16hashCode_1 : cJ8_utf16hashCode.data.toList.drop 23 = dktJ8_utf16hashCode_1 := dk_seg dksJ8_utf16hashCode_0 23 rfl rfl
theorem dJ8_utf16hashCode_0 : decode cJ8_utf16hashCode 0 = .ok (.iload_n 2, 1) := dk_28 (dk_at dksJ8_utf16hashCode_0 0 rfl rfl)
theorem dJ8_utf16hashCode_1 : decode cJ8_utf16hashCode 1 = .ok (.iload_n 3, 1) := dk_29 (dk_at dksJ8_utf16hashCode_0 1 rfl rfl)
theorem dJ8_utf16hashCode_2 : decode cJ8_utf16hashCode 2 = .ok (.iadd, 1) := dk_96 (dk_at dksJ8_utf16hashCode_0 2 rfl rfl)
theorem dJ8_utf16hashCode_3 : decode cJ8_utf16hashCode 3 = .ok (.istore 4, 2) := dk_54 4 (dk_at dksJ8_utf16hashCode_0 3 rfl rfl)
theorem dJ8_utf16hashCode_5 : decode cJ8_utf16hashCode 5 = .ok (.iload_n 2, 1) := dk_28 (dk_at dksJ8_utf16hashCode_0 5 rfl rfl)
theorem dJ8_utf16hashCode_6 : decode cJ8_utf16hashCode 6 = .ok (.istore 5, 2) := dk_54 5 (dk_at dksJ8_utf16hashCode_0 6 rfl rfl)
theorem dJ8_utf16hashCode_8 : decode cJ8_utf16hashCode 8 = .ok (.iload 5, 2) := dk_21 5 (dk_at dksJ8_utf16hashCode_0 8 rfl rfl)
theorem dJ8_utf16hashCode_10 : decode cJ8_utf16hashCode 10 = .ok (.iload 4, 2) := dk_21 4 (dk_at dksJ8_utf16hashCode_0 10 rfl rfl)
theorem dJ8_utf16hashCode_12 : decode cJ8_utf16hashCode 12 = .ok (.if_icmp .ge 26, 3) := dk_162 0 26 (dk_at dksJ8_utf16hashCode_0 12 rfl rfl)
theorem dJ8_utf16hashCode_15 : decode cJ8_utf16hashCode 15 = .ok (.bipush 31, 2) := dk_16 31 (dk_at dksJ8_utf16hashCode_0 15 rfl rfl)
theorem dJ8_utf16hashCode_17 : decode cJ8_utf16hashCode 17 = .ok (.iload_n 0, 1) := dk_26 (dk_at dksJ8_utf16hashCode_0 17 rfl rfl)
theorem dJ8_utf16hashCode_18 : decode cJ8_utf16hashCode 18 = .ok (.imul, 1) := dk_104 (dk_at dksJ8_utf16hashCode_0 18 rfl rfl)
theorem dJ8_utf16hashCode_19 : decode cJ8_utf16hashCode 19 = .ok (.getstatic 106, 3) := dk_178 0 106 (dk_at dksJ8_utf16hashCode_0 19 rfl rfl)
theorem dJ8_utf16hashCode_22 : decode cJ8_utf16hashCode 22 = .ok (.aload_n 1, 1) := dk_43 (dk_at dksJ8_utf16hashCode_0 22 rfl rfl)
theorem dJ8_utf16hashCode_23 : decode cJ8_utf16hashCode 23 = .ok (.iload 5, 2) := dk_21 5 (dk_at dksJ8_utf16hashCode_1 0 rfl rfl)
theorem dJ8_utf16hashCode_25 : decode cJ8_utf16hashCode 25 = .ok (.invokeinterface 110 3, 5) := by decide +kernel
theorem dJ8_utf16hashCode_30 : decode cJ8_utf16hashCode 30 = .ok (.iadd, 1) := dk_96 (dk_at dksJ8_utf16hashCode_1 7 rfl rfl)
theorem dJ8_utf16hashCode_31 : decode cJ8_utf16hashCode 31 = .ok (.istore_n 0, 1) := dk_59 (dk_at dksJ8_utf16hashCode_1 8 rfl rfl)
theorem dJ8_utf16hashCode_32 : decode cJ8_utf16hashCode 32 = .ok (.iinc 5 1, 3) := dk_132 5 1 (dk_at dksJ8_utf16hashCode_1 9 rfl rfl)
theorem dJ8_utf16hashCode_35 : decode cJ8_utf16hashCode 35 = .ok (.goto (-27), 3) := dk_167 255 229 (dk_at dksJ8_utf16hashCode_1 12 rfl rfl)
theorem dJ8_utf16hashCode_38 : decode cJ8_utf16hashCode 38 = .ok (.iload_n 0, 1) := dk_26 (dk_at dksJ8_utf16hashCode_1 15 rfl rfl)
theorem dJ8_utf16hashCode_39 : decode cJ8_utf16hashCode 39 = .ok (.ireturn, 1) := dk_172 (dk_at dksJ8_utf16hashCode_1 16 rfl rfl)
abbrev cJ8_hashCode : ByteArray := prog_59_method_7_code
def yJ8_hashCode : MethodName := ⟨RJ8, "hashCode", "(I[CII)I"⟩
def dkwJ8_hashCode_1 : List UInt8 := [59, 132, 5, 1, 167, 255, 236, 26, 172]
abbrev dktJ8_hashCode_1 : List UInt8 := dkwJ8_hashCode_1 ++ []
def dkwJ8_hashCode_0 : List UInt8 := [28, 29, 96, 54, 4, 28, 54, 5, 21, 5, 21, 4, 162, 0, 19, 16, 31, 26, 104, 43, 21, 5, 52, 96]
abbrev dktJ8_hashCode_0 : List UInt8 := dkwJ8_hashCode_0 ++ dktJ8_hashCode_1
theorem dksJ8_hashCode_0 : cJ8_hashCode.data.toList.drop 0 = dktJ8_hashCode_0 := by decide +kernel
theorem dksJ8_hashCode_1 : cJ8_hashCode.data.toList.drop 24 = dktJ8_hashCode_1 := dk_seg dksJ8_hashCode_0 24 rfl rfl
theorem dJ8_hashCode_0 : decode cJ8_hashCode 0 = .ok (.iload_n 2, 1) := dk_28 (dk_at dksJ8_hashCode_0 0 rfl rfl)
theorem dJ8_hashCode_1 : decode cJ8_hashCode 1 = .ok (.iload_n 3, 1) := dk_29 (dk_at dksJ8_hashCode_0 1 rfl rfl)
theorem dJ8_hashCode_2 : decode cJ8_hashCode 2 = .ok (.iadd, 1) := dk_96 (dk_at dksJ8_hashCode_0 2 rfl rfl)
theorem dJ8_hashCode_3 : decode cJ8_hashCode 3 = .ok (.istore 4, 2) := dk_54 4 (dk_at dksJ8_hashCode_0 3 rfl rfl)
theorem dJ8_hashCode_5 : decode cJ8_hashCode 5 = .ok (.iload_n 2, 1) := dk_28 (dk_at dksJ8_hashCode_0 5 rfl rfl)
theorem dJ8_hashCode_6 : decode cJ8_hashCode 6 = .ok (.istore 5, 2) := dk_54 5 (dk_at dksJ8_hashCode_0 6 rfl rfl)
theorem dJ8_hashCode_8 : decode cJ8_hashCode 8 = .ok (.iload 5, 2) := dk_21 5 (dk_at dksJ8_hashCode_0 8 rfl rfl)
theorem dJ8_hashCode_10 : decode cJ8_hashCode 10 = .ok (.iload 4, 2) := dk_21 4 (dk_at dksJ8_hashCode_0 10 rfl rfl)
theorem dJ8_hashCode_12 : decode cJ8_hashCode 12 = .ok (.if_icmp .ge 19, 3) := dk_162 0 19 (dk_at dksJ8_hashCode_0 12 rfl rfl)
theorem dJ8_hashCode_15 : decode cJ8_hashCode 15 = .ok (.bipush 31, 2) := dk_16 31 (dk_at dksJ8_hashCode_0 15 rfl rfl)
theorem dJ8_hashCode_17 : decode cJ8_hashCode 17 = .ok (.iload_n 0, 1) := dk_26 (dk_at dksJ8_hashCode_0 17 rfl rfl)
theorem dJ8_hashCode_18 : decode cJ8_hashCode 18 = .ok (.imul, 1) := dk_104 (dk_at dksJ8_hashCode_0 18 rfl rfl)
theorem dJ8_hashCode_19 : decode cJ8_hashCode 19 = .ok (.aload_n 1, 1) := dk_43 (dk_at dksJ8_hashCode_0 19 rfl rfl)
theorem dJ8_hashCode_20 : decode cJ8_hashCode 20 = .ok (.iload 5, 2) := dk_21 5 (dk_at dksJ8_hashCode_0 20 rfl rfl)
theorem dJ8_hashCode_22 : decode cJ8_hashCode 22 = .ok (.caload, 1) := dk_52 (dk_at dksJ8_hashCode_0 22 rfl rfl)
theorem dJ8_hashCode_23 : decode cJ8_hashCode 23 = .ok (.iadd, 1) := dk_96 (dk_at dksJ8_hashCode_0 23 rfl rfl)
theorem dJ8_hashCode_24 : decode cJ8_hashCode 24 = .ok (.istore_n 0, 1) := dk_59 (dk_at dksJ8_hashCode_1 0 rfl rfl)
theorem dJ8_hashCode_25 : decode cJ8_hashCode 25 = .ok (.iinc 5 1, 3) := dk_132 5 1 (dk_at dksJ8_hashCode_1 1 rfl rfl)
theorem dJ8_hashCode_28 : decode cJ8_hashCode 28 = .ok (.goto (-20), 3) := dk_167 255 236 (dk_at dksJ8_hashCode_1 4 rfl rfl)
theorem dJ8_hashCode_31 : decode cJ8_hashCode 31 = .ok (.iload_n 0, 1) := dk_26 (dk_at dksJ8_hashCode_1 7 rfl rfl)
theorem dJ8_hashCode_32 : decode cJ8_hashCode 32 = .ok (.ireturn, 1) := dk_172 (dk_at dksJ8_hashCode_1 8 rfl rfl)
abbrev cJ8_hashCode_2 : ByteArray := prog_59_method_6_code
def yJ8_hashCode_2 : MethodName := ⟨RJ8, "hashCode", "(I[BII)I"⟩
def dkwJ8_hashCode_2_1 : List UInt8 := [59, 132, 5, 1, 167, 255, 236, 26, 172]
abbrev dktJ8_hashCode_2_1 : List UInt8 := dkwJ8_hashCode_2_1 ++ []
def dkwJ8_hashCode_2_0 : List UInt8 := [28, 29, 96, 54, 4, 28, 54, 5, 21, 5, 21, 4, 162, 0, 19, 16, 31, 26, 104, 43, 21, 5, 51, 96]
abbrev dktJ8_hashCode_2_0 : List UInt8 := dkwJ8_hashCode_2_0 ++ dktJ8_hashCode_2_1
theorem dksJ8_hashCode_2_0 : cJ8_hashCode_2.data.toList.drop 0 = dktJ8_hashCode_2_0 := by decide +kernel
theorem dksJ8_hashCode_2_1 : cJ8_hashCode_2.data.toList.drop 24 = dktJ8_hashCode_2_1 := dk_seg dksJ8_hashCode_2_0 24 rfl rfl
theorem dJ8_hashCode_2_0 : decode cJ8_hashCode_2 0 = .ok (.iload_n 2, 1) := dk_28 (dk_at dksJ8_hashCode_2_0 0 rfl rfl)
theorem dJ8_hashCode_2_1 : decode cJ8_hashCode_2 1 = .ok (.iload_n 3, 1) := dk_29 (dk_at dksJ8_hashCode_2_0 1 rfl rfl)
theorem dJ8_hashCode_2_2 : decode cJ8_hashCode_2 2 = .ok (.iadd, 1) := dk_96 (dk_at dksJ8_hashCode_2_0 2 rfl rfl)
theorem dJ8_hashCode_2_3 : decode cJ8_hashCode_2 3 = .ok (.istore 4, 2) := dk_54 4 (dk_at dksJ8_hashCode_2_0 3 rfl rfl)
theorem dJ8_hashCode_2_5 : decode cJ8_hashCode_2 5 = .ok (.iload_n 2, 1) := dk_28 (dk_at dksJ8_hashCode_2_0 5 rfl rfl)
theorem dJ8_hashCode_2_6 : decode cJ8_hashCode_2 6 = .ok (.istore 5, 2) := dk_54 5 (dk_at dksJ8_hashCode_2_0 6 rfl rfl)
theorem dJ8_hashCode_2_8 : decode cJ8_hashCode_2 8 = .ok (.iload 5, 2) := dk_21 5 (dk_at dksJ8_hashCode_2_0 8 rfl rfl)
theorem dJ8_hashCode_2_10 : decode cJ8_hashCode_2 10 = .ok (.iload 4, 2) := dk_21 4 (dk_at dksJ8_hashCode_2_0 10 rfl rfl)
theorem dJ8_hashCode_2_12 : decode cJ8_hashCode_2 12 = .ok (.if_icmp .ge 19, 3) := dk_162 0 19 (dk_at dksJ8_hashCode_2_0 12 rfl rfl)
theorem dJ8_hashCode_2_15 : decode cJ8_hashCode_2 15 = .ok (.bipush 31, 2) := dk_16 31 (dk_at dksJ8_hashCode_2_0 15 rfl rfl)
theorem dJ8_hashCode_2_17 : decode cJ8_hashCode_2 17 = .ok (.iload_n 0, 1) := dk_26 (dk_at dksJ8_hashCode_2_0 17 rfl rfl)
theorem dJ8_hashCode_2_18 : decode cJ8_hashCode_2 18 = .ok (.imul, 1) := dk_104 (dk_at dksJ8_hashCode_2_0 18 rfl rfl)
theorem dJ8_hashCode_2_19 : decode cJ8_hashCode_2 19 = .ok (.aload_n 1, 1) := dk_43 (dk_at dksJ8_hashCode_2_0 19 rfl rfl)
theorem dJ8_hashCode_2_20 : decode cJ8_hashCode_2 20 = .ok (.iload 5, 2) := dk_21 5 (dk_at dksJ8_hashCode_2_0 20 rfl rfl)
theorem dJ8_hashCode_2_22 : decode cJ8_hashCode_2 22 = .ok (.baload, 1) := dk_51 (dk_at dksJ8_hashCode_2_0 22 rfl rfl)
theorem dJ8_hashCode_2_23 : decode cJ8_hashCode_2 23 = .ok (.iadd, 1) := dk_96 (dk_at dksJ8_hashCode_2_0 23 rfl rfl)
theorem dJ8_hashCode_2_24 : decode cJ8_hashCode_2 24 = .ok (.istore_n 0, 1) := dk_59 (dk_at dksJ8_hashCode_2_1 0 rfl rfl)
theorem dJ8_hashCode_2_25 : decode cJ8_hashCode_2 25 = .ok (.iinc 5 1, 3) := dk_132 5 1 (dk_at dksJ8_hashCode_2_1 1 rfl rfl)
theorem dJ8_hashCode_2_28 : decode cJ8_hashCode_2 28 = .ok (.goto (-20), 3) := dk_167 255 236 (dk_at dksJ8_hashCode_2_1 4 rfl rfl)
theorem dJ8_hashCode_2_31 : decode cJ8_hashCode_2 31 = .ok (.iload_n 0, 1) := dk_26 (dk_at dksJ8_hashCode_2_1 7 rfl rfl)
theorem dJ8_hashCode_2_32 : decode cJ8_hashCode_2 32 = .ok (.ireturn, 1) := dk_172 (dk_at dksJ8_hashCode_2_1 8 rfl rfl)
abbrev cJ8_hashCode_3 : ByteArray := prog_59_method_8_code
def yJ8_hashCode_3 : MethodName := ⟨RJ8, "hashCode", "(I[SII)I"⟩
def dkwJ8_hashCode_3_1 : List UInt8 := [59, 132, 5, 1, 167, 255, 236, 26, 172]
abbrev dktJ8_hashCode_3_1 : List UInt8 := dkwJ8_hashCode_3_1 ++ []
def dkwJ8_hashCode_3_0 : List UInt8 := [28, 29, 96, 54, 4, 28, 54, 5, 21, 5, 21, 4, 162, 0, 19, 16, 31, 26, 104, 43, 21, 5, 53, 96]
abbrev dktJ8_hashCode_3_0 : List UInt8 := dkwJ8_hashCode_3_0 ++ dktJ8_hashCode_3_1
theorem dksJ8_hashCode_3_0 : cJ8_hashCode_3.data.toList.drop 0 = dktJ8_hashCode_3_0 := by decide +kernel
theorem dksJ8_hashCode_3_1 : cJ8_hashCode_3.data.toList.drop 24 = dktJ8_hashCode_3_1 := dk_seg dksJ8_hashCode_3_0 24 rfl rfl
theorem dJ8_hashCode_3_0 : decode cJ8_hashCode_3 0 = .ok (.iload_n 2, 1) := dk_28 (dk_at dksJ8_hashCode_3_0 0 rfl rfl)
theorem dJ8_hashCode_3_1 : decode cJ8_hashCode_3 1 = .ok (.iload_n 3, 1) := dk_29 (dk_at dksJ8_hashCode_3_0 1 rfl rfl)
theorem dJ8_hashCode_3_2 : decode cJ8_hashCode_3 2 = .ok (.iadd, 1) := dk_96 (dk_at dksJ8_hashCode_3_0 2 rfl rfl)
theorem dJ8_hashCode_3_3 : decode cJ8_hashCode_3 3 = .ok (.istore 4, 2) := dk_54 4 (dk_at dksJ8_hashCode_3_0 3 rfl rfl)
theorem dJ8_hashCode_3_5 : decode cJ8_hashCode_3 5 = .ok (.iload_n 2, 1) := dk_28 (dk_at dksJ8_hashCode_3_0 5 rfl rfl)
theorem dJ8_hashCode_3_6 : decode cJ8_hashCode_3 6 = .ok (.istore 5, 2) := dk_54 5 (dk_at dksJ8_hashCode_3_0 6 rfl rfl)
theorem dJ8_hashCode_3_8 : decode cJ8_hashCode_3 8 = .ok (.iload 5, 2) := dk_21 5 (dk_at dksJ8_hashCode_3_0 8 rfl rfl)
theorem dJ8_hashCode_3_10 : decode cJ8_hashCode_3 10 = .ok (.iload 4, 2) := dk_21 4 (dk_at dksJ8_hashCode_3_0 10 rfl rfl)
theorem dJ8_hashCode_3_12 : decode cJ8_hashCode_3 12 = .ok (.if_icmp .ge 19, 3) := dk_162 0 19 (dk_at dksJ8_hashCode_3_0 12 rfl rfl)
theorem dJ8_hashCode_3_15 : decode cJ8_hashCode_3 15 = .ok (.bipush 31, 2) := dk_16 31 (dk_at dksJ8_hashCode_3_0 15 rfl rfl)
theorem dJ8_hashCode_3_17 : decode cJ8_hashCode_3 17 = .ok (.iload_n 0, 1) := dk_26 (dk_at dksJ8_hashCode_3_0 17 rfl rfl)
theorem dJ8_hashCode_3_18 : decode cJ8_hashCode_3 18 = .ok (.imul, 1) := dk_104 (dk_at dksJ8_hashCode_3_0 18 rfl rfl)
theorem dJ8_hashCode_3_19 : decode cJ8_hashCode_3 19 = .ok (.aload_n 1, 1) := dk_43 (dk_at dksJ8_hashCode_3_0 19 rfl rfl)
theorem dJ8_hashCode_3_20 : decode cJ8_hashCode_3 20 = .ok (.iload 5, 2) := dk_21 5 (dk_at dksJ8_hashCode_3_0 20 rfl rfl)
theorem dJ8_hashCode_3_22 : decode cJ8_hashCode_3 22 = .ok (.saload, 1) := dk_53 (dk_at dksJ8_hashCode_3_0 22 rfl rfl)
theorem dJ8_hashCode_3_23 : decode cJ8_hashCode_3 23 = .ok (.iadd, 1) := dk_96 (dk_at dksJ8_hashCode_3_0 23 rfl rfl)
theorem dJ8_hashCode_3_24 : decode cJ8_hashCode_3 24 = .ok (.istore_n 0, 1) := dk_59 (dk_at dksJ8_hashCode_3_1 0 rfl rfl)
theorem dJ8_hashCode_3_25 : decode cJ8_hashCode_3 25 = .ok (.iinc 5 1, 3) := dk_132 5 1 (dk_at dksJ8_hashCode_3_1 1 rfl rfl)
theorem dJ8_hashCode_3_28 : decode cJ8_hashCode_3 28 = .ok (.goto (-20), 3) := dk_167 255 236 (dk_at dksJ8_hashCode_3_1 4 rfl rfl)
theorem dJ8_hashCode_3_31 : decode cJ8_hashCode_3 31 = .ok (.iload_n 0, 1) := dk_26 (dk_at dksJ8_hashCode_3_1 7 rfl rfl)
theorem dJ8_hashCode_3_32 : decode cJ8_hashCode_3 32 = .ok (.ireturn, 1) := dk_172 (dk_at dksJ8_hashCode_3_1 8 rfl rfl)
abbrev cJ8_hashCode_4 : ByteArray := prog_59_method_9_code
def yJ8_hashCode_4 : MethodName := ⟨RJ8, "hashCode", "(I[III)I"⟩
def dkwJ8_hashCode_4_1 : List UInt8 := [59, 132, 5, 1, 167, 255, 236, 26, 172]
abbrev dktJ8_hashCode_4_1 : List UInt8 := dkwJ8_hashCode_4_1 ++ []
def dkwJ8_hashCode_4_0 : List UInt8 := [28, 29, 96, 54, 4, 28, 54, 5, 21, 5, 21, 4, 162, 0, 19, 16, 31, 26, 104, 43, 21, 5, 46, 96]
abbrev dktJ8_hashCode_4_0 : List UInt8 := dkwJ8_hashCode_4_0 ++ dktJ8_hashCode_4_1
theorem dksJ8_hashCode_4_0 : cJ8_hashCode_4.data.toList.drop 0 = dktJ8_hashCode_4_0 := by decide +kernel
theorem dksJ8_hashCode_4_1 : cJ8_hashCode_4.data.toList.drop 24 = dktJ8_hashCode_4_1 := dk_seg dksJ8_hashCode_4_0 24 rfl rfl
theorem dJ8_hashCode_4_0 : decode cJ8_hashCode_4 0 = .ok (.iload_n 2, 1) := dk_28 (dk_at dksJ8_hashCode_4_0 0 rfl rfl)
theorem dJ8_hashCode_4_1 : decode cJ8_hashCode_4 1 = .ok (.iload_n 3, 1) := dk_29 (dk_at dksJ8_hashCode_4_0 1 rfl rfl)
theorem dJ8_hashCode_4_2 : decode cJ8_hashCode_4 2 = .ok (.iadd, 1) := dk_96 (dk_at dksJ8_hashCode_4_0 2 rfl rfl)
theorem dJ8_hashCode_4_3 : decode cJ8_hashCode_4 3 = .ok (.istore 4, 2) := dk_54 4 (dk_at dksJ8_hashCode_4_0 3 rfl rfl)
theorem dJ8_hashCode_4_5 : decode cJ8_hashCode_4 5 = .ok (.iload_n 2, 1) := dk_28 (dk_at dksJ8_hashCode_4_0 5 rfl rfl)
theorem dJ8_hashCode_4_6 : decode cJ8_hashCode_4 6 = .ok (.istore 5, 2) := dk_54 5 (dk_at dksJ8_hashCode_4_0 6 rfl rfl)
theorem dJ8_hashCode_4_8 : decode cJ8_hashCode_4 8 = .ok (.iload 5, 2) := dk_21 5 (dk_at dksJ8_hashCode_4_0 8 rfl rfl)
theorem dJ8_hashCode_4_10 : decode cJ8_hashCode_4 10 = .ok (.iload 4, 2) := dk_21 4 (dk_at dksJ8_hashCode_4_0 10 rfl rfl)
theorem dJ8_hashCode_4_12 : decode cJ8_hashCode_4 12 = .ok (.if_icmp .ge 19, 3) := dk_162 0 19 (dk_at dksJ8_hashCode_4_0 12 rfl rfl)
theorem dJ8_hashCode_4_15 : decode cJ8_hashCode_4 15 = .ok (.bipush 31, 2) := dk_16 31 (dk_at dksJ8_hashCode_4_0 15 rfl rfl)
theorem dJ8_hashCode_4_17 : decode cJ8_hashCode_4 17 = .ok (.iload_n 0, 1) := dk_26 (dk_at dksJ8_hashCode_4_0 17 rfl rfl)
theorem dJ8_hashCode_4_18 : decode cJ8_hashCode_4 18 = .ok (.imul, 1) := dk_104 (dk_at dksJ8_hashCode_4_0 18 rfl rfl)
theorem dJ8_hashCode_4_19 : decode cJ8_hashCode_4 19 = .ok (.aload_n 1, 1) := dk_43 (dk_at dksJ8_hashCode_4_0 19 rfl rfl)
theorem dJ8_hashCode_4_20 : decode cJ8_hashCode_4 20 = .ok (.iload 5, 2) := dk_21 5 (dk_at dksJ8_hashCode_4_0 20 rfl rfl)
theorem dJ8_hashCode_4_22 : decode cJ8_hashCode_4 22 = .ok (.iaload, 1) := dk_46 (dk_at dksJ8_hashCode_4_0 22 rfl rfl)
theorem dJ8_hashCode_4_23 : decode cJ8_hashCode_4 23 = .ok (.iadd, 1) := dk_96 (dk_at dksJ8_hashCode_4_0 23 rfl rfl)
theorem dJ8_hashCode_4_24 : decode cJ8_hashCode_4 24 = .ok (.istore_n 0, 1) := dk_59 (dk_at dksJ8_hashCode_4_1 0 rfl rfl)
theorem dJ8_hashCode_4_25 : decode cJ8_hashCode_4 25 = .ok (.iinc 5 1, 3) := dk_132 5 1 (dk_at dksJ8_hashCode_4_1 1 rfl rfl)
theorem dJ8_hashCode_4_28 : decode cJ8_hashCode_4 28 = .ok (.goto (-20), 3) := dk_167 255 236 (dk_at dksJ8_hashCode_4_1 4 rfl rfl)
theorem dJ8_hashCode_4_31 : decode cJ8_hashCode_4 31 = .ok (.iload_n 0, 1) := dk_26 (dk_at dksJ8_hashCode_4_1 7 rfl rfl)
theorem dJ8_hashCode_4_32 : decode cJ8_hashCode_4 32 = .ok (.ireturn, 1) := dk_172 (dk_at dksJ8_hashCode_4_1 8 rfl rfl)
theorem q114 : (Jvm.Cond.initialized "jdk/internal/util/ArraysSupport") ∈ lw_all := lw_g (lw_at lw_m1 12 rfl) rfl
theorem q558 : (Jvm.Cond.static ({ cls := "jdk/internal/util/ArraysSupport", name := "newLength", desc := "(III)I" } : Jvm.MethodName)) ∈ lw_all := lw_g (lw_at lw_m2 216 rfl) rfl
theorem q559 : (Jvm.Cond.code ({ cls := "jdk/internal/util/ArraysSupport", name := "newLength", desc := "(III)I" } : Jvm.MethodName) prog_59_method_27_code (4 : Nat) (Option.some Jvm.ClassFile.FieldType.int)) ∈ lw_all := lw_g (lw_at lw_m2 217 rfl) rfl
theorem q560 : (Jvm.Cond.methodLink "jdk/internal/util/ArraysSupport" (194 : Nat) ({ cls := "java/lang/Math", name := "max", desc := "(II)I" } : Jvm.MethodName)) ∈ lw_all := lw_g (lw_at lw_m2 218 rfl) rfl
theorem q563 : (Jvm.Cond.constant "jdk/internal/util/ArraysSupport" (200 : Nat) (2147483639 : Int32)) ∈ lw_all := lw_g (lw_at lw_m2 221 rfl) rfl
theorem q564 : (Jvm.Cond.methodLink "jdk/internal/util/ArraysSupport" (201 : Nat) ({ cls := "jdk/internal/util/ArraysSupport", name := "hugeLength", desc := "(II)I" } : Jvm.MethodName)) ∈ lw_all := lw_g (lw_at lw_m2 222 rfl) rfl
theorem q565 : (Jvm.Cond.static ({ cls := "jdk/internal/util/ArraysSupport", name := "hugeLength", desc := "(II)I" } : Jvm.MethodName)) ∈ lw_all := lw_g (lw_at lw_m2 223 rfl) rfl
theorem q566 : (Jvm.Cond.code ({ cls := "jdk/internal/util/ArraysSupport", name := "hugeLength", desc := "(II)I" } : Jvm.MethodName) prog_59_method_28_code (3 : Nat) (Option.some Jvm.ClassFile.FieldType.int)) ∈ lw_all := lw_g (lw_at lw_m2 224 rfl) rfl
theorem q1802 : (Jvm.Cond.static ({ cls := "jdk/internal/util/ArraysSupport", name := "vectorizedHashCode", desc := "(Ljava/lang/Object;IIII)I" } : Jvm.MethodName)) ∈ lw_all := lw_g (lw_at lw_m8 20 rfl) rfl
theorem q1803 : (Jvm.Cond.code ({ cls := "jdk/internal/util/ArraysSupport", name := "vectorizedHashCode", desc := "(Ljava/lang/Object;IIII)I" } : Jvm.MethodName) prog_59_method_4_code (5 : Nat) (Option.some Jvm.ClassFile.FieldType.int)) ∈ lw_all := lw_g (lw_at lw_m8 21 rfl) rfl
theorem q1804 : (Jvm.Cond.classLink "jdk/internal/util/ArraysSupport" (60 : Nat) "[B") ∈ lw_all := lw_g (lw_at lw_m8 22 rfl) rfl
theorem q1805 : (Jvm.Cond.methodLink "jdk/internal/util/ArraysSupport" (62 : Nat) ({ cls := "jdk/internal/util/ArraysSupport", name := "signedHashCode", desc := "(I[BII)I" } : Jvm.MethodName)) ∈ lw_all := lw_g (lw_at lw_m8 23 rfl) rfl
theorem q1806 : (Jvm.Cond.static ({ cls := "jdk/internal/util/ArraysSupport", name := "signedHashCode", desc := "(I[BII)I" } : Jvm.MethodName)) ∈ lw_all := lw_g (lw_at lw_m8 24 rfl) rfl
theorem q1807 : (Jvm.Cond.code ({ cls := "jdk/internal/util/ArraysSupport", name := "signedHashCode", desc := "(I[BII)I" } : Jvm.MethodName) prog_59_method_5_code (6 : Nat) (Option.some Jvm.ClassFile.FieldType.int)) ∈ lw_all := lw_g (lw_at lw_m8 25 rfl) rfl
theorem q1808 : (Jvm.Cond.methodLink "jdk/internal/util/ArraysSupport" (66 : Nat) ({ cls := "jdk/internal/util/ArraysSupport", name := "utf16hashCode", desc := "(I[BII)I" } : Jvm.MethodName)) ∈ lw_all := lw_g (lw_at lw_m8 26 rfl) rfl
theorem q1809 : (Jvm.Cond.static ({ cls := "jdk/internal/util/ArraysSupport", name := "utf16hashCode", desc := "(I[BII)I" } : Jvm.MethodName)) ∈ lw_all := lw_g (lw_at lw_m8 27 rfl) rfl
theorem q1810 : (Jvm.Cond.code ({ cls := "jdk/internal/util/ArraysSupport", name := "utf16hashCode", desc := "(I[BII)I" } : Jvm.MethodName) prog_59_method_10_code (6 : Nat) (Option.some Jvm.ClassFile.FieldType.int)) ∈ lw_all := lw_g (lw_at lw_m8 28 rfl) rfl
theorem q1811 : (Jvm.Cond.fieldLink "jdk/internal/util/ArraysSupport" (106 : Nat) "jdk/internal/util/ArraysSupport" "JLA" "Ljdk/internal/access/JavaLangAccess;") ∈ lw_all := lw_g (lw_at lw_m8 29 rfl) rfl
theorem q1812 : (Jvm.Cond.laysStatic "jdk/internal/util/ArraysSupport" "JLA" "Ljdk/internal/access/JavaLangAccess;") ∈ lw_tbl := lw_at lw_m8 30 rfl
theorem q1813 : (Jvm.Cond.interfaceEntry "jdk/internal/util/ArraysSupport" (110 : Nat)) ∈ lw_tbl := lw_at lw_m8 31 rfl
theorem q1814 : (Jvm.Cond.methodLink "jdk/internal/util/ArraysSupport" (110 : Nat) ({ cls := "jdk/internal/access/JavaLangAccess", name := "getUTF16Char", desc := "([BI)C" } : Jvm.MethodName)) ∈ lw_all := lw_g (lw_at lw_m8 32 rfl) rfl
theorem q1824 : (Jvm.Cond.classLink "jdk/internal/util/ArraysSupport" (69 : Nat) "[C") ∈ lw_all := lw_g (lw_at lw_m8 42 rfl) rfl
theorem q1825 : (Jvm.Cond.methodLink "jdk/internal/util/ArraysSupport" (71 : Nat) ({ cls := "jdk/internal/util/ArraysSupport", name := "hashCode", desc := "(I[CII)I" } : Jvm.MethodName)) ∈ lw_all := lw_g (lw_at lw_m8 43 rfl) rfl
theorem q1826 : (Jvm.Cond.static ({ cls := "jdk/internal/util/ArraysSupport", name := "hashCode", desc := "(I[CII)I" } : Jvm.MethodName)) ∈ lw_all := lw_g (lw_at lw_m8 44 rfl) rfl
theorem q1827 : (Jvm.Cond.code ({ cls := "jdk/internal/util/ArraysSupport", name := "hashCode", desc := "(I[CII)I" } : Jvm.MethodName) prog_59_method_7_code (6 : Nat) (Option.some Jvm.ClassFile.FieldType.int)) ∈ lw_all := lw_g (lw_at lw_m8 45 rfl) rfl
theorem q1828 : (Jvm.Cond.methodLink "jdk/internal/util/ArraysSupport" (75 : Nat) ({ cls := "jdk/internal/util/ArraysSupport", name := "hashCode", desc := "(I[BII)I" } : Jvm.MethodName)) ∈ lw_all := lw_g (lw_at lw_m8 46 rfl) rfl
theorem q1829 : (Jvm.Cond.static ({ cls := "jdk/internal/util/ArraysSupport", name := "hashCode", desc := "(I[BII)I" } : Jvm.MethodName)) ∈ lw_all := lw_g (lw_at lw_m8 47 rfl) rfl
theorem q1830 : (Jvm.Cond.code ({ cls := "jdk/internal/util/ArraysSupport", name := "hashCode", desc := "(I[BII)I" } : Jvm.MethodName) prog_59_method_6_code (6 : Nat) (Option.some Jvm.ClassFile.FieldType.int)) ∈ lw_all := lw_g (lw_at lw_m8 48 rfl) rfl
theorem q1831 : (Jvm.Cond.classLink "jdk/internal/util/ArraysSupport" (77 : Nat) "[S") ∈ lw_all := lw_g (lw_at lw_m8 49 rfl) rfl
theorem q1832 : (Jvm.Cond.methodLink "jdk/internal/util/ArraysSupport" (79 : Nat) ({ cls := "jdk/internal/util/ArraysSupport", name := "hashCode", desc := "(I[SII)I" } : Jvm.MethodName)) ∈ lw_all := lw_g (lw_at lw_m8 50 rfl) rfl
theorem q1833 : (Jvm.Cond.static ({ cls := "jdk/internal/util/ArraysSupport", name := "hashCode", desc := "(I[SII)I" } : Jvm.MethodName)) ∈ lw_all := lw_g (lw_at lw_m8 51 rfl) rfl
theorem q1834 : (Jvm.Cond.code ({ cls := "jdk/internal/util/ArraysSupport", name := "hashCode", desc := "(I[SII)I" } : Jvm.MethodName) prog_59_method_8_code (6 : Nat) (Option.some Jvm.ClassFile.FieldType.int)) ∈ lw_all := lw_g (lw_at lw_m8 52 rfl) rfl
theorem q1835 : (Jvm.Cond.classLink "jdk/internal/util/ArraysSupport" (82 : Nat) "[I") ∈ lw_all := lw_g (lw_at lw_m8 53 rfl) rfl
theorem q1836 : (Jvm.Cond.methodLink "jdk/internal/util/ArraysSupport" (84 : Nat) ({ cls := "jdk/internal/util/ArraysSupport", name := "hashCode", desc := "(I[III)I" } : Jvm.MethodName)) ∈ lw_all := lw_g (lw_at lw_m8 54 rfl) rfl
theorem q1837 : (Jvm.Cond.static ({ cls := "jdk/internal/util/ArraysSupport", name := "hashCode", desc := "(I[III)I" } : Jvm.MethodName)) ∈ lw_all := lw_g (lw_at lw_m8 55 rfl) rfl
theorem q1838 : (Jvm.Cond.code ({ cls := "jdk/internal/util/ArraysSupport", name := "hashCode", desc := "(I[III)I" } : Jvm.MethodName) prog_59_method_9_code (6 : Nat) (Option.some Jvm.ClassFile.FieldType.int)) ∈ lw_all := lw_g (lw_at lw_m8 56 rfl) rfl

/-! java/lang/Math -/
set_option maxRecDepth 100000
def RJ9 : String := "java/lang/Math"
abbrev cJ9_addExact : ByteArray := prog_32_method_25_code
def yJ9_addExact : MethodName := ⟨RJ9, "addExact", "(JJ)J"⟩
def dkwJ9_addExact_1 : List UInt8 := [18, 116, 183, 0, 113, 191, 22, 4, 173]
abbrev dktJ9_addExact_1 : List UInt8 := dkwJ9_addExact_1 ++ []
def dkwJ9_addExact_0 : List UInt8 := [30, 32, 97, 55, 4, 30, 22, 4, 131, 32, 22, 4, 131, 127, 9, 148, 156, 0, 13, 187, 0, 109, 89]
abbrev dktJ9_addExact_0 : List UInt8 := dkwJ9_addExact_0 ++ dktJ9_addExact_1
theorem dksJ9_addExact_0 : cJ9_addExact.data.toList.drop 0 = dktJ9_addExact_0 := by decide +kernel
theorem dksJ9_addExact_1 : cJ9_addExact.data.toList.drop 23 = dktJ9_addExact_1 := dk_seg dksJ9_addExact_0 23 rfl rfl
theorem dJ9_addExact_0 : decode cJ9_addExact 0 = .ok (.lload_n 0, 1) := dk_30 (dk_at dksJ9_addExact_0 0 rfl rfl)
theorem dJ9_addExact_1 : decode cJ9_addExact 1 = .ok (.lload_n 2, 1) := dk_32 (dk_at dksJ9_addExact_0 1 rfl rfl)
theorem dJ9_addExact_2 : decode cJ9_addExact 2 = .ok (.ladd, 1) := dk_97 (dk_at dksJ9_addExact_0 2 rfl rfl)
theorem dJ9_addExact_3 : decode cJ9_addExact 3 = .ok (.lstore 4, 2) := dk_55 4 (dk_at dksJ9_addExact_0 3 rfl rfl)
theorem dJ9_addExact_5 : decode cJ9_addExact 5 = .ok (.lload_n 0, 1) := dk_30 (dk_at dksJ9_addExact_0 5 rfl rfl)
theorem dJ9_addExact_6 : decode cJ9_addExact 6 = .ok (.lload 4, 2) := dk_22 4 (dk_at dksJ9_addExact_0 6 rfl rfl)
theorem dJ9_addExact_8 : decode cJ9_addExact 8 = .ok (.lxor, 1) := dk_131 (dk_at dksJ9_addExact_0 8 rfl rfl)
theorem dJ9_addExact_9 : decode cJ9_addExact 9 = .ok (.lload_n 2, 1) := dk_32 (dk_at dksJ9_addExact_0 9 rfl rfl)
theorem dJ9_addExact_10 : decode cJ9_addExact 10 = .ok (.lload 4, 2) := dk_22 4 (dk_at dksJ9_addExact_0 10 rfl rfl)
theorem dJ9_addExact_12 : decode cJ9_addExact 12 = .ok (.lxor, 1) := dk_131 (dk_at dksJ9_addExact_0 12 rfl rfl)
theorem dJ9_addExact_13 : decode cJ9_addExact 13 = .ok (.land, 1) := dk_127 (dk_at dksJ9_addExact_0 13 rfl rfl)
theorem dJ9_addExact_14 : decode cJ9_addExact 14 = .ok (.lconst 0, 1) := dk_9 (dk_at dksJ9_addExact_0 14 rfl rfl)
theorem dJ9_addExact_15 : decode cJ9_addExact 15 = .ok (.lcmp, 1) := dk_148 (dk_at dksJ9_addExact_0 15 rfl rfl)
theorem dJ9_addExact_16 : decode cJ9_addExact 16 = .ok (.ifCond .ge 13, 3) := dk_156 0 13 (dk_at dksJ9_addExact_0 16 rfl rfl)
theorem dJ9_addExact_19 : decode cJ9_addExact 19 = .ok (.new 109, 3) := dk_187 0 109 (dk_at dksJ9_addExact_0 19 rfl rfl)
theorem dJ9_addExact_22 : decode cJ9_addExact 22 = .ok (.dup, 1) := dk_89 (dk_at dksJ9_addExact_0 22 rfl rfl)
theorem dJ9_addExact_23 : decode cJ9_addExact 23 = .ok (.ldc 116, 2) := dk_18 116 (dk_at dksJ9_addExact_1 0 rfl rfl)
theorem dJ9_addExact_25 : decode cJ9_addExact 25 = .ok (.invokespecial 113, 3) := dk_183 0 113 (dk_at dksJ9_addExact_1 2 rfl rfl)
theorem dJ9_addExact_28 : decode cJ9_addExact 28 = .ok (.athrow, 1) := dk_191 (dk_at dksJ9_addExact_1 5 rfl rfl)
theorem dJ9_addExact_29 : decode cJ9_addExact 29 = .ok (.lload 4, 2) := dk_22 4 (dk_at dksJ9_addExact_1 6 rfl rfl)
theorem dJ9_addExact_31 : decode cJ9_addExact 31 = .ok (.lreturn, 1) := dk_173 (dk_at dksJ9_addExact_1 8 rfl rfl)
abbrev cJ9_toIntExact : ByteArray := prog_32_method_43_code
def yJ9_toIntExact : MethodName := ⟨RJ9, "toIntExact", "(J)I"⟩
def dkwJ9_toIntExact_0 : List UInt8 := [30, 136, 133, 30, 148, 153, 0, 13, 187, 0, 109, 89, 18, 111, 183, 0, 113, 191, 30, 136, 172]
abbrev dktJ9_toIntExact_0 : List UInt8 := dkwJ9_toIntExact_0 ++ []
theorem dksJ9_toIntExact_0 : cJ9_toIntExact.data.toList.drop 0 = dktJ9_toIntExact_0 := by decide +kernel
theorem dJ9_toIntExact_0 : decode cJ9_toIntExact 0 = .ok (.lload_n 0, 1) := dk_30 (dk_at dksJ9_toIntExact_0 0 rfl rfl)
theorem dJ9_toIntExact_1 : decode cJ9_toIntExact 1 = .ok (.l2i, 1) := dk_136 (dk_at dksJ9_toIntExact_0 1 rfl rfl)
theorem dJ9_toIntExact_2 : decode cJ9_toIntExact 2 = .ok (.i2l, 1) := dk_133 (dk_at dksJ9_toIntExact_0 2 rfl rfl)
theorem dJ9_toIntExact_3 : decode cJ9_toIntExact 3 = .ok (.lload_n 0, 1) := dk_30 (dk_at dksJ9_toIntExact_0 3 rfl rfl)
theorem dJ9_toIntExact_4 : decode cJ9_toIntExact 4 = .ok (.lcmp, 1) := dk_148 (dk_at dksJ9_toIntExact_0 4 rfl rfl)
theorem dJ9_toIntExact_5 : decode cJ9_toIntExact 5 = .ok (.ifCond .eq 13, 3) := dk_153 0 13 (dk_at dksJ9_toIntExact_0 5 rfl rfl)
theorem dJ9_toIntExact_8 : decode cJ9_toIntExact 8 = .ok (.new 109, 3) := dk_187 0 109 (dk_at dksJ9_toIntExact_0 8 rfl rfl)
theorem dJ9_toIntExact_11 : decode cJ9_toIntExact 11 = .ok (.dup, 1) := dk_89 (dk_at dksJ9_toIntExact_0 11 rfl rfl)
theorem dJ9_toIntExact_12 : decode cJ9_toIntExact 12 = .ok (.ldc 111, 2) := dk_18 111 (dk_at dksJ9_toIntExact_0 12 rfl rfl)
theorem dJ9_toIntExact_14 : decode cJ9_toIntExact 14 = .ok (.invokespecial 113, 3) := dk_183 0 113 (dk_at dksJ9_toIntExact_0 14 rfl rfl)
theorem dJ9_toIntExact_17 : decode cJ9_toIntExact 17 = .ok (.athrow, 1) := dk_191 (dk_at dksJ9_toIntExact_0 17 rfl rfl)
theorem dJ9_toIntExact_18 : decode cJ9_toIntExact 18 = .ok (.lload_n 0, 1) := dk_30 (dk_at dksJ9_toIntExact_0 18 rfl rfl)
theorem dJ9_toIntExact_19 : decode cJ9_toIntExact 19 = .ok (.l2i, 1) := dk_136 (dk_at dksJ9_toIntExact_0 19 rfl rfl)
theorem dJ9_toIntExact_20 : decode cJ9_toIntExact 20 = .ok (.ireturn, 1) := dk_172 (dk_at dksJ9_toIntExact_0 20 rfl rfl)
abbrev cJ9_multiplyExact : ByteArray := prog_32_method_30_code
def yJ9_multiplyExact : MethodName := ⟨RJ9, "multiplyExact", "(JJ)J"⟩
def dkwJ9_multiplyExact_3 : List UInt8 := [191, 22, 4, 173]
abbrev dktJ9_multiplyExact_3 : List UInt8 := dkwJ9_multiplyExact_3 ++ []
def dkwJ9_multiplyExact_2 : List UInt8 := [20, 0, 128, 148, 154, 0, 21, 32, 20, 0, 130, 148, 154, 0, 13, 187, 0, 109, 89, 18, 116, 183, 0, 113]
abbrev dktJ9_multiplyExact_2 : List UInt8 := dkwJ9_multiplyExact_2 ++ dktJ9_multiplyExact_3
def dkwJ9_multiplyExact_1 : List UInt8 := [125, 9, 148, 153, 0, 44, 32, 9, 148, 153, 0, 12, 22, 4, 32, 109, 30, 148, 154, 0, 19, 30]
abbrev dktJ9_multiplyExact_1 : List UInt8 := dkwJ9_multiplyExact_1 ++ dktJ9_multiplyExact_2
def dkwJ9_multiplyExact_0 : List UInt8 := [30, 32, 105, 55, 4, 30, 184, 0, 122, 55, 6, 32, 184, 0, 122, 55, 8, 22, 6, 22, 8, 129, 16, 31]
abbrev dktJ9_multiplyExact_0 : List UInt8 := dkwJ9_multiplyExact_0 ++ dktJ9_multiplyExact_1
theorem dksJ9_multiplyExact_0 : cJ9_multiplyExact.data.toList.drop 0 = dktJ9_multiplyExact_0 := by decide +kernel
theorem dksJ9_multiplyExact_1 : cJ9_multiplyExact.data.toList.drop 24 = dktJ9_multiplyExact_1 := dk_seg dksJ9_multiplyExact_0 24 rfl rfl
theorem dksJ9_multiplyExact_2 : cJ9_multiplyExact.data.toList.drop 46 = dktJ9_multiplyExact_2 := dk_seg dksJ9_multiplyExact_1 22 rfl rfl
theorem dksJ9_multiplyExact_3 : cJ9_multiplyExact.data.toList.drop 70 = dktJ9_multiplyExact_3 := dk_seg dksJ9_multiplyExact_2 24 rfl rfl
theorem dJ9_multiplyExact_0 : decode cJ9_multiplyExact 0 = .ok (.lload_n 0, 1) := dk_30 (dk_at dksJ9_multiplyExact_0 0 rfl rfl)
theorem dJ9_multiplyExact_1 : decode cJ9_multiplyExact 1 = .ok (.lload_n 2, 1) := dk_32 (dk_at dksJ9_multiplyExact_0 1 rfl rfl)
theorem dJ9_multiplyExact_2 : decode cJ9_multiplyExact 2 = .ok (.lmul, 1) := dk_105 (dk_at dksJ9_multiplyExact_0 2 rfl rfl)
theorem dJ9_multiplyExact_3 : decode cJ9_multiplyExact 3 = .ok (.lstore 4, 2) := dk_55 4 (dk_at dksJ9_multiplyExact_0 3 rfl rfl)
theorem dJ9_multiplyExact_5 : decode cJ9_multiplyExact 5 = .ok (.lload_n 0, 1) := dk_30 (dk_at dksJ9_multiplyExact_0 5 rfl rfl)
theorem dJ9_multiplyExact_6 : decode cJ9_multiplyExact 6 = .ok (.invokestatic 122, 3) := dk_184 0 122 (dk_at dksJ9_multiplyExact_0 6 rfl rfl)
theorem dJ9_multiplyExact_9 : decode cJ9_multiplyExact 9 = .ok (.lstore 6, 2) := dk_55 6 (dk_at dksJ9_multiplyExact_0 9 rfl rfl)
theorem dJ9_multiplyExact_11 : decode cJ9_multiplyExact 11 = .ok (.lload_n 2, 1) := dk_32 (dk_at dksJ9_multiplyExact_0 11 rfl rfl)
theorem dJ9_multiplyExact_12 : decode cJ9_multiplyExact 12 = .ok (.invokestatic 122, 3) := dk_184 0 122 (dk_at dksJ9_multiplyExact_0 12 rfl rfl)
theorem dJ9_multiplyExact_15 : decode cJ9_multiplyExact 15 = .ok (.lstore 8, 2) := dk_55 8 (dk_at dksJ9_multiplyExact_0 15 rfl rfl)
theorem dJ9_multiplyExact_17 : decode cJ9_multiplyExact 17 = .ok (.lload 6, 2) := dk_22 6 (dk_at dksJ9_multiplyExact_0 17 rfl rfl)
theorem dJ9_multiplyExact_19 : decode cJ9_multiplyExact 19 = .ok (.lload 8, 2) := dk_22 8 (dk_at dksJ9_multiplyExact_0 19 rfl rfl)
theorem dJ9_multiplyExact_21 : decode cJ9_multiplyExact 21 = .ok (.lor, 1) := dk_129 (dk_at dksJ9_multiplyExact_0 21 rfl rfl)
theorem dJ9_multiplyExact_22 : decode cJ9_multiplyExact 22 = .ok (.bipush 31, 2) := dk_16 31 (dk_at dksJ9_multiplyExact_0 22 rfl rfl)
theorem dJ9_multiplyExact_24 : decode cJ9_multiplyExact 24 = .ok (.lushr, 1) := dk_125 (dk_at dksJ9_multiplyExact_1 0 rfl rfl)
theorem dJ9_multiplyExact_25 : decode cJ9_multiplyExact 25 = .ok (.lconst 0, 1) := dk_9 (dk_at dksJ9_multiplyExact_1 1 rfl rfl)
theorem dJ9_multiplyExact_26 : decode cJ9_multiplyExact 26 = .ok (.lcmp, 1) := dk_148 (dk_at dksJ9_multiplyExact_1 2 rfl rfl)
theorem dJ9_multiplyExact_27 : decode cJ9_multiplyExact 27 = .ok (.ifCond .eq 44, 3) := dk_153 0 44 (dk_at dksJ9_multiplyExact_1 3 rfl rfl)
theorem dJ9_multiplyExact_30 : decode cJ9_multiplyExact 30 = .ok (.lload_n 2, 1) := dk_32 (dk_at dksJ9_multiplyExact_1 6 rfl rfl)
theorem dJ9_multiplyExact_31 : decode cJ9_multiplyExact 31 = .ok (.lconst 0, 1) := dk_9 (dk_at dksJ9_multiplyExact_1 7 rfl rfl)
theorem dJ9_multiplyExact_32 : decode cJ9_multiplyExact 32 = .ok (.lcmp, 1) := dk_148 (dk_at dksJ9_multiplyExact_1 8 rfl rfl)
theorem dJ9_multiplyExact_33 : decode cJ9_multiplyExact 33 = .ok (.ifCond .eq 12, 3) := dk_153 0 12 (dk_at dksJ9_multiplyExact_1 9 rfl rfl)
theorem dJ9_multiplyExact_36 : decode cJ9_multiplyExact 36 = .ok (.lload 4, 2) := dk_22 4 (dk_at dksJ9_multiplyExact_1 12 rfl rfl)
theorem dJ9_multiplyExact_38 : decode cJ9_multiplyExact 38 = .ok (.lload_n 2, 1) := dk_32 (dk_at dksJ9_multiplyExact_1 14 rfl rfl)
theorem dJ9_multiplyExact_39 : decode cJ9_multiplyExact 39 = .ok (.ldiv, 1) := dk_109 (dk_at dksJ9_multiplyExact_1 15 rfl rfl)
theorem dJ9_multiplyExact_40 : decode cJ9_multiplyExact 40 = .ok (.lload_n 0, 1) := dk_30 (dk_at dksJ9_multiplyExact_1 16 rfl rfl)
theorem dJ9_multiplyExact_41 : decode cJ9_multiplyExact 41 = .ok (.lcmp, 1) := dk_148 (dk_at dksJ9_multiplyExact_1 17 rfl rfl)
theorem dJ9_multiplyExact_42 : decode cJ9_multiplyExact 42 = .ok (.ifCond .ne 19, 3) := dk_154 0 19 (dk_at dksJ9_multiplyExact_1 18 rfl rfl)
theorem dJ9_multiplyExact_45 : decode cJ9_multiplyExact 45 = .ok (.lload_n 0, 1) := dk_30 (dk_at dksJ9_multiplyExact_1 21 rfl rfl)
theorem dJ9_multiplyExact_46 : decode cJ9_multiplyExact 46 = .ok (.ldc2_w 128, 3) := dk_20 0 128 (dk_at dksJ9_multiplyExact_2 0 rfl rfl)
theorem dJ9_multiplyExact_49 : decode cJ9_multiplyExact 49 = .ok (.lcmp, 1) := dk_148 (dk_at dksJ9_multiplyExact_2 3 rfl rfl)
theorem dJ9_multiplyExact_50 : decode cJ9_multiplyExact 50 = .ok (.ifCond .ne 21, 3) := dk_154 0 21 (dk_at dksJ9_multiplyExact_2 4 rfl rfl)
theorem dJ9_multiplyExact_53 : decode cJ9_multiplyExact 53 = .ok (.lload_n 2, 1) := dk_32 (dk_at dksJ9_multiplyExact_2 7 rfl rfl)
theorem dJ9_multiplyExact_54 : decode cJ9_multiplyExact 54 = .ok (.ldc2_w 130, 3) := dk_20 0 130 (dk_at dksJ9_multiplyExact_2 8 rfl rfl)
theorem dJ9_multiplyExact_57 : decode cJ9_multiplyExact 57 = .ok (.lcmp, 1) := dk_148 (dk_at dksJ9_multiplyExact_2 11 rfl rfl)
theorem dJ9_multiplyExact_58 : decode cJ9_multiplyExact 58 = .ok (.ifCond .ne 13, 3) := dk_154 0 13 (dk_at dksJ9_multiplyExact_2 12 rfl rfl)
theorem dJ9_multiplyExact_61 : decode cJ9_multiplyExact 61 = .ok (.new 109, 3) := dk_187 0 109 (dk_at dksJ9_multiplyExact_2 15 rfl rfl)
theorem dJ9_multiplyExact_64 : decode cJ9_multiplyExact 64 = .ok (.dup, 1) := dk_89 (dk_at dksJ9_multiplyExact_2 18 rfl rfl)
theorem dJ9_multiplyExact_65 : decode cJ9_multiplyExact 65 = .ok (.ldc 116, 2) := dk_18 116 (dk_at dksJ9_multiplyExact_2 19 rfl rfl)
theorem dJ9_multiplyExact_67 : decode cJ9_multiplyExact 67 = .ok (.invokespecial 113, 3) := dk_183 0 113 (dk_at dksJ9_multiplyExact_2 21 rfl rfl)
theorem dJ9_multiplyExact_70 : decode cJ9_multiplyExact 70 = .ok (.athrow, 1) := dk_191 (dk_at dksJ9_multiplyExact_3 0 rfl rfl)
theorem dJ9_multiplyExact_71 : decode cJ9_multiplyExact 71 = .ok (.lload 4, 2) := dk_22 4 (dk_at dksJ9_multiplyExact_3 1 rfl rfl)
theorem dJ9_multiplyExact_73 : decode cJ9_multiplyExact 73 = .ok (.lreturn, 1) := dk_173 (dk_at dksJ9_multiplyExact_3 3 rfl rfl)
abbrev cJ9_abs : ByteArray := prog_32_method_61_code
def yJ9_abs : MethodName := ⟨RJ9, "abs", "(J)J"⟩
def dkwJ9_abs_0 : List UInt8 := [30, 9, 148, 156, 0, 8, 30, 117, 167, 0, 4, 30, 173]
abbrev dktJ9_abs_0 : List UInt8 := dkwJ9_abs_0 ++ []
theorem dksJ9_abs_0 : cJ9_abs.data.toList.drop 0 = dktJ9_abs_0 := by decide +kernel
theorem dJ9_abs_0 : decode cJ9_abs 0 = .ok (.lload_n 0, 1) := dk_30 (dk_at dksJ9_abs_0 0 rfl rfl)
theorem dJ9_abs_1 : decode cJ9_abs 1 = .ok (.lconst 0, 1) := dk_9 (dk_at dksJ9_abs_0 1 rfl rfl)
theorem dJ9_abs_2 : decode cJ9_abs 2 = .ok (.lcmp, 1) := dk_148 (dk_at dksJ9_abs_0 2 rfl rfl)
theorem dJ9_abs_3 : decode cJ9_abs 3 = .ok (.ifCond .ge 8, 3) := dk_156 0 8 (dk_at dksJ9_abs_0 3 rfl rfl)
theorem dJ9_abs_6 : decode cJ9_abs 6 = .ok (.lload_n 0, 1) := dk_30 (dk_at dksJ9_abs_0 6 rfl rfl)
theorem dJ9_abs_7 : decode cJ9_abs 7 = .ok (.lneg, 1) := dk_117 (dk_at dksJ9_abs_0 7 rfl rfl)
theorem dJ9_abs_8 : decode cJ9_abs 8 = .ok (.goto 4, 3) := dk_167 0 4 (dk_at dksJ9_abs_0 8 rfl rfl)
theorem dJ9_abs_11 : decode cJ9_abs 11 = .ok (.lload_n 0, 1) := dk_30 (dk_at dksJ9_abs_0 11 rfl rfl)
theorem dJ9_abs_12 : decode cJ9_abs 12 = .ok (.lreturn, 1) := dk_173 (dk_at dksJ9_abs_0 12 rfl rfl)
abbrev cJ9_floorMod : ByteArray := prog_32_method_52_code
def yJ9_floorMod : MethodName := ⟨RJ9, "floorMod", "(JJ)J"⟩
def dkwJ9_floorMod_1 : List UInt8 := [173, 22, 4, 173]
abbrev dktJ9_floorMod_1 : List UInt8 := dkwJ9_floorMod_1 ++ []
def dkwJ9_floorMod_0 : List UInt8 := [30, 32, 113, 55, 4, 30, 32, 131, 9, 148, 156, 0, 15, 22, 4, 9, 148, 153, 0, 8, 22, 4, 32, 97]
abbrev dktJ9_floorMod_0 : List UInt8 := dkwJ9_floorMod_0 ++ dktJ9_floorMod_1
theorem dksJ9_floorMod_0 : cJ9_floorMod.data.toList.drop 0 = dktJ9_floorMod_0 := by decide +kernel
theorem dksJ9_floorMod_1 : cJ9_floorMod.data.toList.drop 24 = dktJ9_floorMod_1 := dk_seg dksJ9_floorMod_0 24 rfl rfl
theorem dJ9_floorMod_0 : decode cJ9_floorMod 0 = .ok (.lload_n 0, 1) := dk_30 (dk_at dksJ9_floorMod_0 0 rfl rfl)
theorem dJ9_floorMod_1 : decode cJ9_floorMod 1 = .ok (.lload_n 2, 1) := dk_32 (dk_at dksJ9_floorMod_0 1 rfl rfl)
theorem dJ9_floorMod_2 : decode cJ9_floorMod 2 = .ok (.lrem, 1) := dk_113 (dk_at dksJ9_floorMod_0 2 rfl rfl)
theorem dJ9_floorMod_3 : decode cJ9_floorMod 3 = .ok (.lstore 4, 2) := dk_55 4 (dk_at dksJ9_floorMod_0 3 rfl rfl)
theorem dJ9_floorMod_5 : decode cJ9_floorMod 5 = .ok (.lload_n 0, 1) := dk_30 (dk_at dksJ9_floorMod_0 5 rfl rfl)
theorem dJ9_floorMod_6 : decode cJ9_floorMod 6 = .ok (.lload_n 2, 1) := dk_32 (dk_at dksJ9_floorMod_0 6 rfl rfl)
theorem dJ9_floorMod_7 : decode cJ9_floorMod 7 = .ok (.lxor, 1) := dk_131 (dk_at dksJ9_floorMod_0 7 rfl rfl)
theorem dJ9_floorMod_8 : decode cJ9_floorMod 8 = .ok (.lconst 0, 1) := dk_9 (dk_at dksJ9_floorMod_0 8 rfl rfl)
theorem dJ9_floorMod_9 : decode cJ9_floorMod 9 = .ok (.lcmp, 1) := dk_148 (dk_at dksJ9_floorMod_0 9 rfl rfl)
theorem dJ9_floorMod_10 : decode cJ9_floorMod 10 = .ok (.ifCond .ge 15, 3) := dk_156 0 15 (dk_at dksJ9_floorMod_0 10 rfl rfl)
theorem dJ9_floorMod_13 : decode cJ9_floorMod 13 = .ok (.lload 4, 2) := dk_22 4 (dk_at dksJ9_floorMod_0 13 rfl rfl)
theorem dJ9_floorMod_15 : decode cJ9_floorMod 15 = .ok (.lconst 0, 1) := dk_9 (dk_at dksJ9_floorMod_0 15 rfl rfl)
theorem dJ9_floorMod_16 : decode cJ9_floorMod 16 = .ok (.lcmp, 1) := dk_148 (dk_at dksJ9_floorMod_0 16 rfl rfl)
theorem dJ9_floorMod_17 : decode cJ9_floorMod 17 = .ok (.ifCond .eq 8, 3) := dk_153 0 8 (dk_at dksJ9_floorMod_0 17 rfl rfl)
theorem dJ9_floorMod_20 : decode cJ9_floorMod 20 = .ok (.lload 4, 2) := dk_22 4 (dk_at dksJ9_floorMod_0 20 rfl rfl)
theorem dJ9_floorMod_22 : decode cJ9_floorMod 22 = .ok (.lload_n 2, 1) := dk_32 (dk_at dksJ9_floorMod_0 22 rfl rfl)
theorem dJ9_floorMod_23 : decode cJ9_floorMod 23 = .ok (.ladd, 1) := dk_97 (dk_at dksJ9_floorMod_0 23 rfl rfl)
theorem dJ9_floorMod_24 : decode cJ9_floorMod 24 = .ok (.lreturn, 1) := dk_173 (dk_at dksJ9_floorMod_1 0 rfl rfl)
theorem dJ9_floorMod_25 : decode cJ9_floorMod 25 = .ok (.lload 4, 2) := dk_22 4 (dk_at dksJ9_floorMod_1 1 rfl rfl)
theorem dJ9_floorMod_27 : decode cJ9_floorMod 27 = .ok (.lreturn, 1) := dk_173 (dk_at dksJ9_floorMod_1 3 rfl rfl)
abbrev cJ9_floorMod_2 : ByteArray := prog_32_method_50_code
def yJ9_floorMod_2 : MethodName := ⟨RJ9, "floorMod", "(II)I"⟩
def dkwJ9_floorMod_2_0 : List UInt8 := [26, 27, 112, 61, 26, 27, 130, 156, 0, 11, 28, 153, 0, 7, 28, 27, 96, 172, 28, 172]
abbrev dktJ9_floorMod_2_0 : List UInt8 := dkwJ9_floorMod_2_0 ++ []
theorem dksJ9_floorMod_2_0 : cJ9_floorMod_2.data.toList.drop 0 = dktJ9_floorMod_2_0 := by decide +kernel
theorem dJ9_floorMod_2_0 : decode cJ9_floorMod_2 0 = .ok (.iload_n 0, 1) := dk_26 (dk_at dksJ9_floorMod_2_0 0 rfl rfl)
theorem dJ9_floorMod_2_1 : decode cJ9_floorMod_2 1 = .ok (.iload_n 1, 1) := dk_27 (dk_at dksJ9_floorMod_2_0 1 rfl rfl)
theorem dJ9_floorMod_2_2 : decode cJ9_floorMod_2 2 = .ok (.irem, 1) := dk_112 (dk_at dksJ9_floorMod_2_0 2 rfl rfl)
theorem dJ9_floorMod_2_3 : decode cJ9_floorMod_2 3 = .ok (.istore_n 2, 1) := dk_61 (dk_at dksJ9_floorMod_2_0 3 rfl rfl)
theorem dJ9_floorMod_2_4 : decode cJ9_floorMod_2 4 = .ok (.iload_n 0, 1) := dk_26 (dk_at dksJ9_floorMod_2_0 4 rfl rfl)
theorem dJ9_floorMod_2_5 : decode cJ9_floorMod_2 5 = .ok (.iload_n 1, 1) := dk_27 (dk_at dksJ9_floorMod_2_0 5 rfl rfl)
theorem dJ9_floorMod_2_6 : decode cJ9_floorMod_2 6 = .ok (.ixor, 1) := dk_130 (dk_at dksJ9_floorMod_2_0 6 rfl rfl)
theorem dJ9_floorMod_2_7 : decode cJ9_floorMod_2 7 = .ok (.ifCond .ge 11, 3) := dk_156 0 11 (dk_at dksJ9_floorMod_2_0 7 rfl rfl)
theorem dJ9_floorMod_2_10 : decode cJ9_floorMod_2 10 = .ok (.iload_n 2, 1) := dk_28 (dk_at dksJ9_floorMod_2_0 10 rfl rfl)
theorem dJ9_floorMod_2_11 : decode cJ9_floorMod_2 11 = .ok (.ifCond .eq 7, 3) := dk_153 0 7 (dk_at dksJ9_floorMod_2_0 11 rfl rfl)
theorem dJ9_floorMod_2_14 : decode cJ9_floorMod_2 14 = .ok (.iload_n 2, 1) := dk_28 (dk_at dksJ9_floorMod_2_0 14 rfl rfl)
theorem dJ9_floorMod_2_15 : decode cJ9_floorMod_2 15 = .ok (.iload_n 1, 1) := dk_27 (dk_at dksJ9_floorMod_2_0 15 rfl rfl)
theorem dJ9_floorMod_2_16 : decode cJ9_floorMod_2 16 = .ok (.iadd, 1) := dk_96 (dk_at dksJ9_floorMod_2_0 16 rfl rfl)
theorem dJ9_floorMod_2_17 : decode cJ9_floorMod_2 17 = .ok (.ireturn, 1) := dk_172 (dk_at dksJ9_floorMod_2_0 17 rfl rfl)
theorem dJ9_floorMod_2_18 : decode cJ9_floorMod_2 18 = .ok (.iload_n 2, 1) := dk_28 (dk_at dksJ9_floorMod_2_0 18 rfl rfl)
theorem dJ9_floorMod_2_19 : decode cJ9_floorMod_2 19 = .ok (.ireturn, 1) := dk_172 (dk_at dksJ9_floorMod_2_0 19 rfl rfl)
abbrev cJ9_max : ByteArray := prog_32_method_65_code
def yJ9_max : MethodName := ⟨RJ9, "max", "(II)I"⟩
def dkwJ9_max_0 : List UInt8 := [26, 27, 161, 0, 7, 26, 167, 0, 4, 27, 172]
abbrev dktJ9_max_0 : List UInt8 := dkwJ9_max_0 ++ []
theorem dksJ9_max_0 : cJ9_max.data.toList.drop 0 = dktJ9_max_0 := by decide +kernel
theorem dJ9_max_0 : decode cJ9_max 0 = .ok (.iload_n 0, 1) := dk_26 (dk_at dksJ9_max_0 0 rfl rfl)
theorem dJ9_max_1 : decode cJ9_max 1 = .ok (.iload_n 1, 1) := dk_27 (dk_at dksJ9_max_0 1 rfl rfl)
theorem dJ9_max_2 : decode cJ9_max 2 = .ok (.if_icmp .lt 7, 3) := dk_161 0 7 (dk_at dksJ9_max_0 2 rfl rfl)
theorem dJ9_max_5 : decode cJ9_max 5 = .ok (.iload_n 0, 1) := dk_26 (dk_at dksJ9_max_0 5 rfl rfl)
theorem dJ9_max_6 : decode cJ9_max 6 = .ok (.goto 4, 3) := dk_167 0 4 (dk_at dksJ9_max_0 6 rfl rfl)
theorem dJ9_max_9 : decode cJ9_max 9 = .ok (.iload_n 1, 1) := dk_27 (dk_at dksJ9_max_0 9 rfl rfl)
theorem dJ9_max_10 : decode cJ9_max 10 = .ok (.ireturn, 1) := dk_172 (dk_at dksJ9_max_0 10 rfl rfl)
abbrev cJ9_min : ByteArray := prog_32_method_69_code
def yJ9_min : MethodName := ⟨RJ9, "min", "(II)I"⟩
def dkwJ9_min_0 : List UInt8 := [26, 27, 163, 0, 7, 26, 167, 0, 4, 27, 172]
abbrev dktJ9_min_0 : List UInt8 := dkwJ9_min_0 ++ []
theorem dksJ9_min_0 : cJ9_min.data.toList.drop 0 = dktJ9_min_0 := by decide +kernel
theorem dJ9_min_0 : decode cJ9_min 0 = .ok (.iload_n 0, 1) := dk_26 (dk_at dksJ9_min_0 0 rfl rfl)
theorem dJ9_min_1 : decode cJ9_min 1 = .ok (.iload_n 1, 1) := dk_27 (dk_at dksJ9_min_0 1 rfl rfl)
theorem dJ9_min_2 : decode cJ9_min 2 = .ok (.if_icmp .gt 7, 3) := dk_163 0 7 (dk_at dksJ9_min_0 2 rfl rfl)
theorem dJ9_min_5 : decode cJ9_min 5 = .ok (.iload_n 0, 1) := dk_26 (dk_at dksJ9_min_0 5 rfl rfl)
theorem dJ9_min_6 : decode cJ9_min 6 = .ok (.goto 4, 3) := dk_167 0 4 (dk_at dksJ9_min_0 6 rfl rfl)
theorem dJ9_min_9 : decode cJ9_min 9 = .ok (.iload_n 1, 1) := dk_27 (dk_at dksJ9_min_0 9 rfl rfl)
theorem dJ9_min_10 : decode cJ9_min 10 = .ok (.ireturn, 1) := dk_172 (dk_at dksJ9_min_0 10 rfl rfl)
abbrev cJ9_floorDiv : ByteArray := prog_32_method_47_code
def yJ9_floorDiv : MethodName := ⟨RJ9, "floorDiv", "(II)I"⟩
def dkwJ9_floorDiv_0 : List UInt8 := [26, 27, 108, 61, 26, 27, 130, 156, 0, 14, 28, 27, 104, 26, 159, 0, 7, 28, 4, 100, 172, 28, 172]
abbrev dktJ9_floorDiv_0 : List UInt8 := dkwJ9_floorDiv_0 ++ []
theorem dksJ9_floorDiv_0 : cJ9_floorDiv.data.toList.drop 0 = dktJ9_floorDiv_0 := by decide +kernel
theorem dJ9_floorDiv_0 : decode cJ9_floorDiv 0 = .ok (.iload_n 0, 1) := dk_26 (dk_at dksJ9_floorDiv_0 0 rfl rfl)
theorem dJ9_floorDiv_1 : decode cJ9_floorDiv 1 = .ok (.iload_n 1, 1) := dk_27 (dk_at dksJ9_floorDiv_0 1 rfl rfl)
theorem dJ9_floorDiv_2 : decode cJ9_floorDiv 2 = .ok (.idiv, 1) := dk_108 (dk_at dksJ9_floorDiv_0 2 rfl rfl)
theorem dJ9_floorDiv_3 : decode cJ9_floorDiv 3 = .ok (.istore_n 2, 1) := dk_61 (dk_at dksJ9_floorDiv_0 3 rfl rfl)
theorem dJ9_floorDiv_4 : decode cJ9_floorDiv 4 = .ok (.iload_n 0, 1) := dk_26 (dk_at dksJ9_floorDiv_0 4 rfl rfl)
theorem dJ9_floorDiv_5 : decode cJ9_floorDiv 5 = .ok (.iload_n 1, 1) := dk_27 (dk_at dksJ9_floorDiv_0 5 rfl rfl)
theorem dJ9_floorDiv_6 : decode cJ9_floorDiv 6 = .ok (.ixor, 1) := dk_130 (dk_at dksJ9_floorDiv_0 6 rfl rfl)
theorem dJ9_floorDiv_7 : decode cJ9_floorDiv 7 = .ok (.ifCond .ge 14, 3) := dk_156 0 14 (dk_at dksJ9_floorDiv_0 7 rfl rfl)
theorem dJ9_floorDiv_10 : decode cJ9_floorDiv 10 = .ok (.iload_n 2, 1) := dk_28 (dk_at dksJ9_floorDiv_0 10 rfl rfl)
theorem dJ9_floorDiv_11 : decode cJ9_floorDiv 11 = .ok (.iload_n 1, 1) := dk_27 (dk_at dksJ9_floorDiv_0 11 rfl rfl)
theorem dJ9_floorDiv_12 : decode cJ9_floorDiv 12 = .ok (.imul, 1) := dk_104 (dk_at dksJ9_floorDiv_0 12 rfl rfl)
theorem dJ9_floorDiv_13 : decode cJ9_floorDiv 13 = .ok (.iload_n 0, 1) := dk_26 (dk_at dksJ9_floorDiv_0 13 rfl rfl)
theorem dJ9_floorDiv_14 : decode cJ9_floorDiv 14 = .ok (.if_icmp .eq 7, 3) := dk_159 0 7 (dk_at dksJ9_floorDiv_0 14 rfl rfl)
theorem dJ9_floorDiv_17 : decode cJ9_floorDiv 17 = .ok (.iload_n 2, 1) := dk_28 (dk_at dksJ9_floorDiv_0 17 rfl rfl)
theorem dJ9_floorDiv_18 : decode cJ9_floorDiv 18 = .ok (.iconst 1, 1) := dk_4 (dk_at dksJ9_floorDiv_0 18 rfl rfl)
theorem dJ9_floorDiv_19 : decode cJ9_floorDiv 19 = .ok (.isub, 1) := dk_100 (dk_at dksJ9_floorDiv_0 19 rfl rfl)
theorem dJ9_floorDiv_20 : decode cJ9_floorDiv 20 = .ok (.ireturn, 1) := dk_172 (dk_at dksJ9_floorDiv_0 20 rfl rfl)
theorem dJ9_floorDiv_21 : decode cJ9_floorDiv 21 = .ok (.iload_n 2, 1) := dk_28 (dk_at dksJ9_floorDiv_0 21 rfl rfl)
theorem dJ9_floorDiv_22 : decode cJ9_floorDiv 22 = .ok (.ireturn, 1) := dk_172 (dk_at dksJ9_floorDiv_0 22 rfl rfl)
theorem q115 : (Jvm.Cond.initialized "java/lang/Math") ∈ lw_all := lw_g (lw_at lw_m1 13 rfl) rfl
theorem q379 : (Jvm.Cond.static ({ cls := "java/lang/Math", name := "addExact", desc := "(JJ)J" } : Jvm.MethodName)) ∈ lw_all := lw_g (lw_at lw_m2 37 rfl) rfl
theorem q380 : (Jvm.Cond.code ({ cls := "java/lang/Math", name := "addExact", desc := "(JJ)J" } : Jvm.MethodName) prog_32_method_25_code (6 : Nat) (Option.some Jvm.ClassFile.FieldType.long)) ∈ lw_all := lw_g (lw_at lw_m2 38 rfl) rfl
theorem q381 : (Jvm.Cond.classLink "java/lang/Math" (109 : Nat) "java/lang/ArithmeticException") ∈ lw_all := lw_g (lw_at lw_m2 39 rfl) rfl
theorem q390 : (Jvm.Cond.stringRef "java/lang/Math" (116 : Nat) "long overflow") ∈ lw_tbl := lw_at lw_m2 48 rfl
theorem q391 : (Jvm.Cond.methodLink "java/lang/Math" (113 : Nat) ({ cls := "java/lang/ArithmeticException", name := "<init>", desc := "(Ljava/lang/String;)V" } : Jvm.MethodName)) ∈ lw_all := lw_g (lw_at lw_m2 49 rfl) rfl
theorem q416 : (Jvm.Cond.static ({ cls := "java/lang/Math", name := "toIntExact", desc := "(J)I" } : Jvm.MethodName)) ∈ lw_all := lw_g (lw_at lw_m2 74 rfl) rfl
theorem q417 : (Jvm.Cond.code ({ cls := "java/lang/Math", name := "toIntExact", desc := "(J)I" } : Jvm.MethodName) prog_32_method_43_code (2 : Nat) (Option.some Jvm.ClassFile.FieldType.int)) ∈ lw_all := lw_g (lw_at lw_m2 75 rfl) rfl
theorem q418 : (Jvm.Cond.stringRef "java/lang/Math" (111 : Nat) "integer overflow") ∈ lw_tbl := lw_at lw_m2 76 rfl
theorem q428 : (Jvm.Cond.static ({ cls := "java/lang/Math", name := "multiplyExact", desc := "(JJ)J" } : Jvm.MethodName)) ∈ lw_all := lw_g (lw_at lw_m2 86 rfl) rfl
theorem q429 : (Jvm.Cond.code ({ cls := "java/lang/Math", name := "multiplyExact", desc := "(JJ)J" } : Jvm.MethodName) prog_32_method_30_code (10 : Nat) (Option.some Jvm.ClassFile.FieldType.long)) ∈ lw_all := lw_g (lw_at lw_m2 87 rfl) rfl
theorem q430 : (Jvm.Cond.methodLink "java/lang/Math" (122 : Nat) ({ cls := "java/lang/Math", name := "abs", desc := "(J)J" } : Jvm.MethodName)) ∈ lw_all := lw_g (lw_at lw_m2 88 rfl) rfl
theorem q431 : (Jvm.Cond.static ({ cls := "java/lang/Math", name := "abs", desc := "(J)J" } : Jvm.MethodName)) ∈ lw_all := lw_g (lw_at lw_m2 89 rfl) rfl
theorem q432 : (Jvm.Cond.code ({ cls := "java/lang/Math", name := "abs", desc := "(J)J" } : Jvm.MethodName) prog_32_method_61_code (2 : Nat) (Option.some Jvm.ClassFile.FieldType.long)) ∈ lw_all := lw_g (lw_at lw_m2 90 rfl) rfl
theorem q433 : (Jvm.Cond.constantLong "java/lang/Math" (128 : Nat) (-9223372036854775808 : Int64)) ∈ lw_all := lw_g (lw_at lw_m2 91 rfl) rfl
theorem q434 : (Jvm.Cond.constantLong "java/lang/Math" (130 : Nat) (-1 : Int64)) ∈ lw_all := lw_g (lw_at lw_m2 92 rfl) rfl
theorem q444 : (Jvm.Cond.static ({ cls := "java/lang/Math", name := "floorMod", desc := "(JJ)J" } : Jvm.MethodName)) ∈ lw_all := lw_g (lw_at lw_m2 102 rfl) rfl
theorem q445 : (Jvm.Cond.code ({ cls := "java/lang/Math", name := "floorMod", desc := "(JJ)J" } : Jvm.MethodName) prog_32_method_52_code (6 : Nat) (Option.some Jvm.ClassFile.FieldType.long)) ∈ lw_all := lw_g (lw_at lw_m2 103 rfl) rfl
theorem q470 : (Jvm.Cond.static ({ cls := "java/lang/Math", name := "floorMod", desc := "(II)I" } : Jvm.MethodName)) ∈ lw_all := lw_g (lw_at lw_m2 128 rfl) rfl
theorem q471 : (Jvm.Cond.code ({ cls := "java/lang/Math", name := "floorMod", desc := "(II)I" } : Jvm.MethodName) prog_32_method_50_code (3 : Nat) (Option.some Jvm.ClassFile.FieldType.int)) ∈ lw_all := lw_g (lw_at lw_m2 129 rfl) rfl
theorem q561 : (Jvm.Cond.static ({ cls := "java/lang/Math", name := "max", desc := "(II)I" } : Jvm.MethodName)) ∈ lw_all := lw_g (lw_at lw_m2 219 rfl) rfl
theorem q562 : (Jvm.Cond.code ({ cls := "java/lang/Math", name := "max", desc := "(II)I" } : Jvm.MethodName) prog_32_method_65_code (2 : Nat) (Option.some Jvm.ClassFile.FieldType.int)) ∈ lw_all := lw_g (lw_at lw_m2 220 rfl) rfl
theorem q607 : (Jvm.Cond.static ({ cls := "java/lang/Math", name := "min", desc := "(II)I" } : Jvm.MethodName)) ∈ lw_all := lw_g (lw_at lw_m3 25 rfl) rfl
theorem q608 : (Jvm.Cond.code ({ cls := "java/lang/Math", name := "min", desc := "(II)I" } : Jvm.MethodName) prog_32_method_69_code (2 : Nat) (Option.some Jvm.ClassFile.FieldType.int)) ∈ lw_all := lw_g (lw_at lw_m3 26 rfl) rfl
theorem q1348 : (Jvm.Cond.static ({ cls := "java/lang/Math", name := "floorDiv", desc := "(II)I" } : Jvm.MethodName)) ∈ lw_all := lw_g (lw_at lw_m6 46 rfl) rfl
theorem q1349 : (Jvm.Cond.code ({ cls := "java/lang/Math", name := "floorDiv", desc := "(II)I" } : Jvm.MethodName) prog_32_method_47_code (3 : Nat) (Option.some Jvm.ClassFile.FieldType.int)) ∈ lw_all := lw_g (lw_at lw_m6 47 rfl) rfl

/-! java/util/Arrays -/
set_option maxRecDepth 100000
def RJ10 : String := "java/util/Arrays"
abbrev cJ10_copyOf : ByteArray := prog_51_method_119_code
def yJ10_copyOf : MethodName := ⟨RJ10, "copyOf", "([Ljava/lang/Object;I)[Ljava/lang/Object;"⟩
def dkwJ10_copyOf_0 : List UInt8 := [42, 27, 42, 182, 0, 86, 184, 1, 44, 176]
abbrev dktJ10_copyOf_0 : List UInt8 := dkwJ10_copyOf_0 ++ []
theorem dksJ10_copyOf_0 : cJ10_copyOf.data.toList.drop 0 = dktJ10_copyOf_0 := by decide +kernel
theorem dJ10_copyOf_0 : decode cJ10_copyOf 0 = .ok (.aload_n 0, 1) := dk_42 (dk_at dksJ10_copyOf_0 0 rfl rfl)
theorem dJ10_copyOf_1 : decode cJ10_copyOf 1 = .ok (.iload_n 1, 1) := dk_27 (dk_at dksJ10_copyOf_0 1 rfl rfl)
theorem dJ10_copyOf_2 : decode cJ10_copyOf 2 = .ok (.aload_n 0, 1) := dk_42 (dk_at dksJ10_copyOf_0 2 rfl rfl)
theorem dJ10_copyOf_3 : decode cJ10_copyOf 3 = .ok (.invokevirtual 86, 3) := dk_182 0 86 (dk_at dksJ10_copyOf_0 3 rfl rfl)
theorem dJ10_copyOf_6 : decode cJ10_copyOf 6 = .ok (.invokestatic 300, 3) := dk_184 1 44 (dk_at dksJ10_copyOf_0 6 rfl rfl)
theorem dJ10_copyOf_9 : decode cJ10_copyOf 9 = .ok (.areturn, 1) := dk_176 (dk_at dksJ10_copyOf_0 9 rfl rfl)
abbrev cJ10_copyOf_2 : ByteArray := prog_51_method_120_code
def yJ10_copyOf_2 : MethodName := ⟨RJ10, "copyOf", "([Ljava/lang/Object;ILjava/lang/Class;)[Ljava/lang/Object;"⟩
def dkwJ10_copyOf_2_1 : List UInt8 := [78, 42, 3, 45, 3, 42, 190, 27, 184, 1, 48, 184, 0, 150, 45, 176]
abbrev dktJ10_copyOf_2_1 : List UInt8 := dkwJ10_copyOf_2_1 ++ []
def dkwJ10_copyOf_2_0 : List UInt8 := [44, 18, 110, 166, 0, 10, 27, 189, 0, 2, 167, 0, 14, 44, 182, 0, 90, 27, 184, 0, 95, 192, 0, 110]
abbrev dktJ10_copyOf_2_0 : List UInt8 := dkwJ10_copyOf_2_0 ++ dktJ10_copyOf_2_1
theorem dksJ10_copyOf_2_0 : cJ10_copyOf_2.data.toList.drop 0 = dktJ10_copyOf_2_0 := by decide +kernel
theorem dksJ10_copyOf_2_1 : cJ10_copyOf_2.data.toList.drop 24 = dktJ10_copyOf_2_1 := dk_seg dksJ10_copyOf_2_0 24 rfl rfl
theorem dJ10_copyOf_2_0 : decode cJ10_copyOf_2 0 = .ok (.aload_n 2, 1) := dk_44 (dk_at dksJ10_copyOf_2_0 0 rfl rfl)
theorem dJ10_copyOf_2_1 : decode cJ10_copyOf_2 1 = .ok (.ldc 110, 2) := dk_18 110 (dk_at dksJ10_copyOf_2_0 1 rfl rfl)
theorem dJ10_copyOf_2_3 : decode cJ10_copyOf_2 3 = .ok (.if_acmp .ne 10, 3) := dk_166 0 10 (dk_at dksJ10_copyOf_2_0 3 rfl rfl)
theorem dJ10_copyOf_2_6 : decode cJ10_copyOf_2 6 = .ok (.iload_n 1, 1) := dk_27 (dk_at dksJ10_copyOf_2_0 6 rfl rfl)
theorem dJ10_copyOf_2_7 : decode cJ10_copyOf_2 7 = .ok (.anewarray 2, 3) := dk_189 0 2 (dk_at dksJ10_copyOf_2_0 7 rfl rfl)
theorem dJ10_copyOf_2_10 : decode cJ10_copyOf_2 10 = .ok (.goto 14, 3) := dk_167 0 14 (dk_at dksJ10_copyOf_2_0 10 rfl rfl)
theorem dJ10_copyOf_2_13 : decode cJ10_copyOf_2 13 = .ok (.aload_n 2, 1) := dk_44 (dk_at dksJ10_copyOf_2_0 13 rfl rfl)
theorem dJ10_copyOf_2_14 : decode cJ10_copyOf_2 14 = .ok (.invokevirtual 90, 3) := dk_182 0 90 (dk_at dksJ10_copyOf_2_0 14 rfl rfl)
theorem dJ10_copyOf_2_17 : decode cJ10_copyOf_2 17 = .ok (.iload_n 1, 1) := dk_27 (dk_at dksJ10_copyOf_2_0 17 rfl rfl)
theorem dJ10_copyOf_2_18 : decode cJ10_copyOf_2 18 = .ok (.invokestatic 95, 3) := dk_184 0 95 (dk_at dksJ10_copyOf_2_0 18 rfl rfl)
theorem dJ10_copyOf_2_21 : decode cJ10_copyOf_2 21 = .ok (.checkcast 110, 3) := dk_192 0 110 (dk_at dksJ10_copyOf_2_0 21 rfl rfl)
theorem dJ10_copyOf_2_24 : decode cJ10_copyOf_2 24 = .ok (.astore_n 3, 1) := dk_78 (dk_at dksJ10_copyOf_2_1 0 rfl rfl)
theorem dJ10_copyOf_2_25 : decode cJ10_copyOf_2 25 = .ok (.aload_n 0, 1) := dk_42 (dk_at dksJ10_copyOf_2_1 1 rfl rfl)
theorem dJ10_copyOf_2_26 : decode cJ10_copyOf_2 26 = .ok (.iconst 0, 1) := dk_3 (dk_at dksJ10_copyOf_2_1 2 rfl rfl)
theorem dJ10_copyOf_2_27 : decode cJ10_copyOf_2 27 = .ok (.aload_n 3, 1) := dk_45 (dk_at dksJ10_copyOf_2_1 3 rfl rfl)
theorem dJ10_copyOf_2_28 : decode cJ10_copyOf_2 28 = .ok (.iconst 0, 1) := dk_3 (dk_at dksJ10_copyOf_2_1 4 rfl rfl)
theorem dJ10_copyOf_2_29 : decode cJ10_copyOf_2 29 = .ok (.aload_n 0, 1) := dk_42 (dk_at dksJ10_copyOf_2_1 5 rfl rfl)
theorem dJ10_copyOf_2_30 : decode cJ10_copyOf_2 30 = .ok (.arraylength, 1) := dk_190 (dk_at dksJ10_copyOf_2_1 6 rfl rfl)
theorem dJ10_copyOf_2_31 : decode cJ10_copyOf_2 31 = .ok (.iload_n 1, 1) := dk_27 (dk_at dksJ10_copyOf_2_1 7 rfl rfl)
theorem dJ10_copyOf_2_32 : decode cJ10_copyOf_2 32 = .ok (.invokestatic 304, 3) := dk_184 1 48 (dk_at dksJ10_copyOf_2_1 8 rfl rfl)
theorem dJ10_copyOf_2_35 : decode cJ10_copyOf_2 35 = .ok (.invokestatic 150, 3) := dk_184 0 150 (dk_at dksJ10_copyOf_2_1 11 rfl rfl)
theorem dJ10_copyOf_2_38 : decode cJ10_copyOf_2 38 = .ok (.aload_n 3, 1) := dk_45 (dk_at dksJ10_copyOf_2_1 14 rfl rfl)
theorem dJ10_copyOf_2_39 : decode cJ10_copyOf_2 39 = .ok (.areturn, 1) := dk_176 (dk_at dksJ10_copyOf_2_1 15 rfl rfl)
abbrev cJ10_copyOf_3 : ByteArray := prog_51_method_121_code
def yJ10_copyOf_3 : MethodName := ⟨RJ10, "copyOf", "([BI)[B"⟩
def dkwJ10_copyOf_3_1 : List UInt8 := [27, 184, 1, 48, 184, 0, 150, 44, 176]
abbrev dktJ10_copyOf_3_1 : List UInt8 := dkwJ10_copyOf_3_1 ++ []
def dkwJ10_copyOf_3_0 : List UInt8 := [27, 42, 190, 160, 0, 11, 42, 182, 1, 54, 192, 1, 55, 176, 27, 188, 8, 77, 42, 3, 44, 3, 42, 190]
abbrev dktJ10_copyOf_3_0 : List UInt8 := dkwJ10_copyOf_3_0 ++ dktJ10_copyOf_3_1
theorem dksJ10_copyOf_3_0 : cJ10_copyOf_3.data.toList.drop 0 = dktJ10_copyOf_3_0 := by decide +kernel
theorem dksJ10_copyOf_3_1 : cJ10_copyOf_3.data.toList.drop 24 = dktJ10_copyOf_3_1 := dk_seg dksJ10_copyOf_3_0 24 rfl rfl
theorem dJ10_copyOf_3_0 : decode cJ10_copyOf_3 0 = .ok (.iload_n 1, 1) := dk_27 (dk_at dksJ10_copyOf_3_0 0 rfl rfl)
theorem dJ10_copyOf_3_1 : decode cJ10_copyOf_3 1 = .ok (.aload_n 0, 1) := dk_42 (dk_at dksJ10_copyOf_3_0 1 rfl rfl)
theorem dJ10_copyOf_3_2 : decode cJ10_copyOf_3 2 = .ok (.arraylength, 1) := dk_190 (dk_at dksJ10_copyOf_3_0 2 rfl rfl)
theorem dJ10_copyOf_3_3 : decode cJ10_copyOf_3 3 = .ok (.if_icmp .ne 11, 3) := dk_160 0 11 (dk_at dksJ10_copyOf_3_0 3 rfl rfl)
theorem dJ10_copyOf_3_6 : decode cJ10_copyOf_3 6 = .ok (.aload_n 0, 1) := dk_42 (dk_at dksJ10_copyOf_3_0 6 rfl rfl)
theorem dJ10_copyOf_3_7 : decode cJ10_copyOf_3 7 = .ok (.invokevirtual 310, 3) := dk_182 1 54 (dk_at dksJ10_copyOf_3_0 7 rfl rfl)
theorem dJ10_copyOf_3_10 : decode cJ10_copyOf_3 10 = .ok (.checkcast 311, 3) := dk_192 1 55 (dk_at dksJ10_copyOf_3_0 10 rfl rfl)
theorem dJ10_copyOf_3_13 : decode cJ10_copyOf_3 13 = .ok (.areturn, 1) := dk_176 (dk_at dksJ10_copyOf_3_0 13 rfl rfl)
theorem dJ10_copyOf_3_14 : decode cJ10_copyOf_3 14 = .ok (.iload_n 1, 1) := dk_27 (dk_at dksJ10_copyOf_3_0 14 rfl rfl)
theorem dJ10_copyOf_3_15 : decode cJ10_copyOf_3 15 = .ok (.newarray .byte, 2) := dk_188_8 (dk_at dksJ10_copyOf_3_0 15 rfl rfl)
theorem dJ10_copyOf_3_17 : decode cJ10_copyOf_3 17 = .ok (.astore_n 2, 1) := dk_77 (dk_at dksJ10_copyOf_3_0 17 rfl rfl)
theorem dJ10_copyOf_3_18 : decode cJ10_copyOf_3 18 = .ok (.aload_n 0, 1) := dk_42 (dk_at dksJ10_copyOf_3_0 18 rfl rfl)
theorem dJ10_copyOf_3_19 : decode cJ10_copyOf_3 19 = .ok (.iconst 0, 1) := dk_3 (dk_at dksJ10_copyOf_3_0 19 rfl rfl)
theorem dJ10_copyOf_3_20 : decode cJ10_copyOf_3 20 = .ok (.aload_n 2, 1) := dk_44 (dk_at dksJ10_copyOf_3_0 20 rfl rfl)
theorem dJ10_copyOf_3_21 : decode cJ10_copyOf_3 21 = .ok (.iconst 0, 1) := dk_3 (dk_at dksJ10_copyOf_3_0 21 rfl rfl)
theorem dJ10_copyOf_3_22 : decode cJ10_copyOf_3 22 = .ok (.aload_n 0, 1) := dk_42 (dk_at dksJ10_copyOf_3_0 22 rfl rfl)
theorem dJ10_copyOf_3_23 : decode cJ10_copyOf_3 23 = .ok (.arraylength, 1) := dk_190 (dk_at dksJ10_copyOf_3_0 23 rfl rfl)
theorem dJ10_copyOf_3_24 : decode cJ10_copyOf_3 24 = .ok (.iload_n 1, 1) := dk_27 (dk_at dksJ10_copyOf_3_1 0 rfl rfl)
theorem dJ10_copyOf_3_25 : decode cJ10_copyOf_3 25 = .ok (.invokestatic 304, 3) := dk_184 1 48 (dk_at dksJ10_copyOf_3_1 1 rfl rfl)
theorem dJ10_copyOf_3_28 : decode cJ10_copyOf_3 28 = .ok (.invokestatic 150, 3) := dk_184 0 150 (dk_at dksJ10_copyOf_3_1 4 rfl rfl)
theorem dJ10_copyOf_3_31 : decode cJ10_copyOf_3 31 = .ok (.aload_n 2, 1) := dk_44 (dk_at dksJ10_copyOf_3_1 7 rfl rfl)
theorem dJ10_copyOf_3_32 : decode cJ10_copyOf_3 32 = .ok (.areturn, 1) := dk_176 (dk_at dksJ10_copyOf_3_1 8 rfl rfl)
abbrev cJ10_copyOfRange : ByteArray := prog_51_method_132_code
def yJ10_copyOfRange : MethodName := ⟨RJ10, "copyOfRange", "([BII)[B"⟩
def dkwJ10_copyOfRange_1 : List UInt8 := [176]
abbrev dktJ10_copyOfRange_1 : List UInt8 := dkwJ10_copyOfRange_1 ++ []
def dkwJ10_copyOfRange_0 : List UInt8 := [27, 154, 0, 9, 28, 42, 190, 159, 0, 10, 42, 27, 28, 184, 1, 83, 176, 42, 182, 1, 54, 192, 1, 55]
abbrev dktJ10_copyOfRange_0 : List UInt8 := dkwJ10_copyOfRange_0 ++ dktJ10_copyOfRange_1
theorem dksJ10_copyOfRange_0 : cJ10_copyOfRange.data.toList.drop 0 = dktJ10_copyOfRange_0 := by decide +kernel
theorem dksJ10_copyOfRange_1 : cJ10_copyOfRange.data.toList.drop 24 = dktJ10_copyOfRange_1 := dk_seg dksJ10_copyOfRange_0 24 rfl rfl
theorem dJ10_copyOfRange_0 : decode cJ10_copyOfRange 0 = .ok (.iload_n 1, 1) := dk_27 (dk_at dksJ10_copyOfRange_0 0 rfl rfl)
theorem dJ10_copyOfRange_1 : decode cJ10_copyOfRange 1 = .ok (.ifCond .ne 9, 3) := dk_154 0 9 (dk_at dksJ10_copyOfRange_0 1 rfl rfl)
theorem dJ10_copyOfRange_4 : decode cJ10_copyOfRange 4 = .ok (.iload_n 2, 1) := dk_28 (dk_at dksJ10_copyOfRange_0 4 rfl rfl)
theorem dJ10_copyOfRange_5 : decode cJ10_copyOfRange 5 = .ok (.aload_n 0, 1) := dk_42 (dk_at dksJ10_copyOfRange_0 5 rfl rfl)
theorem dJ10_copyOfRange_6 : decode cJ10_copyOfRange 6 = .ok (.arraylength, 1) := dk_190 (dk_at dksJ10_copyOfRange_0 6 rfl rfl)
theorem dJ10_copyOfRange_7 : decode cJ10_copyOfRange 7 = .ok (.if_icmp .eq 10, 3) := dk_159 0 10 (dk_at dksJ10_copyOfRange_0 7 rfl rfl)
theorem dJ10_copyOfRange_10 : decode cJ10_copyOfRange 10 = .ok (.aload_n 0, 1) := dk_42 (dk_at dksJ10_copyOfRange_0 10 rfl rfl)
theorem dJ10_copyOfRange_11 : decode cJ10_copyOfRange 11 = .ok (.iload_n 1, 1) := dk_27 (dk_at dksJ10_copyOfRange_0 11 rfl rfl)
theorem dJ10_copyOfRange_12 : decode cJ10_copyOfRange 12 = .ok (.iload_n 2, 1) := dk_28 (dk_at dksJ10_copyOfRange_0 12 rfl rfl)
theorem dJ10_copyOfRange_13 : decode cJ10_copyOfRange 13 = .ok (.invokestatic 339, 3) := dk_184 1 83 (dk_at dksJ10_copyOfRange_0 13 rfl rfl)
theorem dJ10_copyOfRange_16 : decode cJ10_copyOfRange 16 = .ok (.areturn, 1) := dk_176 (dk_at dksJ10_copyOfRange_0 16 rfl rfl)
theorem dJ10_copyOfRange_17 : decode cJ10_copyOfRange 17 = .ok (.aload_n 0, 1) := dk_42 (dk_at dksJ10_copyOfRange_0 17 rfl rfl)
theorem dJ10_copyOfRange_18 : decode cJ10_copyOfRange 18 = .ok (.invokevirtual 310, 3) := dk_182 1 54 (dk_at dksJ10_copyOfRange_0 18 rfl rfl)
theorem dJ10_copyOfRange_21 : decode cJ10_copyOfRange 21 = .ok (.checkcast 311, 3) := dk_192 1 55 (dk_at dksJ10_copyOfRange_0 21 rfl rfl)
theorem dJ10_copyOfRange_24 : decode cJ10_copyOfRange 24 = .ok (.areturn, 1) := dk_176 (dk_at dksJ10_copyOfRange_1 0 rfl rfl)
abbrev cJ10_copyOfRangeByte : ByteArray := prog_51_method_133_code
def yJ10_copyOfRangeByte : MethodName := ⟨RJ10, "copyOfRangeByte", "([BII)[B"⟩
def dkwJ10_copyOfRangeByte_1 : List UInt8 := [184, 1, 48, 184, 0, 150, 25, 4, 176]
abbrev dktJ10_copyOfRangeByte_1 : List UInt8 := dkwJ10_copyOfRangeByte_1 ++ []
def dkwJ10_copyOfRangeByte_0 : List UInt8 := [27, 28, 184, 1, 87, 28, 27, 100, 62, 29, 188, 8, 58, 4, 42, 27, 25, 4, 3, 42, 190, 27, 100, 29]
abbrev dktJ10_copyOfRangeByte_0 : List UInt8 := dkwJ10_copyOfRangeByte_0 ++ dktJ10_copyOfRangeByte_1
theorem dksJ10_copyOfRangeByte_0 : cJ10_copyOfRangeByte.data.toList.drop 0 = dktJ10_copyOfRangeByte_0 := by decide +kernel
theorem dksJ10_copyOfRangeByte_1 : cJ10_copyOfRangeByte.data.toList.drop 24 = dktJ10_copyOfRangeByte_1 := dk_seg dksJ10_copyOfRangeByte_0 24 rfl rfl
theorem dJ10_copyOfRangeByte_0 : decode cJ10_copyOfRangeByte 0 = .ok (.iload_n 1, 1) := dk_27 (dk_at dksJ10_copyOfRangeByte_0 0 rfl rfl)
theorem dJ10_copyOfRangeByte_1 : decode cJ10_copyOfRangeByte 1 = .ok (.iload_n 2, 1) := dk_28 (dk_at dksJ10_copyOfRangeByte_0 1 rfl rfl)
theorem dJ10_copyOfRangeByte_2 : decode cJ10_copyOfRangeByte 2 = .ok (.invokestatic 343, 3) := dk_184 1 87 (dk_at dksJ10_copyOfRangeByte_0 2 rfl rfl)
theorem dJ10_copyOfRangeByte_5 : decode cJ10_copyOfRangeByte 5 = .ok (.iload_n 2, 1) := dk_28 (dk_at dksJ10_copyOfRangeByte_0 5 rfl rfl)
theorem dJ10_copyOfRangeByte_6 : decode cJ10_copyOfRangeByte 6 = .ok (.iload_n 1, 1) := dk_27 (dk_at dksJ10_copyOfRangeByte_0 6 rfl rfl)
theorem dJ10_copyOfRangeByte_7 : decode cJ10_copyOfRangeByte 7 = .ok (.isub, 1) := dk_100 (dk_at dksJ10_copyOfRangeByte_0 7 rfl rfl)
theorem dJ10_copyOfRangeByte_8 : decode cJ10_copyOfRangeByte 8 = .ok (.istore_n 3, 1) := dk_62 (dk_at dksJ10_copyOfRangeByte_0 8 rfl rfl)
theorem dJ10_copyOfRangeByte_9 : decode cJ10_copyOfRangeByte 9 = .ok (.iload_n 3, 1) := dk_29 (dk_at dksJ10_copyOfRangeByte_0 9 rfl rfl)
theorem dJ10_copyOfRangeByte_10 : decode cJ10_copyOfRangeByte 10 = .ok (.newarray .byte, 2) := dk_188_8 (dk_at dksJ10_copyOfRangeByte_0 10 rfl rfl)
theorem dJ10_copyOfRangeByte_12 : decode cJ10_copyOfRangeByte 12 = .ok (.astore 4, 2) := dk_58 4 (dk_at dksJ10_copyOfRangeByte_0 12 rfl rfl)
theorem dJ10_copyOfRangeByte_14 : decode cJ10_copyOfRangeByte 14 = .ok (.aload_n 0, 1) := dk_42 (dk_at dksJ10_copyOfRangeByte_0 14 rfl rfl)
theorem dJ10_copyOfRangeByte_15 : decode cJ10_copyOfRangeByte 15 = .ok (.iload_n 1, 1) := dk_27 (dk_at dksJ10_copyOfRangeByte_0 15 rfl rfl)
theorem dJ10_copyOfRangeByte_16 : decode cJ10_copyOfRangeByte 16 = .ok (.aload 4, 2) := dk_25 4 (dk_at dksJ10_copyOfRangeByte_0 16 rfl rfl)
theorem dJ10_copyOfRangeByte_18 : decode cJ10_copyOfRangeByte 18 = .ok (.iconst 0, 1) := dk_3 (dk_at dksJ10_copyOfRangeByte_0 18 rfl rfl)
theorem dJ10_copyOfRangeByte_19 : decode cJ10_copyOfRangeByte 19 = .ok (.aload_n 0, 1) := dk_42 (dk_at dksJ10_copyOfRangeByte_0 19 rfl rfl)
theorem dJ10_copyOfRangeByte_20 : decode cJ10_copyOfRangeByte 20 = .ok (.arraylength, 1) := dk_190 (dk_at dksJ10_copyOfRangeByte_0 20 rfl rfl)
theorem dJ10_copyOfRangeByte_21 : decode cJ10_copyOfRangeByte 21 = .ok (.iload_n 1, 1) := dk_27 (dk_at dksJ10_copyOfRangeByte_0 21 rfl rfl)
theorem dJ10_copyOfRangeByte_22 : decode cJ10_copyOfRangeByte 22 = .ok (.isub, 1) := dk_100 (dk_at dksJ10_copyOfRangeByte_0 22 rfl rfl)
theorem dJ10_copyOfRangeByte_23 : decode cJ10_copyOfRangeByte 23 = .ok (.iload_n 3, 1) := dk_29 (dk_at dksJ10_copyOfRangeByte_0 23 rfl rfl)
theorem dJ10_copyOfRangeByte_24 : decode cJ10_copyOfRangeByte 24 = .ok (.invokestatic 304, 3) := dk_184 1 48 (dk_at dksJ10_copyOfRangeByte_1 0 rfl rfl)
theorem dJ10_copyOfRangeByte_27 : decode cJ10_copyOfRangeByte 27 = .ok (.invokestatic 150, 3) := dk_184 0 150 (dk_at dksJ10_copyOfRangeByte_1 3 rfl rfl)
theorem dJ10_copyOfRangeByte_30 : decode cJ10_copyOfRangeByte 30 = .ok (.aload 4, 2) := dk_25 4 (dk_at dksJ10_copyOfRangeByte_1 6 rfl rfl)
theorem dJ10_copyOfRangeByte_32 : decode cJ10_copyOfRangeByte 32 = .ok (.areturn, 1) := dk_176 (dk_at dksJ10_copyOfRangeByte_1 8 rfl rfl)
abbrev cJ10_checkLength : ByteArray := prog_51_method_131_code
def yJ10_checkLength : MethodName := ⟨RJ10, "checkLength", "(II)V"⟩
def dkwJ10_checkLength_1 : List UInt8 := [182, 0, 50, 27, 182, 0, 54, 182, 0, 61, 183, 0, 65, 191, 177]
abbrev dktJ10_checkLength_1 : List UInt8 := dkwJ10_checkLength_1 ++ []
def dkwJ10_checkLength_0 : List UInt8 := [27, 26, 162, 0, 35, 187, 0, 43, 89, 187, 0, 45, 89, 183, 0, 47, 26, 182, 0, 54, 19, 1, 81]
abbrev dktJ10_checkLength_0 : List UInt8 := dkwJ10_checkLength_0 ++ dktJ10_checkLength_1
theorem dksJ10_checkLength_0 : cJ10_checkLength.data.toList.drop 0 = dktJ10_checkLength_0 := by decide +kernel
theorem dksJ10_checkLength_1 : cJ10_checkLength.data.toList.drop 23 = dktJ10_checkLength_1 := dk_seg dksJ10_checkLength_0 23 rfl rfl
theorem dJ10_checkLength_0 : decode cJ10_checkLength 0 = .ok (.iload_n 1, 1) := dk_27 (dk_at dksJ10_checkLength_0 0 rfl rfl)
theorem dJ10_checkLength_1 : decode cJ10_checkLength 1 = .ok (.iload_n 0, 1) := dk_26 (dk_at dksJ10_checkLength_0 1 rfl rfl)
theorem dJ10_checkLength_2 : decode cJ10_checkLength 2 = .ok (.if_icmp .ge 35, 3) := dk_162 0 35 (dk_at dksJ10_checkLength_0 2 rfl rfl)
theorem dJ10_checkLength_5 : decode cJ10_checkLength 5 = .ok (.new 43, 3) := dk_187 0 43 (dk_at dksJ10_checkLength_0 5 rfl rfl)
theorem dJ10_checkLength_8 : decode cJ10_checkLength 8 = .ok (.dup, 1) := dk_89 (dk_at dksJ10_checkLength_0 8 rfl rfl)
theorem dJ10_checkLength_9 : decode cJ10_checkLength 9 = .ok (.new 45, 3) := dk_187 0 45 (dk_at dksJ10_checkLength_0 9 rfl rfl)
theorem dJ10_checkLength_12 : decode cJ10_checkLength 12 = .ok (.dup, 1) := dk_89 (dk_at dksJ10_checkLength_0 12 rfl rfl)
theorem dJ10_checkLength_13 : decode cJ10_checkLength 13 = .ok (.invokespecial 47, 3) := dk_183 0 47 (dk_at dksJ10_checkLength_0 13 rfl rfl)
theorem dJ10_checkLength_16 : decode cJ10_checkLength 16 = .ok (.iload_n 0, 1) := dk_26 (dk_at dksJ10_checkLength_0 16 rfl rfl)
theorem dJ10_checkLength_17 : decode cJ10_checkLength 17 = .ok (.invokevirtual 54, 3) := dk_182 0 54 (dk_at dksJ10_checkLength_0 17 rfl rfl)
theorem dJ10_checkLength_20 : decode cJ10_checkLength 20 = .ok (.ldc_w 337, 3) := dk_19 1 81 (dk_at dksJ10_checkLength_0 20 rfl rfl)
theorem dJ10_checkLength_23 : decode cJ10_checkLength 23 = .ok (.invokevirtual 50, 3) := dk_182 0 50 (dk_at dksJ10_checkLength_1 0 rfl rfl)
theorem dJ10_checkLength_26 : decode cJ10_checkLength 26 = .ok (.iload_n 1, 1) := dk_27 (dk_at dksJ10_checkLength_1 3 rfl rfl)
theorem dJ10_checkLength_27 : decode cJ10_checkLength 27 = .ok (.invokevirtual 54, 3) := dk_182 0 54 (dk_at dksJ10_checkLength_1 4 rfl rfl)
theorem dJ10_checkLength_30 : decode cJ10_checkLength 30 = .ok (.invokevirtual 61, 3) := dk_182 0 61 (dk_at dksJ10_checkLength_1 7 rfl rfl)
theorem dJ10_checkLength_33 : decode cJ10_checkLength 33 = .ok (.invokespecial 65, 3) := dk_183 0 65 (dk_at dksJ10_checkLength_1 10 rfl rfl)
theorem dJ10_checkLength_36 : decode cJ10_checkLength 36 = .ok (.athrow, 1) := dk_191 (dk_at dksJ10_checkLength_1 13 rfl rfl)
theorem dJ10_checkLength_37 : decode cJ10_checkLength 37 = .ok (.return_, 1) := dk_177 (dk_at dksJ10_checkLength_1 14 rfl rfl)
abbrev cJ10_fill : ByteArray := prog_51_method_110_code
def yJ10_fill : MethodName := ⟨RJ10, "fill", "([BIIB)V"⟩
def dkwJ10_fill_1 : List UInt8 := [167, 255, 242, 177]
abbrev dktJ10_fill_1 : List UInt8 := dkwJ10_fill_1 ++ []
def dkwJ10_fill_0 : List UInt8 := [42, 190, 27, 28, 184, 0, 13, 27, 54, 4, 21, 4, 28, 162, 0, 14, 42, 21, 4, 29, 84, 132, 4, 1]
abbrev dktJ10_fill_0 : List UInt8 := dkwJ10_fill_0 ++ dktJ10_fill_1
theorem dksJ10_fill_0 : cJ10_fill.data.toList.drop 0 = dktJ10_fill_0 := by decide +kernel
theorem dksJ10_fill_1 : cJ10_fill.data.toList.drop 24 = dktJ10_fill_1 := dk_seg dksJ10_fill_0 24 rfl rfl
theorem dJ10_fill_0 : decode cJ10_fill 0 = .ok (.aload_n 0, 1) := dk_42 (dk_at dksJ10_fill_0 0 rfl rfl)
theorem dJ10_fill_1 : decode cJ10_fill 1 = .ok (.arraylength, 1) := dk_190 (dk_at dksJ10_fill_0 1 rfl rfl)
theorem dJ10_fill_2 : decode cJ10_fill 2 = .ok (.iload_n 1, 1) := dk_27 (dk_at dksJ10_fill_0 2 rfl rfl)
theorem dJ10_fill_3 : decode cJ10_fill 3 = .ok (.iload_n 2, 1) := dk_28 (dk_at dksJ10_fill_0 3 rfl rfl)
theorem dJ10_fill_4 : decode cJ10_fill 4 = .ok (.invokestatic 13, 3) := dk_184 0 13 (dk_at dksJ10_fill_0 4 rfl rfl)
theorem dJ10_fill_7 : decode cJ10_fill 7 = .ok (.iload_n 1, 1) := dk_27 (dk_at dksJ10_fill_0 7 rfl rfl)
theorem dJ10_fill_8 : decode cJ10_fill 8 = .ok (.istore 4, 2) := dk_54 4 (dk_at dksJ10_fill_0 8 rfl rfl)
theorem dJ10_fill_10 : decode cJ10_fill 10 = .ok (.iload 4, 2) := dk_21 4 (dk_at dksJ10_fill_0 10 rfl rfl)
theorem dJ10_fill_12 : decode cJ10_fill 12 = .ok (.iload_n 2, 1) := dk_28 (dk_at dksJ10_fill_0 12 rfl rfl)
theorem dJ10_fill_13 : decode cJ10_fill 13 = .ok (.if_icmp .ge 14, 3) := dk_162 0 14 (dk_at dksJ10_fill_0 13 rfl rfl)
theorem dJ10_fill_16 : decode cJ10_fill 16 = .ok (.aload_n 0, 1) := dk_42 (dk_at dksJ10_fill_0 16 rfl rfl)
theorem dJ10_fill_17 : decode cJ10_fill 17 = .ok (.iload 4, 2) := dk_21 4 (dk_at dksJ10_fill_0 17 rfl rfl)
theorem dJ10_fill_19 : decode cJ10_fill 19 = .ok (.iload_n 3, 1) := dk_29 (dk_at dksJ10_fill_0 19 rfl rfl)
theorem dJ10_fill_20 : decode cJ10_fill 20 = .ok (.bastore, 1) := dk_84 (dk_at dksJ10_fill_0 20 rfl rfl)
theorem dJ10_fill_21 : decode cJ10_fill 21 = .ok (.iinc 4 1, 3) := dk_132 4 1 (dk_at dksJ10_fill_0 21 rfl rfl)
theorem dJ10_fill_24 : decode cJ10_fill 24 = .ok (.goto (-14), 3) := dk_167 255 242 (dk_at dksJ10_fill_1 0 rfl rfl)
theorem dJ10_fill_27 : decode cJ10_fill 27 = .ok (.return_, 1) := dk_177 (dk_at dksJ10_fill_1 3 rfl rfl)
abbrev cJ10_rangeCheck : ByteArray := prog_51_method_30_code
def yJ10_rangeCheck : MethodName := ⟨RJ10, "rangeCheck", "(III)V"⟩
def dkwJ10_rangeCheck_3 : List UInt8 := [183, 0, 70, 191, 177]
abbrev dktJ10_rangeCheck_3 : List UInt8 := dkwJ10_rangeCheck_3 ++ []
def dkwJ10_rangeCheck_2 : List UInt8 := [27, 156, 0, 12, 187, 0, 68, 89, 27, 183, 0, 70, 191, 28, 26, 164, 0, 12, 187, 0, 68, 89, 28]
abbrev dktJ10_rangeCheck_2 : List UInt8 := dkwJ10_rangeCheck_2 ++ dktJ10_rangeCheck_3
def dkwJ10_rangeCheck_1 : List UInt8 := [182, 0, 54, 18, 57, 182, 0, 50, 28, 182, 0, 54, 18, 59, 182, 0, 50, 182, 0, 61, 183, 0, 65, 191]
abbrev dktJ10_rangeCheck_1 : List UInt8 := dkwJ10_rangeCheck_1 ++ dktJ10_rangeCheck_2
def dkwJ10_rangeCheck_0 : List UInt8 := [27, 28, 164, 0, 44, 187, 0, 43, 89, 187, 0, 45, 89, 183, 0, 47, 18, 48, 182, 0, 50, 27]
abbrev dktJ10_rangeCheck_0 : List UInt8 := dkwJ10_rangeCheck_0 ++ dktJ10_rangeCheck_1
theorem dksJ10_rangeCheck_0 : cJ10_rangeCheck.data.toList.drop 0 = dktJ10_rangeCheck_0 := by decide +kernel
theorem dksJ10_rangeCheck_1 : cJ10_rangeCheck.data.toList.drop 22 = dktJ10_rangeCheck_1 := dk_seg dksJ10_rangeCheck_0 22 rfl rfl
theorem dksJ10_rangeCheck_2 : cJ10_rangeCheck.data.toList.drop 46 = dktJ10_rangeCheck_2 := dk_seg dksJ10_rangeCheck_1 24 rfl rfl
theorem dksJ10_rangeCheck_3 : cJ10_rangeCheck.data.toList.drop 69 = dktJ10_rangeCheck_3 := dk_seg dksJ10_rangeCheck_2 23 rfl rfl
theorem dJ10_rangeCheck_0 : decode cJ10_rangeCheck 0 = .ok (.iload_n 1, 1) := dk_27 (dk_at dksJ10_rangeCheck_0 0 rfl rfl)
theorem dJ10_rangeCheck_1 : decode cJ10_rangeCheck 1 = .ok (.iload_n 2, 1) := dk_28 (dk_at dksJ10_rangeCheck_0 1 rfl rfl)
theorem dJ10_rangeCheck_2 : decode cJ10_rangeCheck 2 = .ok (.if_icmp .le 44, 3) := dk_164 0 44 (dk_at dksJ10_rangeCheck_0 2 rfl rfl)
theorem dJ10_rangeCheck_5 : decode cJ10_rangeCheck 5 = .ok (.new 43, 3) := dk_187 0 43 (dk_at dksJ10_rangeCheck_0 5 rfl rfl)
theorem dJ10_rangeCheck_8 : decode cJ10_rangeCheck 8 = .ok (.dup, 1) := dk_89 (dk_at dksJ10_rangeCheck_0 8 rfl rfl)
theorem dJ10_rangeCheck_9 : decode cJ10_rangeCheck 9 = .ok (.new 45, 3) := dk_187 0 45 (dk_at dksJ10_rangeCheck_0 9 rfl rfl)
theorem dJ10_rangeCheck_12 : decode cJ10_rangeCheck 12 = .ok (.dup, 1) := dk_89 (dk_at dksJ10_rangeCheck_0 12 rfl rfl)
theorem dJ10_rangeCheck_13 : decode cJ10_rangeCheck 13 = .ok (.invokespecial 47, 3) := dk_183 0 47 (dk_at dksJ10_rangeCheck_0 13 rfl rfl)
theorem dJ10_rangeCheck_16 : decode cJ10_rangeCheck 16 = .ok (.ldc 48, 2) := dk_18 48 (dk_at dksJ10_rangeCheck_0 16 rfl rfl)
theorem dJ10_rangeCheck_18 : decode cJ10_rangeCheck 18 = .ok (.invokevirtual 50, 3) := dk_182 0 50 (dk_at dksJ10_rangeCheck_0 18 rfl rfl)
theorem dJ10_rangeCheck_21 : decode cJ10_rangeCheck 21 = .ok (.iload_n 1, 1) := dk_27 (dk_at dksJ10_rangeCheck_0 21 rfl rfl)
theorem dJ10_rangeCheck_22 : decode cJ10_rangeCheck 22 = .ok (.invokevirtual 54, 3) := dk_182 0 54 (dk_at dksJ10_rangeCheck_1 0 rfl rfl)
theorem dJ10_rangeCheck_25 : decode cJ10_rangeCheck 25 = .ok (.ldc 57, 2) := dk_18 57 (dk_at dksJ10_rangeCheck_1 3 rfl rfl)
theorem dJ10_rangeCheck_27 : decode cJ10_rangeCheck 27 = .ok (.invokevirtual 50, 3) := dk_182 0 50 (dk_at dksJ10_rangeCheck_1 5 rfl rfl)
theorem dJ10_rangeCheck_30 : decode cJ10_rangeCheck 30 = .ok (.iload_n 2, 1) := dk_28 (dk_at dksJ10_rangeCheck_1 8 rfl rfl)
theorem dJ10_rangeCheck_31 : decode cJ10_rangeCheck 31 = .ok (.invokevirtual 54, 3) := dk_182 0 54 (dk_at dksJ10_rangeCheck_1 9 rfl rfl)
theorem dJ10_rangeCheck_34 : decode cJ10_rangeCheck 34 = .ok (.ldc 59, 2) := dk_18 59 (dk_at dksJ10_rangeCheck_1 12 rfl rfl)
theorem dJ10_rangeCheck_36 : decode cJ10_rangeCheck 36 = .ok (.invokevirtual 50, 3) := dk_182 0 50 (dk_at dksJ10_rangeCheck_1 14 rfl rfl)
theorem dJ10_rangeCheck_39 : decode cJ10_rangeCheck 39 = .ok (.invokevirtual 61, 3) := dk_182 0 61 (dk_at dksJ10_rangeCheck_1 17 rfl rfl)
theorem dJ10_rangeCheck_42 : decode cJ10_rangeCheck 42 = .ok (.invokespecial 65, 3) := dk_183 0 65 (dk_at dksJ10_rangeCheck_1 20 rfl rfl)
theorem dJ10_rangeCheck_45 : decode cJ10_rangeCheck 45 = .ok (.athrow, 1) := dk_191 (dk_at dksJ10_rangeCheck_1 23 rfl rfl)
theorem dJ10_rangeCheck_46 : decode cJ10_rangeCheck 46 = .ok (.iload_n 1, 1) := dk_27 (dk_at dksJ10_rangeCheck_2 0 rfl rfl)
theorem dJ10_rangeCheck_47 : decode cJ10_rangeCheck 47 = .ok (.ifCond .ge 12, 3) := dk_156 0 12 (dk_at dksJ10_rangeCheck_2 1 rfl rfl)
theorem dJ10_rangeCheck_50 : decode cJ10_rangeCheck 50 = .ok (.new 68, 3) := dk_187 0 68 (dk_at dksJ10_rangeCheck_2 4 rfl rfl)
theorem dJ10_rangeCheck_53 : decode cJ10_rangeCheck 53 = .ok (.dup, 1) := dk_89 (dk_at dksJ10_rangeCheck_2 7 rfl rfl)
theorem dJ10_rangeCheck_54 : decode cJ10_rangeCheck 54 = .ok (.iload_n 1, 1) := dk_27 (dk_at dksJ10_rangeCheck_2 8 rfl rfl)
theorem dJ10_rangeCheck_55 : decode cJ10_rangeCheck 55 = .ok (.invokespecial 70, 3) := dk_183 0 70 (dk_at dksJ10_rangeCheck_2 9 rfl rfl)
theorem dJ10_rangeCheck_58 : decode cJ10_rangeCheck 58 = .ok (.athrow, 1) := dk_191 (dk_at dksJ10_rangeCheck_2 12 rfl rfl)
theorem dJ10_rangeCheck_59 : decode cJ10_rangeCheck 59 = .ok (.iload_n 2, 1) := dk_28 (dk_at dksJ10_rangeCheck_2 13 rfl rfl)
theorem dJ10_rangeCheck_60 : decode cJ10_rangeCheck 60 = .ok (.iload_n 0, 1) := dk_26 (dk_at dksJ10_rangeCheck_2 14 rfl rfl)
theorem dJ10_rangeCheck_61 : decode cJ10_rangeCheck 61 = .ok (.if_icmp .le 12, 3) := dk_164 0 12 (dk_at dksJ10_rangeCheck_2 15 rfl rfl)
theorem dJ10_rangeCheck_64 : decode cJ10_rangeCheck 64 = .ok (.new 68, 3) := dk_187 0 68 (dk_at dksJ10_rangeCheck_2 18 rfl rfl)
theorem dJ10_rangeCheck_67 : decode cJ10_rangeCheck 67 = .ok (.dup, 1) := dk_89 (dk_at dksJ10_rangeCheck_2 21 rfl rfl)
theorem dJ10_rangeCheck_68 : decode cJ10_rangeCheck 68 = .ok (.iload_n 2, 1) := dk_28 (dk_at dksJ10_rangeCheck_2 22 rfl rfl)
theorem dJ10_rangeCheck_69 : decode cJ10_rangeCheck 69 = .ok (.invokespecial 70, 3) := dk_183 0 70 (dk_at dksJ10_rangeCheck_3 0 rfl rfl)
theorem dJ10_rangeCheck_72 : decode cJ10_rangeCheck 72 = .ok (.athrow, 1) := dk_191 (dk_at dksJ10_rangeCheck_3 3 rfl rfl)
theorem dJ10_rangeCheck_73 : decode cJ10_rangeCheck 73 = .ok (.return_, 1) := dk_177 (dk_at dksJ10_rangeCheck_3 4 rfl rfl)
theorem q116 : (Jvm.Cond.initialized "java/util/Arrays") ∈ lw_all := lw_g (lw_at lw_m1 14 rfl) rfl
theorem q568 : (Jvm.Cond.static ({ cls := "java/util/Arrays", name := "copyOf", desc := "([Ljava/lang/Object;I)[Ljava/lang/Object;" } : Jvm.MethodName)) ∈ lw_all := lw_g (lw_at lw_m2 226 rfl) rfl
theorem q569 : (Jvm.Cond.code ({ cls := "java/util/Arrays", name := "copyOf", desc := "([Ljava/lang/Object;I)[Ljava/lang/Object;" } : Jvm.MethodName) prog_51_method_119_code (2 : Nat) (Option.some (Jvm.ClassFile.FieldType.array (Jvm.ClassFile.FieldType.object "java/lang/Object")))) ∈ lw_all := lw_g (lw_at lw_m2 227 rfl) rfl
theorem q570 : (Jvm.Cond.methodLink "java/util/Arrays" (86 : Nat) ({ cls := "java/lang/Object", name := "getClass", desc := "()Ljava/lang/Class;" } : Jvm.MethodName)) ∈ lw_all := lw_g (lw_at lw_m2 228 rfl) rfl
theorem q600 : (Jvm.Cond.methodLink "java/util/Arrays" (300 : Nat) ({ cls := "java/util/Arrays", name := "copyOf", desc := "([Ljava/lang/Object;ILjava/lang/Class;)[Ljava/lang/Object;" } : Jvm.MethodName)) ∈ lw_all := lw_g (lw_at lw_m3 18 rfl) rfl
theorem q601 : (Jvm.Cond.static ({ cls := "java/util/Arrays", name := "copyOf", desc := "([Ljava/lang/Object;ILjava/lang/Class;)[Ljava/lang/Object;" } : Jvm.MethodName)) ∈ lw_all := lw_g (lw_at lw_m3 19 rfl) rfl
theorem q602 : (Jvm.Cond.code ({ cls := "java/util/Arrays", name := "copyOf", desc := "([Ljava/lang/Object;ILjava/lang/Class;)[Ljava/lang/Object;" } : Jvm.MethodName) prog_51_method_120_code (4 : Nat) (Option.some (Jvm.ClassFile.FieldType.array (Jvm.ClassFile.FieldType.object "java/lang/Object")))) ∈ lw_all := lw_g (lw_at lw_m3 20 rfl) rfl
theorem q603 : (Jvm.Cond.classLink "java/util/Arrays" (110 : Nat) "[Ljava/lang/Object;") ∈ lw_all := lw_g (lw_at lw_m3 21 rfl) rfl
theorem q605 : (Jvm.Cond.classLink "java/util/Arrays" (2 : Nat) "java/lang/Object") ∈ lw_all := lw_g (lw_at lw_m3 23 rfl) rfl
theorem q606 : (Jvm.Cond.methodLink "java/util/Arrays" (304 : Nat) ({ cls := "java/lang/Math", name := "min", desc := "(II)I" } : Jvm.MethodName)) ∈ lw_all := lw_g (lw_at lw_m3 24 rfl) rfl
theorem q609 : (Jvm.Cond.methodLink "java/util/Arrays" (150 : Nat) ({ cls := "java/lang/System", name := "arraycopy", desc := "(Ljava/lang/Object;ILjava/lang/Object;II)V" } : Jvm.MethodName)) ∈ lw_all := lw_g (lw_at lw_m3 27 rfl) rfl
theorem q668 : (Jvm.Cond.static ({ cls := "java/util/Arrays", name := "copyOf", desc := "([BI)[B" } : Jvm.MethodName)) ∈ lw_all := lw_g (lw_at lw_m3 86 rfl) rfl
theorem q669 : (Jvm.Cond.code ({ cls := "java/util/Arrays", name := "copyOf", desc := "([BI)[B" } : Jvm.MethodName) prog_51_method_121_code (3 : Nat) (Option.some (Jvm.ClassFile.FieldType.array Jvm.ClassFile.FieldType.byte))) ∈ lw_all := lw_g (lw_at lw_m3 87 rfl) rfl
theorem q670 : (Jvm.Cond.methodLink "java/util/Arrays" (310 : Nat) ({ cls := "[B", name := "clone", desc := "()Ljava/lang/Object;" } : Jvm.MethodName)) ∈ lw_all := lw_g (lw_at lw_m3 88 rfl) rfl
theorem q674 : (Jvm.Cond.classLink "java/util/Arrays" (311 : Nat) "[B") ∈ lw_all := lw_g (lw_at lw_m3 92 rfl) rfl
theorem q839 : (Jvm.Cond.static ({ cls := "java/util/Arrays", name := "copyOfRange", desc := "([BII)[B" } : Jvm.MethodName)) ∈ lw_all := lw_g (lw_at lw_m4 17 rfl) rfl
theorem q840 : (Jvm.Cond.code ({ cls := "java/util/Arrays", name := "copyOfRange", desc := "([BII)[B" } : Jvm.MethodName) prog_51_method_132_code (3 : Nat) (Option.some (Jvm.ClassFile.FieldType.array Jvm.ClassFile.FieldType.byte))) ∈ lw_all := lw_g (lw_at lw_m4 18 rfl) rfl
theorem q841 : (Jvm.Cond.methodLink "java/util/Arrays" (339 : Nat) ({ cls := "java/util/Arrays", name := "copyOfRangeByte", desc := "([BII)[B" } : Jvm.MethodName)) ∈ lw_all := lw_g (lw_at lw_m4 19 rfl) rfl
theorem q842 : (Jvm.Cond.static ({ cls := "java/util/Arrays", name := "copyOfRangeByte", desc := "([BII)[B" } : Jvm.MethodName)) ∈ lw_all := lw_g (lw_at lw_m4 20 rfl) rfl
theorem q843 : (Jvm.Cond.code ({ cls := "java/util/Arrays", name := "copyOfRangeByte", desc := "([BII)[B" } : Jvm.MethodName) prog_51_method_133_code (5 : Nat) (Option.some (Jvm.ClassFile.FieldType.array Jvm.ClassFile.FieldType.byte))) ∈ lw_all := lw_g (lw_at lw_m4 21 rfl) rfl
theorem q844 : (Jvm.Cond.methodLink "java/util/Arrays" (343 : Nat) ({ cls := "java/util/Arrays", name := "checkLength", desc := "(II)V" } : Jvm.MethodName)) ∈ lw_all := lw_g (lw_at lw_m4 22 rfl) rfl
theorem q845 : (Jvm.Cond.static ({ cls := "java/util/Arrays", name := "checkLength", desc := "(II)V" } : Jvm.MethodName)) ∈ lw_all := lw_g (lw_at lw_m4 23 rfl) rfl
theorem q846 : (Jvm.Cond.code ({ cls := "java/util/Arrays", name := "checkLength", desc := "(II)V" } : Jvm.MethodName) prog_51_method_131_code (2 : Nat) (Option.none : Option Jvm.ClassFile.FieldType)) ∈ lw_all := lw_g (lw_at lw_m4 24 rfl) rfl
theorem q884 : (Jvm.Cond.static ({ cls := "java/util/Arrays", name := "fill", desc := "([BIIB)V" } : Jvm.MethodName)) ∈ lw_all := lw_g (lw_at lw_m4 62 rfl) rfl
theorem q885 : (Jvm.Cond.code ({ cls := "java/util/Arrays", name := "fill", desc := "([BIIB)V" } : Jvm.MethodName) prog_51_method_110_code (5 : Nat) (Option.none : Option Jvm.ClassFile.FieldType)) ∈ lw_all := lw_g (lw_at lw_m4 63 rfl) rfl
theorem q886 : (Jvm.Cond.methodLink "java/util/Arrays" (13 : Nat) ({ cls := "java/util/Arrays", name := "rangeCheck", desc := "(III)V" } : Jvm.MethodName)) ∈ lw_all := lw_g (lw_at lw_m4 64 rfl) rfl
theorem q887 : (Jvm.Cond.static ({ cls := "java/util/Arrays", name := "rangeCheck", desc := "(III)V" } : Jvm.MethodName)) ∈ lw_all := lw_g (lw_at lw_m4 65 rfl) rfl
theorem q888 : (Jvm.Cond.code ({ cls := "java/util/Arrays", name := "rangeCheck", desc := "(III)V" } : Jvm.MethodName) prog_51_method_30_code (3 : Nat) (Option.none : Option Jvm.ClassFile.FieldType)) ∈ lw_all := lw_g (lw_at lw_m4 66 rfl) rfl
theorem q889 : (Jvm.Cond.classLink "java/util/Arrays" (68 : Nat) "java/lang/ArrayIndexOutOfBoundsException") ∈ lw_all := lw_g (lw_at lw_m4 67 rfl) rfl
theorem q900 : (Jvm.Cond.methodLink "java/util/Arrays" (70 : Nat) ({ cls := "java/lang/ArrayIndexOutOfBoundsException", name := "<init>", desc := "(I)V" } : Jvm.MethodName)) ∈ lw_all := lw_g (lw_at lw_m4 78 rfl) rfl

/-! java/lang/StringLatin1 -/
set_option maxRecDepth 100000
def RJ11 : String := "java/lang/StringLatin1"
abbrev cJ11_canEncode : ByteArray := prog_40_method_3_code
def yJ11_canEncode : MethodName := ⟨RJ11, "canEncode", "(C)Z"⟩
def dkwJ11_canEncode_0 : List UInt8 := [26, 17, 0, 255, 163, 0, 7, 4, 167, 0, 4, 3, 172]
abbrev dktJ11_canEncode_0 : List UInt8 := dkwJ11_canEncode_0 ++ []
theorem dksJ11_canEncode_0 : cJ11_canEncode.data.toList.drop 0 = dktJ11_canEncode_0 := by decide +kernel
theorem dJ11_canEncode_0 : decode cJ11_canEncode 0 = .ok (.iload_n 0, 1) := dk_26 (dk_at dksJ11_canEncode_0 0 rfl rfl)
theorem dJ11_canEncode_1 : decode cJ11_canEncode 1 = .ok (.sipush 255, 3) := dk_17 0 255 (dk_at dksJ11_canEncode_0 1 rfl rfl)
theorem dJ11_canEncode_4 : decode cJ11_canEncode 4 = .ok (.if_icmp .gt 7, 3) := dk_163 0 7 (dk_at dksJ11_canEncode_0 4 rfl rfl)
theorem dJ11_canEncode_7 : decode cJ11_canEncode 7 = .ok (.iconst 1, 1) := dk_4 (dk_at dksJ11_canEncode_0 7 rfl rfl)
theorem dJ11_canEncode_8 : decode cJ11_canEncode 8 = .ok (.goto 4, 3) := dk_167 0 4 (dk_at dksJ11_canEncode_0 8 rfl rfl)
theorem dJ11_canEncode_11 : decode cJ11_canEncode 11 = .ok (.iconst 0, 1) := dk_3 (dk_at dksJ11_canEncode_0 11 rfl rfl)
theorem dJ11_canEncode_12 : decode cJ11_canEncode 12 = .ok (.ireturn, 1) := dk_172 (dk_at dksJ11_canEncode_0 12 rfl rfl)
abbrev cJ11_inflate : ByteArray := prog_40_method_50_code
def yJ11_inflate : MethodName := ⟨RJ11, "inflate", "([BI[BII)V"⟩
def dkwJ11_inflate_0 : List UInt8 := [42, 27, 44, 29, 21, 4, 184, 0, 240, 177]
abbrev dktJ11_inflate_0 : List UInt8 := dkwJ11_inflate_0 ++ []
theorem dksJ11_inflate_0 : cJ11_inflate.data.toList.drop 0 = dktJ11_inflate_0 := by decide +kernel
theorem dJ11_inflate_0 : decode cJ11_inflate 0 = .ok (.aload_n 0, 1) := dk_42 (dk_at dksJ11_inflate_0 0 rfl rfl)
theorem dJ11_inflate_1 : decode cJ11_inflate 1 = .ok (.iload_n 1, 1) := dk_27 (dk_at dksJ11_inflate_0 1 rfl rfl)
theorem dJ11_inflate_2 : decode cJ11_inflate 2 = .ok (.aload_n 2, 1) := dk_44 (dk_at dksJ11_inflate_0 2 rfl rfl)
theorem dJ11_inflate_3 : decode cJ11_inflate 3 = .ok (.iload_n 3, 1) := dk_29 (dk_at dksJ11_inflate_0 3 rfl rfl)
theorem dJ11_inflate_4 : decode cJ11_inflate 4 = .ok (.iload 4, 2) := dk_21 4 (dk_at dksJ11_inflate_0 4 rfl rfl)
theorem dJ11_inflate_6 : decode cJ11_inflate 6 = .ok (.invokestatic 240, 3) := dk_184 0 240 (dk_at dksJ11_inflate_0 6 rfl rfl)
theorem dJ11_inflate_9 : decode cJ11_inflate 9 = .ok (.return_, 1) := dk_177 (dk_at dksJ11_inflate_0 9 rfl rfl)
abbrev cJ11_fillNull : ByteArray := prog_40_method_48_code
def yJ11_fillNull : MethodName := ⟨RJ11, "fillNull", "([BII)V"⟩
def dkwJ11_fillNull_0 : List UInt8 := [42, 27, 28, 3, 184, 0, 236, 177]
abbrev dktJ11_fillNull_0 : List UInt8 := dkwJ11_fillNull_0 ++ []
theorem dksJ11_fillNull_0 : cJ11_fillNull.data.toList.drop 0 = dktJ11_fillNull_0 := by decide +kernel
theorem dJ11_fillNull_0 : decode cJ11_fillNull 0 = .ok (.aload_n 0, 1) := dk_42 (dk_at dksJ11_fillNull_0 0 rfl rfl)
theorem dJ11_fillNull_1 : decode cJ11_fillNull 1 = .ok (.iload_n 1, 1) := dk_27 (dk_at dksJ11_fillNull_0 1 rfl rfl)
theorem dJ11_fillNull_2 : decode cJ11_fillNull 2 = .ok (.iload_n 2, 1) := dk_28 (dk_at dksJ11_fillNull_0 2 rfl rfl)
theorem dJ11_fillNull_3 : decode cJ11_fillNull 3 = .ok (.iconst 0, 1) := dk_3 (dk_at dksJ11_fillNull_0 3 rfl rfl)
theorem dJ11_fillNull_4 : decode cJ11_fillNull 4 = .ok (.invokestatic 236, 3) := dk_184 0 236 (dk_at dksJ11_fillNull_0 4 rfl rfl)
theorem dJ11_fillNull_7 : decode cJ11_fillNull 7 = .ok (.return_, 1) := dk_177 (dk_at dksJ11_fillNull_0 7 rfl rfl)
abbrev cJ11_charAt : ByteArray := prog_40_method_2_code
def yJ11_charAt : MethodName := ⟨RJ11, "charAt", "([BI)C"⟩
def dkwJ11_charAt_0 : List UInt8 := [27, 42, 190, 184, 0, 9, 42, 27, 51, 17, 0, 255, 126, 146, 172]
abbrev dktJ11_charAt_0 : List UInt8 := dkwJ11_charAt_0 ++ []
theorem dksJ11_charAt_0 : cJ11_charAt.data.toList.drop 0 = dktJ11_charAt_0 := by decide +kernel
theorem dJ11_charAt_0 : decode cJ11_charAt 0 = .ok (.iload_n 1, 1) := dk_27 (dk_at dksJ11_charAt_0 0 rfl rfl)
theorem dJ11_charAt_1 : decode cJ11_charAt 1 = .ok (.aload_n 0, 1) := dk_42 (dk_at dksJ11_charAt_0 1 rfl rfl)
theorem dJ11_charAt_2 : decode cJ11_charAt 2 = .ok (.arraylength, 1) := dk_190 (dk_at dksJ11_charAt_0 2 rfl rfl)
theorem dJ11_charAt_3 : decode cJ11_charAt 3 = .ok (.invokestatic 9, 3) := dk_184 0 9 (dk_at dksJ11_charAt_0 3 rfl rfl)
theorem dJ11_charAt_6 : decode cJ11_charAt 6 = .ok (.aload_n 0, 1) := dk_42 (dk_at dksJ11_charAt_0 6 rfl rfl)
theorem dJ11_charAt_7 : decode cJ11_charAt 7 = .ok (.iload_n 1, 1) := dk_27 (dk_at dksJ11_charAt_0 7 rfl rfl)
theorem dJ11_charAt_8 : decode cJ11_charAt 8 = .ok (.baload, 1) := dk_51 (dk_at dksJ11_charAt_0 8 rfl rfl)
theorem dJ11_charAt_9 : decode cJ11_charAt 9 = .ok (.sipush 255, 3) := dk_17 0 255 (dk_at dksJ11_charAt_0 9 rfl rfl)
theorem dJ11_charAt_12 : decode cJ11_charAt 12 = .ok (.iand, 1) := dk_126 (dk_at dksJ11_charAt_0 12 rfl rfl)
theorem dJ11_charAt_13 : decode cJ11_charAt 13 = .ok (.i2c, 1) := dk_146 (dk_at dksJ11_charAt_0 13 rfl rfl)
theorem dJ11_charAt_14 : decode cJ11_charAt 14 = .ok (.ireturn, 1) := dk_172 (dk_at dksJ11_charAt_0 14 rfl rfl)
abbrev cJ11_hashCode : ByteArray := prog_40_method_21_code
def yJ11_hashCode : MethodName := ⟨RJ11, "hashCode", "([B)I"⟩
def dkwJ11_hashCode_2 : List UInt8 := [3, 167, 0, 22, 42, 3, 51, 17, 0, 255, 126, 167, 0, 12, 42, 3, 42, 190, 3, 7, 184, 0, 84, 172]
abbrev dktJ11_hashCode_2 : List UInt8 := dkwJ11_hashCode_2 ++ []
def dkwJ11_hashCode_1 : List UInt8 := [171, 0, 0, 0, 0, 40, 0, 0, 0, 2, 0, 0, 0, 0, 0, 0, 0, 26, 0, 0, 0, 1, 0, 0, 0, 30]
abbrev dktJ11_hashCode_1 : List UInt8 := dkwJ11_hashCode_1 ++ dktJ11_hashCode_2
def dkwJ11_hashCode_0 : List UInt8 := [42, 190]
abbrev dktJ11_hashCode_0 : List UInt8 := dkwJ11_hashCode_0 ++ dktJ11_hashCode_1
theorem dksJ11_hashCode_0 : cJ11_hashCode.data.toList.drop 0 = dktJ11_hashCode_0 := by decide +kernel
theorem dksJ11_hashCode_1 : cJ11_hashCode.data.toList.drop 2 = dktJ11_hashCode_1 := dk_seg dksJ11_hashCode_0 2 rfl rfl
theorem dksJ11_hashCode_2 : cJ11_hashCode.data.toList.drop 28 = dktJ11_hashCode_2 := dk_seg dksJ11_hashCode_1 26 rfl rfl
theorem dJ11_hashCode_0 : decode cJ11_hashCode 0 = .ok (.aload_n 0, 1) := dk_42 (dk_at dksJ11_hashCode_0 0 rfl rfl)
theorem dJ11_hashCode_1 : decode cJ11_hashCode 1 = .ok (.arraylength, 1) := dk_190 (dk_at dksJ11_hashCode_0 1 rfl rfl)
theorem dJ11_hashCode_2 : decode cJ11_hashCode 2 = .ok (.lookupswitch 40 #[(0, 26), (1, 30)], 26) := by decide +kernel
theorem dJ11_hashCode_28 : decode cJ11_hashCode 28 = .ok (.iconst 0, 1) := dk_3 (dk_at dksJ11_hashCode_2 0 rfl rfl)
theorem dJ11_hashCode_29 : decode cJ11_hashCode 29 = .ok (.goto 22, 3) := dk_167 0 22 (dk_at dksJ11_hashCode_2 1 rfl rfl)
theorem dJ11_hashCode_32 : decode cJ11_hashCode 32 = .ok (.aload_n 0, 1) := dk_42 (dk_at dksJ11_hashCode_2 4 rfl rfl)
theorem dJ11_hashCode_33 : decode cJ11_hashCode 33 = .ok (.iconst 0, 1) := dk_3 (dk_at dksJ11_hashCode_2 5 rfl rfl)
theorem dJ11_hashCode_34 : decode cJ11_hashCode 34 = .ok (.baload, 1) := dk_51 (dk_at dksJ11_hashCode_2 6 rfl rfl)
theorem dJ11_hashCode_35 : decode cJ11_hashCode 35 = .ok (.sipush 255, 3) := dk_17 0 255 (dk_at dksJ11_hashCode_2 7 rfl rfl)
theorem dJ11_hashCode_38 : decode cJ11_hashCode 38 = .ok (.iand, 1) := dk_126 (dk_at dksJ11_hashCode_2 10 rfl rfl)
theorem dJ11_hashCode_39 : decode cJ11_hashCode 39 = .ok (.goto 12, 3) := dk_167 0 12 (dk_at dksJ11_hashCode_2 11 rfl rfl)
theorem dJ11_hashCode_42 : decode cJ11_hashCode 42 = .ok (.aload_n 0, 1) := dk_42 (dk_at dksJ11_hashCode_2 14 rfl rfl)
theorem dJ11_hashCode_43 : decode cJ11_hashCode 43 = .ok (.iconst 0, 1) := dk_3 (dk_at dksJ11_hashCode_2 15 rfl rfl)
theorem dJ11_hashCode_44 : decode cJ11_hashCode 44 = .ok (.aload_n 0, 1) := dk_42 (dk_at dksJ11_hashCode_2 16 rfl rfl)
theorem dJ11_hashCode_45 : decode cJ11_hashCode 45 = .ok (.arraylength, 1) := dk_190 (dk_at dksJ11_hashCode_2 17 rfl rfl)
theorem dJ11_hashCode_46 : decode cJ11_hashCode 46 = .ok (.iconst 0, 1) := dk_3 (dk_at dksJ11_hashCode_2 18 rfl rfl)
theorem dJ11_hashCode_47 : decode cJ11_hashCode 47 = .ok (.iconst 4, 1) := dk_7 (dk_at dksJ11_hashCode_2 19 rfl rfl)
theorem dJ11_hashCode_48 : decode cJ11_hashCode 48 = .ok (.invokestatic 84, 3) := dk_184 0 84 (dk_at dksJ11_hashCode_2 20 rfl rfl)
theorem dJ11_hashCode_51 : decode cJ11_hashCode 51 = .ok (.ireturn, 1) := dk_172 (dk_at dksJ11_hashCode_2 23 rfl rfl)
abbrev cJ11_equals : ByteArray := prog_40_method_13_code
def yJ11_equals : MethodName := ⟨RJ11, "equals", "([B[B)Z"⟩
def dkwJ11_equals_1 : List UInt8 := [3, 172, 132, 2, 1, 167, 255, 236, 4, 172, 3, 172]
abbrev dktJ11_equals_1 : List UInt8 := dkwJ11_equals_1 ++ []
def dkwJ11_equals_0 : List UInt8 := [42, 190, 43, 190, 160, 0, 30, 3, 61, 28, 42, 190, 162, 0, 20, 42, 28, 51, 43, 28, 51, 159, 0, 5]
abbrev dktJ11_equals_0 : List UInt8 := dkwJ11_equals_0 ++ dktJ11_equals_1
theorem dksJ11_equals_0 : cJ11_equals.data.toList.drop 0 = dktJ11_equals_0 := by decide +kernel
theorem dksJ11_equals_1 : cJ11_equals.data.toList.drop 24 = dktJ11_equals_1 := dk_seg dksJ11_equals_0 24 rfl rfl
theorem dJ11_equals_0 : decode cJ11_equals 0 = .ok (.aload_n 0, 1) := dk_42 (dk_at dksJ11_equals_0 0 rfl rfl)
theorem dJ11_equals_1 : decode cJ11_equals 1 = .ok (.arraylength, 1) := dk_190 (dk_at dksJ11_equals_0 1 rfl rfl)
theorem dJ11_equals_2 : decode cJ11_equals 2 = .ok (.aload_n 1, 1) := dk_43 (dk_at dksJ11_equals_0 2 rfl rfl)
theorem dJ11_equals_3 : decode cJ11_equals 3 = .ok (.arraylength, 1) := dk_190 (dk_at dksJ11_equals_0 3 rfl rfl)
theorem dJ11_equals_4 : decode cJ11_equals 4 = .ok (.if_icmp .ne 30, 3) := dk_160 0 30 (dk_at dksJ11_equals_0 4 rfl rfl)
theorem dJ11_equals_7 : decode cJ11_equals 7 = .ok (.iconst 0, 1) := dk_3 (dk_at dksJ11_equals_0 7 rfl rfl)
theorem dJ11_equals_8 : decode cJ11_equals 8 = .ok (.istore_n 2, 1) := dk_61 (dk_at dksJ11_equals_0 8 rfl rfl)
theorem dJ11_equals_9 : decode cJ11_equals 9 = .ok (.iload_n 2, 1) := dk_28 (dk_at dksJ11_equals_0 9 rfl rfl)
theorem dJ11_equals_10 : decode cJ11_equals 10 = .ok (.aload_n 0, 1) := dk_42 (dk_at dksJ11_equals_0 10 rfl rfl)
theorem dJ11_equals_11 : decode cJ11_equals 11 = .ok (.arraylength, 1) := dk_190 (dk_at dksJ11_equals_0 11 rfl rfl)
theorem dJ11_equals_12 : decode cJ11_equals 12 = .ok (.if_icmp .ge 20, 3) := dk_162 0 20 (dk_at dksJ11_equals_0 12 rfl rfl)
theorem dJ11_equals_15 : decode cJ11_equals 15 = .ok (.aload_n 0, 1) := dk_42 (dk_at dksJ11_equals_0 15 rfl rfl)
theorem dJ11_equals_16 : decode cJ11_equals 16 = .ok (.iload_n 2, 1) := dk_28 (dk_at dksJ11_equals_0 16 rfl rfl)
theorem dJ11_equals_17 : decode cJ11_equals 17 = .ok (.baload, 1) := dk_51 (dk_at dksJ11_equals_0 17 rfl rfl)
theorem dJ11_equals_18 : decode cJ11_equals 18 = .ok (.aload_n 1, 1) := dk_43 (dk_at dksJ11_equals_0 18 rfl rfl)
theorem dJ11_equals_19 : decode cJ11_equals 19 = .ok (.iload_n 2, 1) := dk_28 (dk_at dksJ11_equals_0 19 rfl rfl)
theorem dJ11_equals_20 : decode cJ11_equals 20 = .ok (.baload, 1) := dk_51 (dk_at dksJ11_equals_0 20 rfl rfl)
theorem dJ11_equals_21 : decode cJ11_equals 21 = .ok (.if_icmp .eq 5, 3) := dk_159 0 5 (dk_at dksJ11_equals_0 21 rfl rfl)
theorem dJ11_equals_24 : decode cJ11_equals 24 = .ok (.iconst 0, 1) := dk_3 (dk_at dksJ11_equals_1 0 rfl rfl)
theorem dJ11_equals_25 : decode cJ11_equals 25 = .ok (.ireturn, 1) := dk_172 (dk_at dksJ11_equals_1 1 rfl rfl)
theorem dJ11_equals_26 : decode cJ11_equals 26 = .ok (.iinc 2 1, 3) := dk_132 2 1 (dk_at dksJ11_equals_1 2 rfl rfl)
theorem dJ11_equals_29 : decode cJ11_equals 29 = .ok (.goto (-20), 3) := dk_167 255 236 (dk_at dksJ11_equals_1 5 rfl rfl)
theorem dJ11_equals_32 : decode cJ11_equals 32 = .ok (.iconst 1, 1) := dk_4 (dk_at dksJ11_equals_1 8 rfl rfl)
theorem dJ11_equals_33 : decode cJ11_equals 33 = .ok (.ireturn, 1) := dk_172 (dk_at dksJ11_equals_1 9 rfl rfl)
theorem dJ11_equals_34 : decode cJ11_equals 34 = .ok (.iconst 0, 1) := dk_3 (dk_at dksJ11_equals_1 10 rfl rfl)
theorem dJ11_equals_35 : decode cJ11_equals 35 = .ok (.ireturn, 1) := dk_172 (dk_at dksJ11_equals_1 11 rfl rfl)
theorem q118 : (Jvm.Cond.initialized "java/lang/StringLatin1") ∈ lw_all := lw_g (lw_at lw_m1 16 rfl) rfl
theorem q681 : (Jvm.Cond.static ({ cls := "java/lang/StringLatin1", name := "canEncode", desc := "(C)Z" } : Jvm.MethodName)) ∈ lw_all := lw_g (lw_at lw_m3 99 rfl) rfl
theorem q682 : (Jvm.Cond.code ({ cls := "java/lang/StringLatin1", name := "canEncode", desc := "(C)Z" } : Jvm.MethodName) prog_40_method_3_code (1 : Nat) (Option.some Jvm.ClassFile.FieldType.boolean)) ∈ lw_all := lw_g (lw_at lw_m3 100 rfl) rfl
theorem q688 : (Jvm.Cond.static ({ cls := "java/lang/StringLatin1", name := "inflate", desc := "([BI[BII)V" } : Jvm.MethodName)) ∈ lw_all := lw_g (lw_at lw_m3 106 rfl) rfl
theorem q689 : (Jvm.Cond.code ({ cls := "java/lang/StringLatin1", name := "inflate", desc := "([BI[BII)V" } : Jvm.MethodName) prog_40_method_50_code (5 : Nat) (Option.none : Option Jvm.ClassFile.FieldType)) ∈ lw_all := lw_g (lw_at lw_m3 107 rfl) rfl
theorem q690 : (Jvm.Cond.methodLink "java/lang/StringLatin1" (240 : Nat) ({ cls := "java/lang/StringUTF16", name := "inflate", desc := "([BI[BII)V" } : Jvm.MethodName)) ∈ lw_all := lw_g (lw_at lw_m3 108 rfl) rfl
theorem q881 : (Jvm.Cond.static ({ cls := "java/lang/StringLatin1", name := "fillNull", desc := "([BII)V" } : Jvm.MethodName)) ∈ lw_all := lw_g (lw_at lw_m4 59 rfl) rfl
theorem q882 : (Jvm.Cond.code ({ cls := "java/lang/StringLatin1", name := "fillNull", desc := "([BII)V" } : Jvm.MethodName) prog_40_method_48_code (3 : Nat) (Option.none : Option Jvm.ClassFile.FieldType)) ∈ lw_all := lw_g (lw_at lw_m4 60 rfl) rfl
theorem q883 : (Jvm.Cond.methodLink "java/lang/StringLatin1" (236 : Nat) ({ cls := "java/util/Arrays", name := "fill", desc := "([BIIB)V" } : Jvm.MethodName)) ∈ lw_all := lw_g (lw_at lw_m4 61 rfl) rfl
theorem q976 : (Jvm.Cond.static ({ cls := "java/lang/StringLatin1", name := "charAt", desc := "([BI)C" } : Jvm.MethodName)) ∈ lw_all := lw_g (lw_at lw_m4 154 rfl) rfl
theorem q977 : (Jvm.Cond.code ({ cls := "java/lang/StringLatin1", name := "charAt", desc := "([BI)C" } : Jvm.MethodName) prog_40_method_2_code (2 : Nat) (Option.some Jvm.ClassFile.FieldType.char)) ∈ lw_all := lw_g (lw_at lw_m4 155 rfl) rfl
theorem q978 : (Jvm.Cond.methodLink "java/lang/StringLatin1" (9 : Nat) ({ cls := "java/lang/String", name := "checkIndex", desc := "(II)V" } : Jvm.MethodName)) ∈ lw_all := lw_g (lw_at lw_m4 156 rfl) rfl
theorem q1799 : (Jvm.Cond.static ({ cls := "java/lang/StringLatin1", name := "hashCode", desc := "([B)I" } : Jvm.MethodName)) ∈ lw_all := lw_g (lw_at lw_m8 17 rfl) rfl
theorem q1800 : (Jvm.Cond.code ({ cls := "java/lang/StringLatin1", name := "hashCode", desc := "([B)I" } : Jvm.MethodName) prog_40_method_21_code (1 : Nat) (Option.some Jvm.ClassFile.FieldType.int)) ∈ lw_all := lw_g (lw_at lw_m8 18 rfl) rfl
theorem q1801 : (Jvm.Cond.methodLink "java/lang/StringLatin1" (84 : Nat) ({ cls := "jdk/internal/util/ArraysSupport", name := "vectorizedHashCode", desc := "(Ljava/lang/Object;IIII)I" } : Jvm.MethodName)) ∈ lw_all := lw_g (lw_at lw_m8 19 rfl) rfl
theorem q1850 : (Jvm.Cond.static ({ cls := "java/lang/StringLatin1", name := "equals", desc := "([B[B)Z" } : Jvm.MethodName)) ∈ lw_all := lw_g (lw_at lw_m8 68 rfl) rfl
theorem q1851 : (Jvm.Cond.code ({ cls := "java/lang/StringLatin1", name := "equals", desc := "([B[B)Z" } : Jvm.MethodName) prog_40_method_13_code (3 : Nat) (Option.some Jvm.ClassFile.FieldType.boolean)) ∈ lw_all := lw_g (lw_at lw_m8 69 rfl) rfl

/-! jdk/internal/util/Preconditions -/
set_option maxRecDepth 100000
def RJ12 : String := "jdk/internal/util/Preconditions"
abbrev cJ12_checkIndex : ByteArray := prog_60_method_11_code
def yJ12_checkIndex : MethodName := ⟨RJ12, "checkIndex", "(IILjava/util/function/BiFunction;)I"⟩
def dkwJ12_checkIndex_0 : List UInt8 := [26, 155, 0, 8, 26, 27, 161, 0, 10, 44, 26, 27, 184, 0, 95, 191, 26, 172]
abbrev dktJ12_checkIndex_0 : List UInt8 := dkwJ12_checkIndex_0 ++ []
theorem dksJ12_checkIndex_0 : cJ12_checkIndex.data.toList.drop 0 = dktJ12_checkIndex_0 := by decide +kernel
theorem dJ12_checkIndex_0 : decode cJ12_checkIndex 0 = .ok (.iload_n 0, 1) := dk_26 (dk_at dksJ12_checkIndex_0 0 rfl rfl)
theorem dJ12_checkIndex_1 : decode cJ12_checkIndex 1 = .ok (.ifCond .lt 8, 3) := dk_155 0 8 (dk_at dksJ12_checkIndex_0 1 rfl rfl)
theorem dJ12_checkIndex_4 : decode cJ12_checkIndex 4 = .ok (.iload_n 0, 1) := dk_26 (dk_at dksJ12_checkIndex_0 4 rfl rfl)
theorem dJ12_checkIndex_5 : decode cJ12_checkIndex 5 = .ok (.iload_n 1, 1) := dk_27 (dk_at dksJ12_checkIndex_0 5 rfl rfl)
theorem dJ12_checkIndex_6 : decode cJ12_checkIndex 6 = .ok (.if_icmp .lt 10, 3) := dk_161 0 10 (dk_at dksJ12_checkIndex_0 6 rfl rfl)
theorem dJ12_checkIndex_9 : decode cJ12_checkIndex 9 = .ok (.aload_n 2, 1) := dk_44 (dk_at dksJ12_checkIndex_0 9 rfl rfl)
theorem dJ12_checkIndex_10 : decode cJ12_checkIndex 10 = .ok (.iload_n 0, 1) := dk_26 (dk_at dksJ12_checkIndex_0 10 rfl rfl)
theorem dJ12_checkIndex_11 : decode cJ12_checkIndex 11 = .ok (.iload_n 1, 1) := dk_27 (dk_at dksJ12_checkIndex_0 11 rfl rfl)
theorem dJ12_checkIndex_12 : decode cJ12_checkIndex 12 = .ok (.invokestatic 95, 3) := dk_184 0 95 (dk_at dksJ12_checkIndex_0 12 rfl rfl)
theorem dJ12_checkIndex_15 : decode cJ12_checkIndex 15 = .ok (.athrow, 1) := dk_191 (dk_at dksJ12_checkIndex_0 15 rfl rfl)
theorem dJ12_checkIndex_16 : decode cJ12_checkIndex 16 = .ok (.iload_n 0, 1) := dk_26 (dk_at dksJ12_checkIndex_0 16 rfl rfl)
theorem dJ12_checkIndex_17 : decode cJ12_checkIndex 17 = .ok (.ireturn, 1) := dk_172 (dk_at dksJ12_checkIndex_0 17 rfl rfl)
abbrev cJ12_checkFromIndexSize : ByteArray := prog_60_method_13_code
def yJ12_checkFromIndexSize : MethodName := ⟨RJ12, "checkFromIndexSize", "(IIILjava/util/function/BiFunction;)I"⟩
def dkwJ12_checkFromIndexSize_1 : List UInt8 := [172]
abbrev dktJ12_checkFromIndexSize_1 : List UInt8 := dkwJ12_checkFromIndexSize_1 ++ []
def dkwJ12_checkFromIndexSize_0 : List UInt8 := [28, 26, 128, 27, 128, 155, 0, 10, 27, 28, 26, 100, 164, 0, 11, 45, 26, 27, 28, 184, 0, 103, 191, 26]
abbrev dktJ12_checkFromIndexSize_0 : List UInt8 := dkwJ12_checkFromIndexSize_0 ++ dktJ12_checkFromIndexSize_1
theorem dksJ12_checkFromIndexSize_0 : cJ12_checkFromIndexSize.data.toList.drop 0 = dktJ12_checkFromIndexSize_0 := by decide +kernel
theorem dksJ12_checkFromIndexSize_1 : cJ12_checkFromIndexSize.data.toList.drop 24 = dktJ12_checkFromIndexSize_1 := dk_seg dksJ12_checkFromIndexSize_0 24 rfl rfl
theorem dJ12_checkFromIndexSize_0 : decode cJ12_checkFromIndexSize 0 = .ok (.iload_n 2, 1) := dk_28 (dk_at dksJ12_checkFromIndexSize_0 0 rfl rfl)
theorem dJ12_checkFromIndexSize_1 : decode cJ12_checkFromIndexSize 1 = .ok (.iload_n 0, 1) := dk_26 (dk_at dksJ12_checkFromIndexSize_0 1 rfl rfl)
theorem dJ12_checkFromIndexSize_2 : decode cJ12_checkFromIndexSize 2 = .ok (.ior, 1) := dk_128 (dk_at dksJ12_checkFromIndexSize_0 2 rfl rfl)
theorem dJ12_checkFromIndexSize_3 : decode cJ12_checkFromIndexSize 3 = .ok (.iload_n 1, 1) := dk_27 (dk_at dksJ12_checkFromIndexSize_0 3 rfl rfl)
theorem dJ12_checkFromIndexSize_4 : decode cJ12_checkFromIndexSize 4 = .ok (.ior, 1) := dk_128 (dk_at dksJ12_checkFromIndexSize_0 4 rfl rfl)
theorem dJ12_checkFromIndexSize_5 : decode cJ12_checkFromIndexSize 5 = .ok (.ifCond .lt 10, 3) := dk_155 0 10 (dk_at dksJ12_checkFromIndexSize_0 5 rfl rfl)
theorem dJ12_checkFromIndexSize_8 : decode cJ12_checkFromIndexSize 8 = .ok (.iload_n 1, 1) := dk_27 (dk_at dksJ12_checkFromIndexSize_0 8 rfl rfl)
theorem dJ12_checkFromIndexSize_9 : decode cJ12_checkFromIndexSize 9 = .ok (.iload_n 2, 1) := dk_28 (dk_at dksJ12_checkFromIndexSize_0 9 rfl rfl)
theorem dJ12_checkFromIndexSize_10 : decode cJ12_checkFromIndexSize 10 = .ok (.iload_n 0, 1) := dk_26 (dk_at dksJ12_checkFromIndexSize_0 10 rfl rfl)
theorem dJ12_checkFromIndexSize_11 : decode cJ12_checkFromIndexSize 11 = .ok (.isub, 1) := dk_100 (dk_at dksJ12_checkFromIndexSize_0 11 rfl rfl)
theorem dJ12_checkFromIndexSize_12 : decode cJ12_checkFromIndexSize 12 = .ok (.if_icmp .le 11, 3) := dk_164 0 11 (dk_at dksJ12_checkFromIndexSize_0 12 rfl rfl)
theorem dJ12_checkFromIndexSize_15 : decode cJ12_checkFromIndexSize 15 = .ok (.aload_n 3, 1) := dk_45 (dk_at dksJ12_checkFromIndexSize_0 15 rfl rfl)
theorem dJ12_checkFromIndexSize_16 : decode cJ12_checkFromIndexSize 16 = .ok (.iload_n 0, 1) := dk_26 (dk_at dksJ12_checkFromIndexSize_0 16 rfl rfl)
theorem dJ12_checkFromIndexSize_17 : decode cJ12_checkFromIndexSize 17 = .ok (.iload_n 1, 1) := dk_27 (dk_at dksJ12_checkFromIndexSize_0 17 rfl rfl)
theorem dJ12_checkFromIndexSize_18 : decode cJ12_checkFromIndexSize 18 = .ok (.iload_n 2, 1) := dk_28 (dk_at dksJ12_checkFromIndexSize_0 18 rfl rfl)
theorem dJ12_checkFromIndexSize_19 : decode cJ12_checkFromIndexSize 19 = .ok (.invokestatic 103, 3) := dk_184 0 103 (dk_at dksJ12_checkFromIndexSize_0 19 rfl rfl)
theorem dJ12_checkFromIndexSize_22 : decode cJ12_checkFromIndexSize 22 = .ok (.athrow, 1) := dk_191 (dk_at dksJ12_checkFromIndexSize_0 22 rfl rfl)
theorem dJ12_checkFromIndexSize_23 : decode cJ12_checkFromIndexSize 23 = .ok (.iload_n 0, 1) := dk_26 (dk_at dksJ12_checkFromIndexSize_0 23 rfl rfl)
theorem dJ12_checkFromIndexSize_24 : decode cJ12_checkFromIndexSize 24 = .ok (.ireturn, 1) := dk_172 (dk_at dksJ12_checkFromIndexSize_1 0 rfl rfl)
abbrev cJ12_checkFromToIndex : ByteArray := prog_60_method_12_code
def yJ12_checkFromToIndex : MethodName := ⟨RJ12, "checkFromToIndex", "(IIILjava/util/function/BiFunction;)I"⟩
def dkwJ12_checkFromToIndex_0 : List UInt8 := [26, 155, 0, 13, 26, 27, 163, 0, 8, 27, 28, 164, 0, 11, 45, 26, 27, 28, 184, 0, 99, 191, 26, 172]
abbrev dktJ12_checkFromToIndex_0 : List UInt8 := dkwJ12_checkFromToIndex_0 ++ []
theorem dksJ12_checkFromToIndex_0 : cJ12_checkFromToIndex.data.toList.drop 0 = dktJ12_checkFromToIndex_0 := by decide +kernel
theorem dJ12_checkFromToIndex_0 : decode cJ12_checkFromToIndex 0 = .ok (.iload_n 0, 1) := dk_26 (dk_at dksJ12_checkFromToIndex_0 0 rfl rfl)
theorem dJ12_checkFromToIndex_1 : decode cJ12_checkFromToIndex 1 = .ok (.ifCond .lt 13, 3) := dk_155 0 13 (dk_at dksJ12_checkFromToIndex_0 1 rfl rfl)
theorem dJ12_checkFromToIndex_4 : decode cJ12_checkFromToIndex 4 = .ok (.iload_n 0, 1) := dk_26 (dk_at dksJ12_checkFromToIndex_0 4 rfl rfl)
theorem dJ12_checkFromToIndex_5 : decode cJ12_checkFromToIndex 5 = .ok (.iload_n 1, 1) := dk_27 (dk_at dksJ12_checkFromToIndex_0 5 rfl rfl)
theorem dJ12_checkFromToIndex_6 : decode cJ12_checkFromToIndex 6 = .ok (.if_icmp .gt 8, 3) := dk_163 0 8 (dk_at dksJ12_checkFromToIndex_0 6 rfl rfl)
theorem dJ12_checkFromToIndex_9 : decode cJ12_checkFromToIndex 9 = .ok (.iload_n 1, 1) := dk_27 (dk_at dksJ12_checkFromToIndex_0 9 rfl rfl)
theorem dJ12_checkFromToIndex_10 : decode cJ12_checkFromToIndex 10 = .ok (.iload_n 2, 1) := dk_28 (dk_at dksJ12_checkFromToIndex_0 10 rfl rfl)
theorem dJ12_checkFromToIndex_11 : decode cJ12_checkFromToIndex 11 = .ok (.if_icmp .le 11, 3) := dk_164 0 11 (dk_at dksJ12_checkFromToIndex_0 11 rfl rfl)
theorem dJ12_checkFromToIndex_14 : decode cJ12_checkFromToIndex 14 = .ok (.aload_n 3, 1) := dk_45 (dk_at dksJ12_checkFromToIndex_0 14 rfl rfl)
theorem dJ12_checkFromToIndex_15 : decode cJ12_checkFromToIndex 15 = .ok (.iload_n 0, 1) := dk_26 (dk_at dksJ12_checkFromToIndex_0 15 rfl rfl)
theorem dJ12_checkFromToIndex_16 : decode cJ12_checkFromToIndex 16 = .ok (.iload_n 1, 1) := dk_27 (dk_at dksJ12_checkFromToIndex_0 16 rfl rfl)
theorem dJ12_checkFromToIndex_17 : decode cJ12_checkFromToIndex 17 = .ok (.iload_n 2, 1) := dk_28 (dk_at dksJ12_checkFromToIndex_0 17 rfl rfl)
theorem dJ12_checkFromToIndex_18 : decode cJ12_checkFromToIndex 18 = .ok (.invokestatic 99, 3) := dk_184 0 99 (dk_at dksJ12_checkFromToIndex_0 18 rfl rfl)
theorem dJ12_checkFromToIndex_21 : decode cJ12_checkFromToIndex 21 = .ok (.athrow, 1) := dk_191 (dk_at dksJ12_checkFromToIndex_0 21 rfl rfl)
theorem dJ12_checkFromToIndex_22 : decode cJ12_checkFromToIndex 22 = .ok (.iload_n 0, 1) := dk_26 (dk_at dksJ12_checkFromToIndex_0 22 rfl rfl)
theorem dJ12_checkFromToIndex_23 : decode cJ12_checkFromToIndex 23 = .ok (.ireturn, 1) := dk_172 (dk_at dksJ12_checkFromToIndex_0 23 rfl rfl)
theorem q119 : (Jvm.Cond.initialized "jdk/internal/util/Preconditions") ∈ lw_all := lw_g (lw_at lw_m1 17 rfl) rfl
theorem q632 : (Jvm.Cond.static ({ cls := "jdk/internal/util/Preconditions", name := "checkIndex", desc := "(IILjava/util/function/BiFunction;)I" } : Jvm.MethodName)) ∈ lw_all := lw_g (lw_at lw_m3 50 rfl) rfl
theorem q633 : (Jvm.Cond.code ({ cls := "jdk/internal/util/Preconditions", name := "checkIndex", desc := "(IILjava/util/function/BiFunction;)I" } : Jvm.MethodName) prog_60_method_11_code (3 : Nat) (Option.some Jvm.ClassFile.FieldType.int)) ∈ lw_all := lw_g (lw_at lw_m3 51 rfl) rfl
theorem q703 : (Jvm.Cond.laysStatic "jdk/internal/util/Preconditions" "SIOOBE_FORMATTER" "Ljava/util/function/BiFunction;") ∈ lw_tbl := lw_at lw_m3 121 rfl
theorem q705 : (Jvm.Cond.static ({ cls := "jdk/internal/util/Preconditions", name := "checkFromIndexSize", desc := "(IIILjava/util/function/BiFunction;)I" } : Jvm.MethodName)) ∈ lw_all := lw_g (lw_at lw_m3 123 rfl) rfl
theorem q706 : (Jvm.Cond.code ({ cls := "jdk/internal/util/Preconditions", name := "checkFromIndexSize", desc := "(IIILjava/util/function/BiFunction;)I" } : Jvm.MethodName) prog_60_method_13_code (4 : Nat) (Option.some Jvm.ClassFile.FieldType.int)) ∈ lw_all := lw_g (lw_at lw_m3 124 rfl) rfl
theorem q768 : (Jvm.Cond.static ({ cls := "jdk/internal/util/Preconditions", name := "checkFromToIndex", desc := "(IIILjava/util/function/BiFunction;)I" } : Jvm.MethodName)) ∈ lw_all := lw_g (lw_at lw_m3 186 rfl) rfl
theorem q769 : (Jvm.Cond.code ({ cls := "jdk/internal/util/Preconditions", name := "checkFromToIndex", desc := "(IIILjava/util/function/BiFunction;)I" } : Jvm.MethodName) prog_60_method_12_code (4 : Nat) (Option.some Jvm.ClassFile.FieldType.int)) ∈ lw_all := lw_g (lw_at lw_m3 187 rfl) rfl
theorem q1654 : (Jvm.Cond.laysStatic "jdk/internal/util/Preconditions" "IOOBE_FORMATTER" "Ljava/util/function/BiFunction;") ∈ lw_tbl := lw_at lw_m7 112 rfl

/-! java/lang/IndexOutOfBoundsException -/
set_option maxRecDepth 100000
def RJ13 : String := "java/lang/IndexOutOfBoundsException"
abbrev cJ13_init : ByteArray := prog_29_method_2_code
def yJ13_init : MethodName := ⟨RJ13, "<init>", "(Ljava/lang/String;)V"⟩
def dkwJ13_init_0 : List UInt8 := [42, 43, 183, 0, 7, 177]
abbrev dktJ13_init_0 : List UInt8 := dkwJ13_init_0 ++ []
theorem dksJ13_init_0 : cJ13_init.data.toList.drop 0 = dktJ13_init_0 := by decide +kernel
theorem dJ13_init_0 : decode cJ13_init 0 = .ok (.aload_n 0, 1) := dk_42 (dk_at dksJ13_init_0 0 rfl rfl)
theorem dJ13_init_1 : decode cJ13_init 1 = .ok (.aload_n 1, 1) := dk_43 (dk_at dksJ13_init_0 1 rfl rfl)
theorem dJ13_init_2 : decode cJ13_init 2 = .ok (.invokespecial 7, 3) := dk_183 0 7 (dk_at dksJ13_init_0 2 rfl rfl)
theorem dJ13_init_5 : decode cJ13_init 5 = .ok (.return_, 1) := dk_177 (dk_at dksJ13_init_0 5 rfl rfl)
theorem q120 : (Jvm.Cond.initialized "java/lang/IndexOutOfBoundsException") ∈ lw_all := lw_g (lw_at lw_m1 18 rfl) rfl
theorem q870 : (Jvm.Cond.instanceMethod ({ cls := "java/lang/IndexOutOfBoundsException", name := "<init>", desc := "(Ljava/lang/String;)V" } : Jvm.MethodName)) ∈ lw_all := lw_g (lw_at lw_m4 48 rfl) rfl
theorem q871 : (Jvm.Cond.code ({ cls := "java/lang/IndexOutOfBoundsException", name := "<init>", desc := "(Ljava/lang/String;)V" } : Jvm.MethodName) prog_29_method_2_code (2 : Nat) (Option.none : Option Jvm.ClassFile.FieldType)) ∈ lw_all := lw_g (lw_at lw_m4 49 rfl) rfl
theorem q872 : (Jvm.Cond.methodLink "java/lang/IndexOutOfBoundsException" (7 : Nat) ({ cls := "java/lang/RuntimeException", name := "<init>", desc := "(Ljava/lang/String;)V" } : Jvm.MethodName)) ∈ lw_all := lw_g (lw_at lw_m4 50 rfl) rfl
theorem q892 : (Jvm.Cond.declares ({ cls := "java/lang/IndexOutOfBoundsException", name := "<init>", desc := "()V" } : Jvm.MethodName)) ∈ lw_tbl := lw_at lw_m4 70 rfl
theorem q893 : (Jvm.Cond.declares ({ cls := "java/lang/IndexOutOfBoundsException", name := "<init>", desc := "(Ljava/lang/String;)V" } : Jvm.MethodName)) ∈ lw_tbl := lw_at lw_m4 71 rfl

/-! java/lang/StringIndexOutOfBoundsException -/
set_option maxRecDepth 100000
def RJ14 : String := "java/lang/StringIndexOutOfBoundsException"
def TJ14 : u_T := fun k => match k with
  | 0 => ("java/lang/Throwable", "backtrace", "Ljava/lang/Object;", false)
  | 1 => ("java/lang/Throwable", "detailMessage", "Ljava/lang/String;", false)
  | 2 => ("java/lang/Throwable", "cause", "Ljava/lang/Throwable;", false)
  | 3 => ("java/lang/Throwable", "stackTrace", "[Ljava/lang/StackTraceElement;", false)
  | 4 => ("java/lang/Throwable", "depth", "I", false)
  | _ => ("java/lang/Throwable", "suppressedExceptions", "Ljava/util/List;", false)
def tyJ14 : Nat → FieldType := fun k => match k with
  | 0 => .object "java/lang/Object"
  | 1 => .object "java/lang/String"
  | 2 => .object "java/lang/Throwable"
  | 3 => .array (.object "java/lang/StackTraceElement")
  | 4 => .int
  | _ => .object "java/util/List"
abbrev wsJ140 : List Cond := u_ws RJ14 TJ14 6
theorem nmJ14 : ∀ a, a < 6 → ∀ b, b < 6 → a ≠ b → (TJ14 a).2.1 ≠ (TJ14 b).2.1 := by decide +kernel
theorem tyJ14_ok : ∀ k, k < 6 → parseFieldDescriptor (TJ14 k).2.2.1 = some (tyJ14 k) := by decide +kernel
abbrev cJ14_init : ByteArray := prog_39_method_3_code
def yJ14_init : MethodName := ⟨RJ14, "<init>", "(I)V"⟩
def dkwJ14_init_0 : List UInt8 := [42, 187, 0, 10, 89, 183, 0, 12, 18, 13, 182, 0, 15, 27, 182, 0, 19, 182, 0, 22, 183, 0, 7, 177]
abbrev dktJ14_init_0 : List UInt8 := dkwJ14_init_0 ++ []
theorem dksJ14_init_0 : cJ14_init.data.toList.drop 0 = dktJ14_init_0 := by decide +kernel
theorem dJ14_init_0 : decode cJ14_init 0 = .ok (.aload_n 0, 1) := dk_42 (dk_at dksJ14_init_0 0 rfl rfl)
theorem dJ14_init_1 : decode cJ14_init 1 = .ok (.new 10, 3) := dk_187 0 10 (dk_at dksJ14_init_0 1 rfl rfl)
theorem dJ14_init_4 : decode cJ14_init 4 = .ok (.dup, 1) := dk_89 (dk_at dksJ14_init_0 4 rfl rfl)
theorem dJ14_init_5 : decode cJ14_init 5 = .ok (.invokespecial 12, 3) := dk_183 0 12 (dk_at dksJ14_init_0 5 rfl rfl)
theorem dJ14_init_8 : decode cJ14_init 8 = .ok (.ldc 13, 2) := dk_18 13 (dk_at dksJ14_init_0 8 rfl rfl)
theorem dJ14_init_10 : decode cJ14_init 10 = .ok (.invokevirtual 15, 3) := dk_182 0 15 (dk_at dksJ14_init_0 10 rfl rfl)
theorem dJ14_init_13 : decode cJ14_init 13 = .ok (.iload_n 1, 1) := dk_27 (dk_at dksJ14_init_0 13 rfl rfl)
theorem dJ14_init_14 : decode cJ14_init 14 = .ok (.invokevirtual 19, 3) := dk_182 0 19 (dk_at dksJ14_init_0 14 rfl rfl)
theorem dJ14_init_17 : decode cJ14_init 17 = .ok (.invokevirtual 22, 3) := dk_182 0 22 (dk_at dksJ14_init_0 17 rfl rfl)
theorem dJ14_init_20 : decode cJ14_init 20 = .ok (.invokespecial 7, 3) := dk_183 0 7 (dk_at dksJ14_init_0 20 rfl rfl)
theorem dJ14_init_23 : decode cJ14_init 23 = .ok (.return_, 1) := dk_177 (dk_at dksJ14_init_0 23 rfl rfl)
theorem q121 : (Jvm.Cond.initialized "java/lang/StringIndexOutOfBoundsException") ∈ lw_all := lw_g (lw_at lw_m1 19 rfl) rfl
theorem q238 : (Jvm.Cond.selects "java/lang/StringIndexOutOfBoundsException" ({ cls := "java/lang/Throwable", name := "fillInStackTrace", desc := "()Ljava/lang/Throwable;" } : Jvm.MethodName) ({ cls := "java/lang/Throwable", name := "fillInStackTrace", desc := "()Ljava/lang/Throwable;" } : Jvm.MethodName)) ∈ lw_all := lw_g (lw_at lw_m1 136 rfl) rfl
theorem q595 : (Jvm.Cond.selects "java/lang/StringIndexOutOfBoundsException" ({ cls := "java/lang/Object", name := "getClass", desc := "()Ljava/lang/Class;" } : Jvm.MethodName) ({ cls := "java/lang/Object", name := "getClass", desc := "()Ljava/lang/Class;" } : Jvm.MethodName)) ∈ lw_all := lw_g (lw_at lw_m3 13 rfl) rfl
theorem q738 : (Jvm.Cond.instantiable "java/lang/StringIndexOutOfBoundsException" (6 : Nat)) ∈ lw_all := lw_g (lw_at lw_m3 156 rfl) rfl
theorem q740 : (Jvm.Cond.instanceMethod ({ cls := "java/lang/StringIndexOutOfBoundsException", name := "<init>", desc := "(I)V" } : Jvm.MethodName)) ∈ lw_all := lw_g (lw_at lw_m3 158 rfl) rfl
theorem q741 : (Jvm.Cond.code ({ cls := "java/lang/StringIndexOutOfBoundsException", name := "<init>", desc := "(I)V" } : Jvm.MethodName) prog_39_method_3_code (2 : Nat) (Option.none : Option Jvm.ClassFile.FieldType)) ∈ lw_all := lw_g (lw_at lw_m3 159 rfl) rfl
theorem q742 : (Jvm.Cond.classLink "java/lang/StringIndexOutOfBoundsException" (10 : Nat) "java/lang/StringBuilder") ∈ lw_all := lw_g (lw_at lw_m3 160 rfl) rfl
theorem q743 : (Jvm.Cond.methodLink "java/lang/StringIndexOutOfBoundsException" (12 : Nat) ({ cls := "java/lang/StringBuilder", name := "<init>", desc := "()V" } : Jvm.MethodName)) ∈ lw_all := lw_g (lw_at lw_m3 161 rfl) rfl
theorem q746 : (Jvm.Cond.stringRef "java/lang/StringIndexOutOfBoundsException" (13 : Nat) "String index out of range: ") ∈ lw_tbl := lw_at lw_m3 164 rfl
theorem q747 : (Jvm.Cond.methodLink "java/lang/StringIndexOutOfBoundsException" (15 : Nat) ({ cls := "java/lang/StringBuilder", name := "append", desc := "(Ljava/lang/String;)Ljava/lang/StringBuilder;" } : Jvm.MethodName)) ∈ lw_all := lw_g (lw_at lw_m3 165 rfl) rfl
theorem q794 : (Jvm.Cond.methodLink "java/lang/StringIndexOutOfBoundsException" (19 : Nat) ({ cls := "java/lang/StringBuilder", name := "append", desc := "(I)Ljava/lang/StringBuilder;" } : Jvm.MethodName)) ∈ lw_all := lw_g (lw_at lw_m3 212 rfl) rfl
theorem q819 : (Jvm.Cond.methodLink "java/lang/StringIndexOutOfBoundsException" (22 : Nat) ({ cls := "java/lang/StringBuilder", name := "toString", desc := "()Ljava/lang/String;" } : Jvm.MethodName)) ∈ lw_all := lw_g (lw_at lw_m3 237 rfl) rfl
theorem q869 : (Jvm.Cond.methodLink "java/lang/StringIndexOutOfBoundsException" (7 : Nat) ({ cls := "java/lang/IndexOutOfBoundsException", name := "<init>", desc := "(Ljava/lang/String;)V" } : Jvm.MethodName)) ∈ lw_all := lw_g (lw_at lw_m4 47 rfl) rfl
theorem q873 : (Jvm.Cond.lays "java/lang/StringIndexOutOfBoundsException" "java/lang/Throwable" "backtrace" "Ljava/lang/Object;") ∈ lw_all := lw_g (lw_at lw_m4 51 rfl) rfl
theorem q874 : (Jvm.Cond.lays "java/lang/StringIndexOutOfBoundsException" "java/lang/Throwable" "detailMessage" "Ljava/lang/String;") ∈ lw_all := lw_g (lw_at lw_m4 52 rfl) rfl
theorem q875 : (Jvm.Cond.lays "java/lang/StringIndexOutOfBoundsException" "java/lang/Throwable" "cause" "Ljava/lang/Throwable;") ∈ lw_all := lw_g (lw_at lw_m4 53 rfl) rfl
theorem q876 : (Jvm.Cond.lays "java/lang/StringIndexOutOfBoundsException" "java/lang/Throwable" "stackTrace" "[Ljava/lang/StackTraceElement;") ∈ lw_all := lw_g (lw_at lw_m4 54 rfl) rfl
theorem q877 : (Jvm.Cond.lays "java/lang/StringIndexOutOfBoundsException" "java/lang/Throwable" "depth" "I") ∈ lw_all := lw_g (lw_at lw_m4 55 rfl) rfl
theorem q878 : (Jvm.Cond.lays "java/lang/StringIndexOutOfBoundsException" "java/lang/Throwable" "suppressedExceptions" "Ljava/util/List;") ∈ lw_all := lw_g (lw_at lw_m4 56 rfl) rfl
theorem q879 : (Jvm.Cond.superclass "java/lang/StringIndexOutOfBoundsException" "java/lang/IndexOutOfBoundsException") ∈ lw_all := lw_g (lw_at lw_m4 57 rfl) rfl
theorem q1556 : (Jvm.Cond.selects "java/lang/StringIndexOutOfBoundsException" ({ cls := "java/lang/Throwable", name := "getLocalizedMessage", desc := "()Ljava/lang/String;" } : Jvm.MethodName) ({ cls := "java/lang/Throwable", name := "getLocalizedMessage", desc := "()Ljava/lang/String;" } : Jvm.MethodName)) ∈ lw_all := lw_g (lw_at lw_m7 14 rfl) rfl
theorem q1573 : (Jvm.Cond.selects "java/lang/StringIndexOutOfBoundsException" ({ cls := "java/lang/Throwable", name := "getMessage", desc := "()Ljava/lang/String;" } : Jvm.MethodName) ({ cls := "java/lang/Throwable", name := "getMessage", desc := "()Ljava/lang/String;" } : Jvm.MethodName)) ∈ lw_all := lw_g (lw_at lw_m7 31 rfl) rfl
theorem q1592 : (Jvm.Cond.selects "java/lang/StringIndexOutOfBoundsException" ({ cls := "java/lang/Object", name := "toString", desc := "()Ljava/lang/String;" } : Jvm.MethodName) ({ cls := "java/lang/Throwable", name := "toString", desc := "()Ljava/lang/String;" } : Jvm.MethodName)) ∈ lw_all := lw_g (lw_at lw_m7 50 rfl) rfl
theorem q2618 : (Jvm.Cond.castable "java/lang/StringIndexOutOfBoundsException" "java/lang/IndexOutOfBoundsException") ∈ lw_tbl := lw_at lw_m11 116 rfl
theorem q2633 : (Jvm.Cond.castable "java/lang/StringIndexOutOfBoundsException" "java/lang/Object") ∈ lw_tbl := lw_at lw_m11 131 rfl
theorem in_J14 : ∀ w ∈ wsJ140, w ∈ lw_all := lw_in wsJ140 [873, 874, 875, 876, 877, 878] (by decide +kernel) (by decide +kernel)

/-! java/lang/Integer -/
set_option maxRecDepth 100000
def RJ15 : String := "java/lang/Integer"
abbrev cJ15_stringSize : ByteArray := prog_30_method_13_code
def yJ15_stringSize : MethodName := ⟨RJ15, "stringSize", "(I)I"⟩
def dkwJ15_stringSize_1 : List UInt8 := [164, 0, 7, 29, 27, 96, 172, 16, 10, 28, 104, 61, 132, 3, 1, 167, 255, 233, 16, 10, 27, 96, 172]
abbrev dktJ15_stringSize_1 : List UInt8 := dkwJ15_stringSize_1 ++ []
def dkwJ15_stringSize_0 : List UInt8 := [4, 60, 26, 155, 0, 8, 3, 60, 26, 116, 59, 16, 246, 61, 4, 62, 29, 16, 10, 162, 0, 23, 26, 28]
abbrev dktJ15_stringSize_0 : List UInt8 := dkwJ15_stringSize_0 ++ dktJ15_stringSize_1
theorem dksJ15_stringSize_0 : cJ15_stringSize.data.toList.drop 0 = dktJ15_stringSize_0 := by decide +kernel
theorem dksJ15_stringSize_1 : cJ15_stringSize.data.toList.drop 24 = dktJ15_stringSize_1 := dk_seg dksJ15_stringSize_0 24 rfl rfl
theorem dJ15_stringSize_0 : decode cJ15_stringSize 0 = .ok (.iconst 1, 1) := dk_4 (dk_at dksJ15_stringSize_0 0 rfl rfl)
theorem dJ15_stringSize_1 : decode cJ15_stringSize 1 = .ok (.istore_n 1, 1) := dk_60 (dk_at dksJ15_stringSize_0 1 rfl rfl)
theorem dJ15_stringSize_2 : decode cJ15_stringSize 2 = .ok (.iload_n 0, 1) := dk_26 (dk_at dksJ15_stringSize_0 2 rfl rfl)
theorem dJ15_stringSize_3 : decode cJ15_stringSize 3 = .ok (.ifCond .lt 8, 3) := dk_155 0 8 (dk_at dksJ15_stringSize_0 3 rfl rfl)
theorem dJ15_stringSize_6 : decode cJ15_stringSize 6 = .ok (.iconst 0, 1) := dk_3 (dk_at dksJ15_stringSize_0 6 rfl rfl)
theorem dJ15_stringSize_7 : decode cJ15_stringSize 7 = .ok (.istore_n 1, 1) := dk_60 (dk_at dksJ15_stringSize_0 7 rfl rfl)
theorem dJ15_stringSize_8 : decode cJ15_stringSize 8 = .ok (.iload_n 0, 1) := dk_26 (dk_at dksJ15_stringSize_0 8 rfl rfl)
theorem dJ15_stringSize_9 : decode cJ15_stringSize 9 = .ok (.ineg, 1) := dk_116 (dk_at dksJ15_stringSize_0 9 rfl rfl)
theorem dJ15_stringSize_10 : decode cJ15_stringSize 10 = .ok (.istore_n 0, 1) := dk_59 (dk_at dksJ15_stringSize_0 10 rfl rfl)
theorem dJ15_stringSize_11 : decode cJ15_stringSize 11 = .ok (.bipush (-10), 2) := dk_16 246 (dk_at dksJ15_stringSize_0 11 rfl rfl)
theorem dJ15_stringSize_13 : decode cJ15_stringSize 13 = .ok (.istore_n 2, 1) := dk_61 (dk_at dksJ15_stringSize_0 13 rfl rfl)
theorem dJ15_stringSize_14 : decode cJ15_stringSize 14 = .ok (.iconst 1, 1) := dk_4 (dk_at dksJ15_stringSize_0 14 rfl rfl)
theorem dJ15_stringSize_15 : decode cJ15_stringSize 15 = .ok (.istore_n 3, 1) := dk_62 (dk_at dksJ15_stringSize_0 15 rfl rfl)
theorem dJ15_stringSize_16 : decode cJ15_stringSize 16 = .ok (.iload_n 3, 1) := dk_29 (dk_at dksJ15_stringSize_0 16 rfl rfl)
theorem dJ15_stringSize_17 : decode cJ15_stringSize 17 = .ok (.bipush 10, 2) := dk_16 10 (dk_at dksJ15_stringSize_0 17 rfl rfl)
theorem dJ15_stringSize_19 : decode cJ15_stringSize 19 = .ok (.if_icmp .ge 23, 3) := dk_162 0 23 (dk_at dksJ15_stringSize_0 19 rfl rfl)
theorem dJ15_stringSize_22 : decode cJ15_stringSize 22 = .ok (.iload_n 0, 1) := dk_26 (dk_at dksJ15_stringSize_0 22 rfl rfl)
theorem dJ15_stringSize_23 : decode cJ15_stringSize 23 = .ok (.iload_n 2, 1) := dk_28 (dk_at dksJ15_stringSize_0 23 rfl rfl)
theorem dJ15_stringSize_24 : decode cJ15_stringSize 24 = .ok (.if_icmp .le 7, 3) := dk_164 0 7 (dk_at dksJ15_stringSize_1 0 rfl rfl)
theorem dJ15_stringSize_27 : decode cJ15_stringSize 27 = .ok (.iload_n 3, 1) := dk_29 (dk_at dksJ15_stringSize_1 3 rfl rfl)
theorem dJ15_stringSize_28 : decode cJ15_stringSize 28 = .ok (.iload_n 1, 1) := dk_27 (dk_at dksJ15_stringSize_1 4 rfl rfl)
theorem dJ15_stringSize_29 : decode cJ15_stringSize 29 = .ok (.iadd, 1) := dk_96 (dk_at dksJ15_stringSize_1 5 rfl rfl)
theorem dJ15_stringSize_30 : decode cJ15_stringSize 30 = .ok (.ireturn, 1) := dk_172 (dk_at dksJ15_stringSize_1 6 rfl rfl)
theorem dJ15_stringSize_31 : decode cJ15_stringSize 31 = .ok (.bipush 10, 2) := dk_16 10 (dk_at dksJ15_stringSize_1 7 rfl rfl)
theorem dJ15_stringSize_33 : decode cJ15_stringSize 33 = .ok (.iload_n 2, 1) := dk_28 (dk_at dksJ15_stringSize_1 9 rfl rfl)
theorem dJ15_stringSize_34 : decode cJ15_stringSize 34 = .ok (.imul, 1) := dk_104 (dk_at dksJ15_stringSize_1 10 rfl rfl)
theorem dJ15_stringSize_35 : decode cJ15_stringSize 35 = .ok (.istore_n 2, 1) := dk_61 (dk_at dksJ15_stringSize_1 11 rfl rfl)
theorem dJ15_stringSize_36 : decode cJ15_stringSize 36 = .ok (.iinc 3 1, 3) := dk_132 3 1 (dk_at dksJ15_stringSize_1 12 rfl rfl)
theorem dJ15_stringSize_39 : decode cJ15_stringSize 39 = .ok (.goto (-23), 3) := dk_167 255 233 (dk_at dksJ15_stringSize_1 15 rfl rfl)
theorem dJ15_stringSize_42 : decode cJ15_stringSize 42 = .ok (.bipush 10, 2) := dk_16 10 (dk_at dksJ15_stringSize_1 18 rfl rfl)
theorem dJ15_stringSize_44 : decode cJ15_stringSize 44 = .ok (.iload_n 1, 1) := dk_27 (dk_at dksJ15_stringSize_1 20 rfl rfl)
theorem dJ15_stringSize_45 : decode cJ15_stringSize 45 = .ok (.iadd, 1) := dk_96 (dk_at dksJ15_stringSize_1 21 rfl rfl)
theorem dJ15_stringSize_46 : decode cJ15_stringSize 46 = .ok (.ireturn, 1) := dk_172 (dk_at dksJ15_stringSize_1 22 rfl rfl)
abbrev cJ15_getChars : ByteArray := prog_30_method_12_code
def yJ15_getChars : MethodName := ⟨RJ15, "getChars", "(II[B)I"⟩
def dkwJ15_getChars_5 : List UInt8 := [16, 45, 84, 21, 5, 172]
abbrev dktJ15_getChars_5 : List UInt8 := dkwJ15_getChars_5 ++ []
def dkwJ15_getChars_4 : List UInt8 := [132, 5, 255, 21, 5, 178, 0, 87, 26, 116, 51, 84, 21, 6, 153, 0, 12, 44, 132, 5, 255, 21, 5]
abbrev dktJ15_getChars_4 : List UInt8 := dkwJ15_getChars_4 ++ dktJ15_getChars_5
def dkwJ15_getChars_3 : List UInt8 := [167, 255, 209, 44, 132, 5, 255, 21, 5, 178, 0, 83, 26, 116, 51, 84, 26, 16, 247, 162, 0, 16, 44]
abbrev dktJ15_getChars_3 : List UInt8 := dkwJ15_getChars_3 ++ dktJ15_getChars_4
def dkwJ15_getChars_2 : List UInt8 := [21, 5, 178, 0, 83, 21, 4, 51, 84, 44, 132, 5, 255, 21, 5, 178, 0, 87, 21, 4, 51, 84]
abbrev dktJ15_getChars_2 : List UInt8 := dkwJ15_getChars_2 ++ dktJ15_getChars_3
def dkwJ15_getChars_1 : List UInt8 := [16, 156, 163, 0, 47, 26, 16, 100, 108, 62, 29, 16, 100, 104, 26, 100, 54, 4, 29, 59, 44, 132, 5, 255]
abbrev dktJ15_getChars_1 : List UInt8 := dkwJ15_getChars_1 ++ dktJ15_getChars_2
def dkwJ15_getChars_0 : List UInt8 := [27, 54, 5, 26, 156, 0, 7, 4, 167, 0, 4, 3, 54, 6, 21, 6, 154, 0, 6, 26, 116, 59, 26]
abbrev dktJ15_getChars_0 : List UInt8 := dkwJ15_getChars_0 ++ dktJ15_getChars_1
theorem dksJ15_getChars_0 : cJ15_getChars.data.toList.drop 0 = dktJ15_getChars_0 := by decide +kernel
theorem dksJ15_getChars_1 : cJ15_getChars.data.toList.drop 23 = dktJ15_getChars_1 := dk_seg dksJ15_getChars_0 23 rfl rfl
theorem dksJ15_getChars_2 : cJ15_getChars.data.toList.drop 47 = dktJ15_getChars_2 := dk_seg dksJ15_getChars_1 24 rfl rfl
theorem dksJ15_getChars_3 : cJ15_getChars.data.toList.drop 69 = dktJ15_getChars_3 := dk_seg dksJ15_getChars_2 22 rfl rfl
theorem dksJ15_getChars_4 : cJ15_getChars.data.toList.drop 92 = dktJ15_getChars_4 := dk_seg dksJ15_getChars_3 23 rfl rfl
theorem dksJ15_getChars_5 : cJ15_getChars.data.toList.drop 115 = dktJ15_getChars_5 := dk_seg dksJ15_getChars_4 23 rfl rfl
theorem dJ15_getChars_0 : decode cJ15_getChars 0 = .ok (.iload_n 1, 1) := dk_27 (dk_at dksJ15_getChars_0 0 rfl rfl)
theorem dJ15_getChars_1 : decode cJ15_getChars 1 = .ok (.istore 5, 2) := dk_54 5 (dk_at dksJ15_getChars_0 1 rfl rfl)
theorem dJ15_getChars_3 : decode cJ15_getChars 3 = .ok (.iload_n 0, 1) := dk_26 (dk_at dksJ15_getChars_0 3 rfl rfl)
theorem dJ15_getChars_4 : decode cJ15_getChars 4 = .ok (.ifCond .ge 7, 3) := dk_156 0 7 (dk_at dksJ15_getChars_0 4 rfl rfl)
theorem dJ15_getChars_7 : decode cJ15_getChars 7 = .ok (.iconst 1, 1) := dk_4 (dk_at dksJ15_getChars_0 7 rfl rfl)
theorem dJ15_getChars_8 : decode cJ15_getChars 8 = .ok (.goto 4, 3) := dk_167 0 4 (dk_at dksJ15_getChars_0 8 rfl rfl)
theorem dJ15_getChars_11 : decode cJ15_getChars 11 = .ok (.iconst 0, 1) := dk_3 (dk_at dksJ15_getChars_0 11 rfl rfl)
theorem dJ15_getChars_12 : decode cJ15_getChars 12 = .ok (.istore 6, 2) := dk_54 6 (dk_at dksJ15_getChars_0 12 rfl rfl)
theorem dJ15_getChars_14 : decode cJ15_getChars 14 = .ok (.iload 6, 2) := dk_21 6 (dk_at dksJ15_getChars_0 14 rfl rfl)
theorem dJ15_getChars_16 : decode cJ15_getChars 16 = .ok (.ifCond .ne 6, 3) := dk_154 0 6 (dk_at dksJ15_getChars_0 16 rfl rfl)
theorem dJ15_getChars_19 : decode cJ15_getChars 19 = .ok (.iload_n 0, 1) := dk_26 (dk_at dksJ15_getChars_0 19 rfl rfl)
theorem dJ15_getChars_20 : decode cJ15_getChars 20 = .ok (.ineg, 1) := dk_116 (dk_at dksJ15_getChars_0 20 rfl rfl)
theorem dJ15_getChars_21 : decode cJ15_getChars 21 = .ok (.istore_n 0, 1) := dk_59 (dk_at dksJ15_getChars_0 21 rfl rfl)
theorem dJ15_getChars_22 : decode cJ15_getChars 22 = .ok (.iload_n 0, 1) := dk_26 (dk_at dksJ15_getChars_0 22 rfl rfl)
theorem dJ15_getChars_23 : decode cJ15_getChars 23 = .ok (.bipush (-100), 2) := dk_16 156 (dk_at dksJ15_getChars_1 0 rfl rfl)
theorem dJ15_getChars_25 : decode cJ15_getChars 25 = .ok (.if_icmp .gt 47, 3) := dk_163 0 47 (dk_at dksJ15_getChars_1 2 rfl rfl)
theorem dJ15_getChars_28 : decode cJ15_getChars 28 = .ok (.iload_n 0, 1) := dk_26 (dk_at dksJ15_getChars_1 5 rfl rfl)
theorem dJ15_getChars_29 : decode cJ15_getChars 29 = .ok (.bipush 100, 2) := dk_16 100 (dk_at dksJ15_getChars_1 6 rfl rfl)
theorem dJ15_getChars_31 : decode cJ15_getChars 31 = .ok (.idiv, 1) := dk_108 (dk_at dksJ15_getChars_1 8 rfl rfl)
theorem dJ15_getChars_32 : decode cJ15_getChars 32 = .ok (.istore_n 3, 1) := dk_62 (dk_at dksJ15_getChars_1 9 rfl rfl)
theorem dJ15_getChars_33 : decode cJ15_getChars 33 = .ok (.iload_n 3, 1) := dk_29 (dk_at dksJ15_getChars_1 10 rfl rfl)
theorem dJ15_getChars_34 : decode cJ15_getChars 34 = .ok (.bipush 100, 2) := dk_16 100 (dk_at dksJ15_getChars_1 11 rfl rfl)
theorem dJ15_getChars_36 : decode cJ15_getChars 36 = .ok (.imul, 1) := dk_104 (dk_at dksJ15_getChars_1 13 rfl rfl)
theorem dJ15_getChars_37 : decode cJ15_getChars 37 = .ok (.iload_n 0, 1) := dk_26 (dk_at dksJ15_getChars_1 14 rfl rfl)
theorem dJ15_getChars_38 : decode cJ15_getChars 38 = .ok (.isub, 1) := dk_100 (dk_at dksJ15_getChars_1 15 rfl rfl)
theorem dJ15_getChars_39 : decode cJ15_getChars 39 = .ok (.istore 4, 2) := dk_54 4 (dk_at dksJ15_getChars_1 16 rfl rfl)
theorem dJ15_getChars_41 : decode cJ15_getChars 41 = .ok (.iload_n 3, 1) := dk_29 (dk_at dksJ15_getChars_1 18 rfl rfl)
theorem dJ15_getChars_42 : decode cJ15_getChars 42 = .ok (.istore_n 0, 1) := dk_59 (dk_at dksJ15_getChars_1 19 rfl rfl)
theorem dJ15_getChars_43 : decode cJ15_getChars 43 = .ok (.aload_n 2, 1) := dk_44 (dk_at dksJ15_getChars_1 20 rfl rfl)
theorem dJ15_getChars_44 : decode cJ15_getChars 44 = .ok (.iinc 5 (-1), 3) := dk_132 5 255 (dk_at dksJ15_getChars_1 21 rfl rfl)
theorem dJ15_getChars_47 : decode cJ15_getChars 47 = .ok (.iload 5, 2) := dk_21 5 (dk_at dksJ15_getChars_2 0 rfl rfl)
theorem dJ15_getChars_49 : decode cJ15_getChars 49 = .ok (.getstatic 83, 3) := dk_178 0 83 (dk_at dksJ15_getChars_2 2 rfl rfl)
theorem dJ15_getChars_52 : decode cJ15_getChars 52 = .ok (.iload 4, 2) := dk_21 4 (dk_at dksJ15_getChars_2 5 rfl rfl)
theorem dJ15_getChars_54 : decode cJ15_getChars 54 = .ok (.baload, 1) := dk_51 (dk_at dksJ15_getChars_2 7 rfl rfl)
theorem dJ15_getChars_55 : decode cJ15_getChars 55 = .ok (.bastore, 1) := dk_84 (dk_at dksJ15_getChars_2 8 rfl rfl)
theorem dJ15_getChars_56 : decode cJ15_getChars 56 = .ok (.aload_n 2, 1) := dk_44 (dk_at dksJ15_getChars_2 9 rfl rfl)
theorem dJ15_getChars_57 : decode cJ15_getChars 57 = .ok (.iinc 5 (-1), 3) := dk_132 5 255 (dk_at dksJ15_getChars_2 10 rfl rfl)
theorem dJ15_getChars_60 : decode cJ15_getChars 60 = .ok (.iload 5, 2) := dk_21 5 (dk_at dksJ15_getChars_2 13 rfl rfl)
theorem dJ15_getChars_62 : decode cJ15_getChars 62 = .ok (.getstatic 87, 3) := dk_178 0 87 (dk_at dksJ15_getChars_2 15 rfl rfl)
theorem dJ15_getChars_65 : decode cJ15_getChars 65 = .ok (.iload 4, 2) := dk_21 4 (dk_at dksJ15_getChars_2 18 rfl rfl)
theorem dJ15_getChars_67 : decode cJ15_getChars 67 = .ok (.baload, 1) := dk_51 (dk_at dksJ15_getChars_2 20 rfl rfl)
theorem dJ15_getChars_68 : decode cJ15_getChars 68 = .ok (.bastore, 1) := dk_84 (dk_at dksJ15_getChars_2 21 rfl rfl)
theorem dJ15_getChars_69 : decode cJ15_getChars 69 = .ok (.goto (-47), 3) := dk_167 255 209 (dk_at dksJ15_getChars_3 0 rfl rfl)
theorem dJ15_getChars_72 : decode cJ15_getChars 72 = .ok (.aload_n 2, 1) := dk_44 (dk_at dksJ15_getChars_3 3 rfl rfl)
theorem dJ15_getChars_73 : decode cJ15_getChars 73 = .ok (.iinc 5 (-1), 3) := dk_132 5 255 (dk_at dksJ15_getChars_3 4 rfl rfl)
theorem dJ15_getChars_76 : decode cJ15_getChars 76 = .ok (.iload 5, 2) := dk_21 5 (dk_at dksJ15_getChars_3 7 rfl rfl)
theorem dJ15_getChars_78 : decode cJ15_getChars 78 = .ok (.getstatic 83, 3) := dk_178 0 83 (dk_at dksJ15_getChars_3 9 rfl rfl)
theorem dJ15_getChars_81 : decode cJ15_getChars 81 = .ok (.iload_n 0, 1) := dk_26 (dk_at dksJ15_getChars_3 12 rfl rfl)
theorem dJ15_getChars_82 : decode cJ15_getChars 82 = .ok (.ineg, 1) := dk_116 (dk_at dksJ15_getChars_3 13 rfl rfl)
theorem dJ15_getChars_83 : decode cJ15_getChars 83 = .ok (.baload, 1) := dk_51 (dk_at dksJ15_getChars_3 14 rfl rfl)
theorem dJ15_getChars_84 : decode cJ15_getChars 84 = .ok (.bastore, 1) := dk_84 (dk_at dksJ15_getChars_3 15 rfl rfl)
theorem dJ15_getChars_85 : decode cJ15_getChars 85 = .ok (.iload_n 0, 1) := dk_26 (dk_at dksJ15_getChars_3 16 rfl rfl)
theorem dJ15_getChars_86 : decode cJ15_getChars 86 = .ok (.bipush (-9), 2) := dk_16 247 (dk_at dksJ15_getChars_3 17 rfl rfl)
theorem dJ15_getChars_88 : decode cJ15_getChars 88 = .ok (.if_icmp .ge 16, 3) := dk_162 0 16 (dk_at dksJ15_getChars_3 19 rfl rfl)
theorem dJ15_getChars_91 : decode cJ15_getChars 91 = .ok (.aload_n 2, 1) := dk_44 (dk_at dksJ15_getChars_3 22 rfl rfl)
theorem dJ15_getChars_92 : decode cJ15_getChars 92 = .ok (.iinc 5 (-1), 3) := dk_132 5 255 (dk_at dksJ15_getChars_4 0 rfl rfl)
theorem dJ15_getChars_95 : decode cJ15_getChars 95 = .ok (.iload 5, 2) := dk_21 5 (dk_at dksJ15_getChars_4 3 rfl rfl)
theorem dJ15_getChars_97 : decode cJ15_getChars 97 = .ok (.getstatic 87, 3) := dk_178 0 87 (dk_at dksJ15_getChars_4 5 rfl rfl)
theorem dJ15_getChars_100 : decode cJ15_getChars 100 = .ok (.iload_n 0, 1) := dk_26 (dk_at dksJ15_getChars_4 8 rfl rfl)
theorem dJ15_getChars_101 : decode cJ15_getChars 101 = .ok (.ineg, 1) := dk_116 (dk_at dksJ15_getChars_4 9 rfl rfl)
theorem dJ15_getChars_102 : decode cJ15_getChars 102 = .ok (.baload, 1) := dk_51 (dk_at dksJ15_getChars_4 10 rfl rfl)
theorem dJ15_getChars_103 : decode cJ15_getChars 103 = .ok (.bastore, 1) := dk_84 (dk_at dksJ15_getChars_4 11 rfl rfl)
theorem dJ15_getChars_104 : decode cJ15_getChars 104 = .ok (.iload 6, 2) := dk_21 6 (dk_at dksJ15_getChars_4 12 rfl rfl)
theorem dJ15_getChars_106 : decode cJ15_getChars 106 = .ok (.ifCond .eq 12, 3) := dk_153 0 12 (dk_at dksJ15_getChars_4 14 rfl rfl)
theorem dJ15_getChars_109 : decode cJ15_getChars 109 = .ok (.aload_n 2, 1) := dk_44 (dk_at dksJ15_getChars_4 17 rfl rfl)
theorem dJ15_getChars_110 : decode cJ15_getChars 110 = .ok (.iinc 5 (-1), 3) := dk_132 5 255 (dk_at dksJ15_getChars_4 18 rfl rfl)
theorem dJ15_getChars_113 : decode cJ15_getChars 113 = .ok (.iload 5, 2) := dk_21 5 (dk_at dksJ15_getChars_4 21 rfl rfl)
theorem dJ15_getChars_115 : decode cJ15_getChars 115 = .ok (.bipush 45, 2) := dk_16 45 (dk_at dksJ15_getChars_5 0 rfl rfl)
theorem dJ15_getChars_117 : decode cJ15_getChars 117 = .ok (.bastore, 1) := dk_84 (dk_at dksJ15_getChars_5 2 rfl rfl)
theorem dJ15_getChars_118 : decode cJ15_getChars 118 = .ok (.iload 5, 2) := dk_21 5 (dk_at dksJ15_getChars_5 3 rfl rfl)
theorem dJ15_getChars_120 : decode cJ15_getChars 120 = .ok (.ireturn, 1) := dk_172 (dk_at dksJ15_getChars_5 5 rfl rfl)
theorem q123 : (Jvm.Cond.initialized "java/lang/Integer") ∈ lw_all := lw_g (lw_at lw_m1 21 rfl) rfl
theorem q802 : (Jvm.Cond.static ({ cls := "java/lang/Integer", name := "stringSize", desc := "(I)I" } : Jvm.MethodName)) ∈ lw_all := lw_g (lw_at lw_m3 220 rfl) rfl
theorem q803 : (Jvm.Cond.code ({ cls := "java/lang/Integer", name := "stringSize", desc := "(I)I" } : Jvm.MethodName) prog_30_method_13_code (4 : Nat) (Option.some Jvm.ClassFile.FieldType.int)) ∈ lw_all := lw_g (lw_at lw_m3 221 rfl) rfl
theorem q805 : (Jvm.Cond.static ({ cls := "java/lang/Integer", name := "getChars", desc := "(II[B)I" } : Jvm.MethodName)) ∈ lw_all := lw_g (lw_at lw_m3 223 rfl) rfl
theorem q806 : (Jvm.Cond.code ({ cls := "java/lang/Integer", name := "getChars", desc := "(II[B)I" } : Jvm.MethodName) prog_30_method_12_code (7 : Nat) (Option.some Jvm.ClassFile.FieldType.int)) ∈ lw_all := lw_g (lw_at lw_m3 224 rfl) rfl
theorem q807 : (Jvm.Cond.fieldLink "java/lang/Integer" (83 : Nat) "java/lang/Integer" "DigitOnes" "[B") ∈ lw_all := lw_g (lw_at lw_m3 225 rfl) rfl
theorem q808 : (Jvm.Cond.laysStatic "java/lang/Integer" "DigitOnes" "[B") ∈ lw_tbl := lw_at lw_m3 226 rfl
theorem q809 : (Jvm.Cond.fieldLink "java/lang/Integer" (87 : Nat) "java/lang/Integer" "DigitTens" "[B") ∈ lw_all := lw_g (lw_at lw_m3 227 rfl) rfl
theorem q810 : (Jvm.Cond.laysStatic "java/lang/Integer" "DigitTens" "[B") ∈ lw_tbl := lw_at lw_m3 228 rfl

/-! java/lang/ArrayIndexOutOfBoundsException -/
set_option maxRecDepth 100000
def RJ16 : String := "java/lang/ArrayIndexOutOfBoundsException"
def TJ16 : u_T := fun k => match k with
  | 0 => ("java/lang/Throwable", "cause", "Ljava/lang/Throwable;", false)
  | 1 => ("java/lang/Throwable", "stackTrace", "[Ljava/lang/StackTraceElement;", false)
  | 2 => ("java/lang/Throwable", "suppressedExceptions", "Ljava/util/List;", false)
  | 3 => ("java/lang/Throwable", "detailMessage", "Ljava/lang/String;", false)
  | 4 => ("java/lang/Throwable", "backtrace", "Ljava/lang/Object;", false)
  | _ => ("java/lang/Throwable", "depth", "I", false)
def tyJ16 : Nat → FieldType := fun k => match k with
  | 0 => .object "java/lang/Throwable"
  | 1 => .array (.object "java/lang/StackTraceElement")
  | 2 => .object "java/util/List"
  | 3 => .object "java/lang/String"
  | 4 => .object "java/lang/Object"
  | _ => .int
abbrev wsJ160 : List Cond := u_ws RJ16 TJ16 6
theorem nmJ16 : ∀ a, a < 6 → ∀ b, b < 6 → a ≠ b → (TJ16 a).2.1 ≠ (TJ16 b).2.1 := by decide +kernel
theorem tyJ16_ok : ∀ k, k < 6 → parseFieldDescriptor (TJ16 k).2.2.1 = some (tyJ16 k) := by decide +kernel
abbrev cJ16_init : ByteArray := prog_23_method_3_code
def yJ16_init : MethodName := ⟨RJ16, "<init>", "(I)V"⟩
def dkwJ16_init_0 : List UInt8 := [42, 187, 0, 10, 89, 183, 0, 12, 18, 13, 182, 0, 15, 27, 182, 0, 19, 182, 0, 22, 183, 0, 7, 177]
abbrev dktJ16_init_0 : List UInt8 := dkwJ16_init_0 ++ []
theorem dksJ16_init_0 : cJ16_init.data.toList.drop 0 = dktJ16_init_0 := by decide +kernel
theorem dJ16_init_0 : decode cJ16_init 0 = .ok (.aload_n 0, 1) := dk_42 (dk_at dksJ16_init_0 0 rfl rfl)
theorem dJ16_init_1 : decode cJ16_init 1 = .ok (.new 10, 3) := dk_187 0 10 (dk_at dksJ16_init_0 1 rfl rfl)
theorem dJ16_init_4 : decode cJ16_init 4 = .ok (.dup, 1) := dk_89 (dk_at dksJ16_init_0 4 rfl rfl)
theorem dJ16_init_5 : decode cJ16_init 5 = .ok (.invokespecial 12, 3) := dk_183 0 12 (dk_at dksJ16_init_0 5 rfl rfl)
theorem dJ16_init_8 : decode cJ16_init 8 = .ok (.ldc 13, 2) := dk_18 13 (dk_at dksJ16_init_0 8 rfl rfl)
theorem dJ16_init_10 : decode cJ16_init 10 = .ok (.invokevirtual 15, 3) := dk_182 0 15 (dk_at dksJ16_init_0 10 rfl rfl)
theorem dJ16_init_13 : decode cJ16_init 13 = .ok (.iload_n 1, 1) := dk_27 (dk_at dksJ16_init_0 13 rfl rfl)
theorem dJ16_init_14 : decode cJ16_init 14 = .ok (.invokevirtual 19, 3) := dk_182 0 19 (dk_at dksJ16_init_0 14 rfl rfl)
theorem dJ16_init_17 : decode cJ16_init 17 = .ok (.invokevirtual 22, 3) := dk_182 0 22 (dk_at dksJ16_init_0 17 rfl rfl)
theorem dJ16_init_20 : decode cJ16_init 20 = .ok (.invokespecial 7, 3) := dk_183 0 7 (dk_at dksJ16_init_0 20 rfl rfl)
theorem dJ16_init_23 : decode cJ16_init 23 = .ok (.return_, 1) := dk_177 (dk_at dksJ16_init_0 23 rfl rfl)
abbrev cJ16_init_2 : ByteArray := prog_23_method_2_code
def yJ16_init_2 : MethodName := ⟨RJ16, "<init>", "(Ljava/lang/String;)V"⟩
def dkwJ16_init_2_0 : List UInt8 := [42, 43, 183, 0, 7, 177]
abbrev dktJ16_init_2_0 : List UInt8 := dkwJ16_init_2_0 ++ []
theorem dksJ16_init_2_0 : cJ16_init_2.data.toList.drop 0 = dktJ16_init_2_0 := by decide +kernel
theorem dJ16_init_2_0 : decode cJ16_init_2 0 = .ok (.aload_n 0, 1) := dk_42 (dk_at dksJ16_init_2_0 0 rfl rfl)
theorem dJ16_init_2_1 : decode cJ16_init_2 1 = .ok (.aload_n 1, 1) := dk_43 (dk_at dksJ16_init_2_0 1 rfl rfl)
theorem dJ16_init_2_2 : decode cJ16_init_2 2 = .ok (.invokespecial 7, 3) := dk_183 0 7 (dk_at dksJ16_init_2_0 2 rfl rfl)
theorem dJ16_init_2_5 : decode cJ16_init_2 5 = .ok (.return_, 1) := dk_177 (dk_at dksJ16_init_2_0 5 rfl rfl)
theorem q124 : (Jvm.Cond.initialized "java/lang/ArrayIndexOutOfBoundsException") ∈ lw_all := lw_g (lw_at lw_m1 22 rfl) rfl
theorem q216 : (Jvm.Cond.selects "java/lang/ArrayIndexOutOfBoundsException" ({ cls := "java/lang/Throwable", name := "fillInStackTrace", desc := "()Ljava/lang/Throwable;" } : Jvm.MethodName) ({ cls := "java/lang/Throwable", name := "fillInStackTrace", desc := "()Ljava/lang/Throwable;" } : Jvm.MethodName)) ∈ lw_all := lw_g (lw_at lw_m1 114 rfl) rfl
theorem q589 : (Jvm.Cond.selects "java/lang/ArrayIndexOutOfBoundsException" ({ cls := "java/lang/Object", name := "getClass", desc := "()Ljava/lang/Class;" } : Jvm.MethodName) ({ cls := "java/lang/Object", name := "getClass", desc := "()Ljava/lang/Class;" } : Jvm.MethodName)) ∈ lw_all := lw_g (lw_at lw_m3 7 rfl) rfl
theorem q890 : (Jvm.Cond.instantiable "java/lang/ArrayIndexOutOfBoundsException" (6 : Nat)) ∈ lw_all := lw_g (lw_at lw_m4 68 rfl) rfl
theorem q891 : (Jvm.Cond.castable "java/lang/ArrayIndexOutOfBoundsException" "java/lang/ArrayIndexOutOfBoundsException") ∈ lw_tbl := lw_at lw_m4 69 rfl
theorem q894 : (Jvm.Cond.selects "java/lang/ArrayIndexOutOfBoundsException" ({ cls := "java/lang/Throwable", name := "fillInStackTrace", desc := "(I)Ljava/lang/Throwable;" } : Jvm.MethodName) ({ cls := "java/lang/Throwable", name := "fillInStackTrace", desc := "(I)Ljava/lang/Throwable;" } : Jvm.MethodName)) ∈ lw_all := lw_g (lw_at lw_m4 72 rfl) rfl
theorem q895 : (Jvm.Cond.lays "java/lang/ArrayIndexOutOfBoundsException" "java/lang/Throwable" "cause" "Ljava/lang/Throwable;") ∈ lw_all := lw_g (lw_at lw_m4 73 rfl) rfl
theorem q896 : (Jvm.Cond.lays "java/lang/ArrayIndexOutOfBoundsException" "java/lang/Throwable" "stackTrace" "[Ljava/lang/StackTraceElement;") ∈ lw_all := lw_g (lw_at lw_m4 74 rfl) rfl
theorem q897 : (Jvm.Cond.lays "java/lang/ArrayIndexOutOfBoundsException" "java/lang/Throwable" "suppressedExceptions" "Ljava/util/List;") ∈ lw_all := lw_g (lw_at lw_m4 75 rfl) rfl
theorem q898 : (Jvm.Cond.lays "java/lang/ArrayIndexOutOfBoundsException" "java/lang/Throwable" "detailMessage" "Ljava/lang/String;") ∈ lw_all := lw_g (lw_at lw_m4 76 rfl) rfl
theorem q899 : (Jvm.Cond.lays "java/lang/ArrayIndexOutOfBoundsException" "java/lang/Throwable" "backtrace" "Ljava/lang/Object;") ∈ lw_all := lw_g (lw_at lw_m4 77 rfl) rfl
theorem q901 : (Jvm.Cond.instanceMethod ({ cls := "java/lang/ArrayIndexOutOfBoundsException", name := "<init>", desc := "(I)V" } : Jvm.MethodName)) ∈ lw_all := lw_g (lw_at lw_m4 79 rfl) rfl
theorem q902 : (Jvm.Cond.code ({ cls := "java/lang/ArrayIndexOutOfBoundsException", name := "<init>", desc := "(I)V" } : Jvm.MethodName) prog_23_method_3_code (2 : Nat) (Option.none : Option Jvm.ClassFile.FieldType)) ∈ lw_all := lw_g (lw_at lw_m4 80 rfl) rfl
theorem q903 : (Jvm.Cond.classLink "java/lang/ArrayIndexOutOfBoundsException" (10 : Nat) "java/lang/StringBuilder") ∈ lw_all := lw_g (lw_at lw_m4 81 rfl) rfl
theorem q904 : (Jvm.Cond.methodLink "java/lang/ArrayIndexOutOfBoundsException" (12 : Nat) ({ cls := "java/lang/StringBuilder", name := "<init>", desc := "()V" } : Jvm.MethodName)) ∈ lw_all := lw_g (lw_at lw_m4 82 rfl) rfl
theorem q905 : (Jvm.Cond.stringRef "java/lang/ArrayIndexOutOfBoundsException" (13 : Nat) "Array index out of range: ") ∈ lw_tbl := lw_at lw_m4 83 rfl
theorem q906 : (Jvm.Cond.methodLink "java/lang/ArrayIndexOutOfBoundsException" (15 : Nat) ({ cls := "java/lang/StringBuilder", name := "append", desc := "(Ljava/lang/String;)Ljava/lang/StringBuilder;" } : Jvm.MethodName)) ∈ lw_all := lw_g (lw_at lw_m4 84 rfl) rfl
theorem q907 : (Jvm.Cond.methodLink "java/lang/ArrayIndexOutOfBoundsException" (19 : Nat) ({ cls := "java/lang/StringBuilder", name := "append", desc := "(I)Ljava/lang/StringBuilder;" } : Jvm.MethodName)) ∈ lw_all := lw_g (lw_at lw_m4 85 rfl) rfl
theorem q908 : (Jvm.Cond.methodLink "java/lang/ArrayIndexOutOfBoundsException" (22 : Nat) ({ cls := "java/lang/StringBuilder", name := "toString", desc := "()Ljava/lang/String;" } : Jvm.MethodName)) ∈ lw_all := lw_g (lw_at lw_m4 86 rfl) rfl
theorem q909 : (Jvm.Cond.methodLink "java/lang/ArrayIndexOutOfBoundsException" (7 : Nat) ({ cls := "java/lang/IndexOutOfBoundsException", name := "<init>", desc := "(Ljava/lang/String;)V" } : Jvm.MethodName)) ∈ lw_all := lw_g (lw_at lw_m4 87 rfl) rfl
theorem q910 : (Jvm.Cond.lays "java/lang/ArrayIndexOutOfBoundsException" "java/lang/Throwable" "depth" "I") ∈ lw_all := lw_g (lw_at lw_m4 88 rfl) rfl
theorem q911 : (Jvm.Cond.superclass "java/lang/ArrayIndexOutOfBoundsException" "java/lang/IndexOutOfBoundsException") ∈ lw_all := lw_g (lw_at lw_m4 89 rfl) rfl
theorem q1552 : (Jvm.Cond.selects "java/lang/ArrayIndexOutOfBoundsException" ({ cls := "java/lang/Throwable", name := "getLocalizedMessage", desc := "()Ljava/lang/String;" } : Jvm.MethodName) ({ cls := "java/lang/Throwable", name := "getLocalizedMessage", desc := "()Ljava/lang/String;" } : Jvm.MethodName)) ∈ lw_all := lw_g (lw_at lw_m7 10 rfl) rfl
theorem q1563 : (Jvm.Cond.selects "java/lang/ArrayIndexOutOfBoundsException" ({ cls := "java/lang/Throwable", name := "getMessage", desc := "()Ljava/lang/String;" } : Jvm.MethodName) ({ cls := "java/lang/Throwable", name := "getMessage", desc := "()Ljava/lang/String;" } : Jvm.MethodName)) ∈ lw_all := lw_g (lw_at lw_m7 21 rfl) rfl
theorem q1584 : (Jvm.Cond.selects "java/lang/ArrayIndexOutOfBoundsException" ({ cls := "java/lang/Object", name := "toString", desc := "()Ljava/lang/String;" } : Jvm.MethodName) ({ cls := "java/lang/Throwable", name := "toString", desc := "()Ljava/lang/String;" } : Jvm.MethodName)) ∈ lw_all := lw_g (lw_at lw_m7 42 rfl) rfl
theorem q1910 : (Jvm.Cond.instanceMethod ({ cls := "java/lang/ArrayIndexOutOfBoundsException", name := "<init>", desc := "(Ljava/lang/String;)V" } : Jvm.MethodName)) ∈ lw_all := lw_g (lw_at lw_m8 128 rfl) rfl
theorem q1911 : (Jvm.Cond.code ({ cls := "java/lang/ArrayIndexOutOfBoundsException", name := "<init>", desc := "(Ljava/lang/String;)V" } : Jvm.MethodName) prog_23_method_2_code (2 : Nat) (Option.none : Option Jvm.ClassFile.FieldType)) ∈ lw_all := lw_g (lw_at lw_m8 129 rfl) rfl
theorem q2617 : (Jvm.Cond.castable "java/lang/ArrayIndexOutOfBoundsException" "java/lang/IndexOutOfBoundsException") ∈ lw_tbl := lw_at lw_m11 115 rfl
theorem q2635 : (Jvm.Cond.castable "java/lang/ArrayIndexOutOfBoundsException" "java/lang/Object") ∈ lw_tbl := lw_at lw_m11 133 rfl
theorem in_J16 : ∀ w ∈ wsJ160, w ∈ lw_all := lw_in wsJ160 [895, 896, 897, 898, 899, 910] (by decide +kernel) (by decide +kernel)

/-! java/lang/ArithmeticException -/
set_option maxRecDepth 100000
def RJ17 : String := "java/lang/ArithmeticException"
def TJ17 : u_T := fun k => match k with
  | 0 => ("java/lang/Throwable", "cause", "Ljava/lang/Throwable;", false)
  | 1 => ("java/lang/Throwable", "stackTrace", "[Ljava/lang/StackTraceElement;", false)
  | 2 => ("java/lang/Throwable", "suppressedExceptions", "Ljava/util/List;", false)
  | 3 => ("java/lang/Throwable", "detailMessage", "Ljava/lang/String;", false)
  | 4 => ("java/lang/Throwable", "backtrace", "Ljava/lang/Object;", false)
  | _ => ("java/lang/Throwable", "depth", "I", false)
def tyJ17 : Nat → FieldType := fun k => match k with
  | 0 => .object "java/lang/Throwable"
  | 1 => .array (.object "java/lang/StackTraceElement")
  | 2 => .object "java/util/List"
  | 3 => .object "java/lang/String"
  | 4 => .object "java/lang/Object"
  | _ => .int
abbrev wsJ170 : List Cond := u_ws RJ17 TJ17 6
theorem nmJ17 : ∀ a, a < 6 → ∀ b, b < 6 → a ≠ b → (TJ17 a).2.1 ≠ (TJ17 b).2.1 := by decide +kernel
theorem tyJ17_ok : ∀ k, k < 6 → parseFieldDescriptor (TJ17 k).2.2.1 = some (tyJ17 k) := by decide +kernel
abbrev cJ17_init : ByteArray := prog_22_method_2_code
def yJ17_init : MethodName := ⟨RJ17, "<init>", "(Ljava/lang/String;)V"⟩
def dkwJ17_init_0 : List UInt8 := [42, 43, 183, 0, 7, 177]
abbrev dktJ17_init_0 : List UInt8 := dkwJ17_init_0 ++ []
theorem dksJ17_init_0 : cJ17_init.data.toList.drop 0 = dktJ17_init_0 := by decide +kernel
theorem dJ17_init_0 : decode cJ17_init 0 = .ok (.aload_n 0, 1) := dk_42 (dk_at dksJ17_init_0 0 rfl rfl)
theorem dJ17_init_1 : decode cJ17_init 1 = .ok (.aload_n 1, 1) := dk_43 (dk_at dksJ17_init_0 1 rfl rfl)
theorem dJ17_init_2 : decode cJ17_init 2 = .ok (.invokespecial 7, 3) := dk_183 0 7 (dk_at dksJ17_init_0 2 rfl rfl)
theorem dJ17_init_5 : decode cJ17_init 5 = .ok (.return_, 1) := dk_177 (dk_at dksJ17_init_0 5 rfl rfl)
theorem q127 : (Jvm.Cond.initialized "java/lang/ArithmeticException") ∈ lw_all := lw_g (lw_at lw_m1 25 rfl) rfl
theorem q215 : (Jvm.Cond.selects "java/lang/ArithmeticException" ({ cls := "java/lang/Throwable", name := "fillInStackTrace", desc := "()Ljava/lang/Throwable;" } : Jvm.MethodName) ({ cls := "java/lang/Throwable", name := "fillInStackTrace", desc := "()Ljava/lang/Throwable;" } : Jvm.MethodName)) ∈ lw_all := lw_g (lw_at lw_m1 113 rfl) rfl
theorem q382 : (Jvm.Cond.instantiable "java/lang/ArithmeticException" (6 : Nat)) ∈ lw_all := lw_g (lw_at lw_m2 40 rfl) rfl
theorem q383 : (Jvm.Cond.castable "java/lang/ArithmeticException" "java/lang/ArithmeticException") ∈ lw_tbl := lw_at lw_m2 41 rfl
theorem q384 : (Jvm.Cond.selects "java/lang/ArithmeticException" ({ cls := "java/lang/Throwable", name := "fillInStackTrace", desc := "(I)Ljava/lang/Throwable;" } : Jvm.MethodName) ({ cls := "java/lang/Throwable", name := "fillInStackTrace", desc := "(I)Ljava/lang/Throwable;" } : Jvm.MethodName)) ∈ lw_all := lw_g (lw_at lw_m2 42 rfl) rfl
theorem q385 : (Jvm.Cond.lays "java/lang/ArithmeticException" "java/lang/Throwable" "cause" "Ljava/lang/Throwable;") ∈ lw_all := lw_g (lw_at lw_m2 43 rfl) rfl
theorem q386 : (Jvm.Cond.lays "java/lang/ArithmeticException" "java/lang/Throwable" "stackTrace" "[Ljava/lang/StackTraceElement;") ∈ lw_all := lw_g (lw_at lw_m2 44 rfl) rfl
theorem q387 : (Jvm.Cond.lays "java/lang/ArithmeticException" "java/lang/Throwable" "suppressedExceptions" "Ljava/util/List;") ∈ lw_all := lw_g (lw_at lw_m2 45 rfl) rfl
theorem q388 : (Jvm.Cond.lays "java/lang/ArithmeticException" "java/lang/Throwable" "detailMessage" "Ljava/lang/String;") ∈ lw_all := lw_g (lw_at lw_m2 46 rfl) rfl
theorem q389 : (Jvm.Cond.lays "java/lang/ArithmeticException" "java/lang/Throwable" "backtrace" "Ljava/lang/Object;") ∈ lw_all := lw_g (lw_at lw_m2 47 rfl) rfl
theorem q392 : (Jvm.Cond.instanceMethod ({ cls := "java/lang/ArithmeticException", name := "<init>", desc := "(Ljava/lang/String;)V" } : Jvm.MethodName)) ∈ lw_all := lw_g (lw_at lw_m2 50 rfl) rfl
theorem q393 : (Jvm.Cond.code ({ cls := "java/lang/ArithmeticException", name := "<init>", desc := "(Ljava/lang/String;)V" } : Jvm.MethodName) prog_22_method_2_code (2 : Nat) (Option.none : Option Jvm.ClassFile.FieldType)) ∈ lw_all := lw_g (lw_at lw_m2 51 rfl) rfl
theorem q394 : (Jvm.Cond.methodLink "java/lang/ArithmeticException" (7 : Nat) ({ cls := "java/lang/RuntimeException", name := "<init>", desc := "(Ljava/lang/String;)V" } : Jvm.MethodName)) ∈ lw_all := lw_g (lw_at lw_m2 52 rfl) rfl
theorem q403 : (Jvm.Cond.lays "java/lang/ArithmeticException" "java/lang/Throwable" "depth" "I") ∈ lw_all := lw_g (lw_at lw_m2 61 rfl) rfl
theorem q404 : (Jvm.Cond.superclass "java/lang/ArithmeticException" "java/lang/RuntimeException") ∈ lw_all := lw_g (lw_at lw_m2 62 rfl) rfl
theorem q588 : (Jvm.Cond.selects "java/lang/ArithmeticException" ({ cls := "java/lang/Object", name := "getClass", desc := "()Ljava/lang/Class;" } : Jvm.MethodName) ({ cls := "java/lang/Object", name := "getClass", desc := "()Ljava/lang/Class;" } : Jvm.MethodName)) ∈ lw_all := lw_g (lw_at lw_m3 6 rfl) rfl
theorem q1551 : (Jvm.Cond.selects "java/lang/ArithmeticException" ({ cls := "java/lang/Throwable", name := "getLocalizedMessage", desc := "()Ljava/lang/String;" } : Jvm.MethodName) ({ cls := "java/lang/Throwable", name := "getLocalizedMessage", desc := "()Ljava/lang/String;" } : Jvm.MethodName)) ∈ lw_all := lw_g (lw_at lw_m7 9 rfl) rfl
theorem q1562 : (Jvm.Cond.selects "java/lang/ArithmeticException" ({ cls := "java/lang/Throwable", name := "getMessage", desc := "()Ljava/lang/String;" } : Jvm.MethodName) ({ cls := "java/lang/Throwable", name := "getMessage", desc := "()Ljava/lang/String;" } : Jvm.MethodName)) ∈ lw_all := lw_g (lw_at lw_m7 20 rfl) rfl
theorem q1583 : (Jvm.Cond.selects "java/lang/ArithmeticException" ({ cls := "java/lang/Object", name := "toString", desc := "()Ljava/lang/String;" } : Jvm.MethodName) ({ cls := "java/lang/Throwable", name := "toString", desc := "()Ljava/lang/String;" } : Jvm.MethodName)) ∈ lw_all := lw_g (lw_at lw_m7 41 rfl) rfl
theorem q2638 : (Jvm.Cond.castable "java/lang/ArithmeticException" "java/lang/Object") ∈ lw_tbl := lw_at lw_m11 136 rfl
theorem in_J17 : ∀ w ∈ wsJ170, w ∈ lw_all := lw_in wsJ170 [385, 386, 387, 388, 389, 403] (by decide +kernel) (by decide +kernel)

/-! java/util/AbstractCollection -/
set_option maxRecDepth 100000
def RJ18 : String := "java/util/AbstractCollection"
abbrev cJ18_init : ByteArray := prog_47_method_1_code
def yJ18_init : MethodName := ⟨RJ18, "<init>", "()V"⟩
theorem dJ18_init_0 : decode cJ18_init 0 = .ok (.aload_n 0, 1) := by decide +kernel
theorem dJ18_init_1 : decode cJ18_init 1 = .ok (.invokespecial 1, 3) := by decide +kernel
theorem dJ18_init_4 : decode cJ18_init 4 = .ok (.return_, 1) := by decide +kernel
theorem q128 : (Jvm.Cond.initialized "java/util/AbstractCollection") ∈ lw_all := lw_g (lw_at lw_m1 26 rfl) rfl
theorem q485 : (Jvm.Cond.instanceMethod ({ cls := "java/util/AbstractCollection", name := "<init>", desc := "()V" } : Jvm.MethodName)) ∈ lw_all := lw_g (lw_at lw_m2 143 rfl) rfl
theorem q486 : (Jvm.Cond.code ({ cls := "java/util/AbstractCollection", name := "<init>", desc := "()V" } : Jvm.MethodName) prog_47_method_1_code (1 : Nat) (Option.none : Option Jvm.ClassFile.FieldType)) ∈ lw_all := lw_g (lw_at lw_m2 144 rfl) rfl
theorem q487 : (Jvm.Cond.methodLink "java/util/AbstractCollection" (1 : Nat) ({ cls := "java/lang/Object", name := "<init>", desc := "()V" } : Jvm.MethodName)) ∈ lw_all := lw_g (lw_at lw_m2 145 rfl) rfl

/-! java/util/AbstractList -/
set_option maxRecDepth 100000
def RJ19 : String := "java/util/AbstractList"
abbrev cJ19_init : ByteArray := prog_48_method_1_code
def yJ19_init : MethodName := ⟨RJ19, "<init>", "()V"⟩
def dkwJ19_init_0 : List UInt8 := [42, 183, 0, 1, 42, 3, 181, 0, 7, 177]
abbrev dktJ19_init_0 : List UInt8 := dkwJ19_init_0 ++ []
theorem dksJ19_init_0 : cJ19_init.data.toList.drop 0 = dktJ19_init_0 := by decide +kernel
theorem dJ19_init_0 : decode cJ19_init 0 = .ok (.aload_n 0, 1) := dk_42 (dk_at dksJ19_init_0 0 rfl rfl)
theorem dJ19_init_1 : decode cJ19_init 1 = .ok (.invokespecial 1, 3) := dk_183 0 1 (dk_at dksJ19_init_0 1 rfl rfl)
theorem dJ19_init_4 : decode cJ19_init 4 = .ok (.aload_n 0, 1) := dk_42 (dk_at dksJ19_init_0 4 rfl rfl)
theorem dJ19_init_5 : decode cJ19_init 5 = .ok (.iconst 0, 1) := dk_3 (dk_at dksJ19_init_0 5 rfl rfl)
theorem dJ19_init_6 : decode cJ19_init 6 = .ok (.putfield 7, 3) := dk_181 0 7 (dk_at dksJ19_init_0 6 rfl rfl)
theorem dJ19_init_9 : decode cJ19_init 9 = .ok (.return_, 1) := dk_177 (dk_at dksJ19_init_0 9 rfl rfl)
theorem q129 : (Jvm.Cond.initialized "java/util/AbstractList") ∈ lw_all := lw_g (lw_at lw_m1 27 rfl) rfl
theorem q482 : (Jvm.Cond.instanceMethod ({ cls := "java/util/AbstractList", name := "<init>", desc := "()V" } : Jvm.MethodName)) ∈ lw_all := lw_g (lw_at lw_m2 140 rfl) rfl
theorem q483 : (Jvm.Cond.code ({ cls := "java/util/AbstractList", name := "<init>", desc := "()V" } : Jvm.MethodName) prog_48_method_1_code (1 : Nat) (Option.none : Option Jvm.ClassFile.FieldType)) ∈ lw_all := lw_g (lw_at lw_m2 141 rfl) rfl
theorem q484 : (Jvm.Cond.methodLink "java/util/AbstractList" (1 : Nat) ({ cls := "java/util/AbstractCollection", name := "<init>", desc := "()V" } : Jvm.MethodName)) ∈ lw_all := lw_g (lw_at lw_m2 142 rfl) rfl
theorem q494 : (Jvm.Cond.fieldLink "java/util/AbstractList" (7 : Nat) "java/util/AbstractList" "modCount" "I") ∈ lw_all := lw_g (lw_at lw_m2 152 rfl) rfl
theorem q503 : (Jvm.Cond.soleField "java/util/AbstractList" "modCount") ∈ lw_all := lw_g (lw_at lw_m2 161 rfl) rfl

/-! java/util/ArrayList -/
set_option maxRecDepth 100000
def RJ20 : String := "java/util/ArrayList"
def TJ20 : u_T := fun k => match k with
  | 0 => ("java/util/AbstractList", "modCount", "I", false)
  | 1 => ("java/util/ArrayList", "elementData", "[Ljava/lang/Object;", false)
  | _ => ("java/util/ArrayList", "size", "I", false)
def tyJ20 : Nat → FieldType := fun k => match k with
  | 0 => .int
  | 1 => .array (.object "java/lang/Object")
  | _ => .int
abbrev wsJ200 : List Cond := u_ws RJ20 TJ20 3
theorem nmJ20 : ∀ a, a < 3 → ∀ b, b < 3 → a ≠ b → (TJ20 a).2.1 ≠ (TJ20 b).2.1 := by decide +kernel
theorem tyJ20_ok : ∀ k, k < 3 → parseFieldDescriptor (TJ20 k).2.2.1 = some (tyJ20 k) := by decide +kernel
abbrev cJ20_init : ByteArray := prog_49_method_2_code
def yJ20_init : MethodName := ⟨RJ20, "<init>", "()V"⟩
def dkwJ20_init_0 : List UInt8 := [42, 183, 0, 1, 42, 178, 0, 39, 181, 0, 9, 177]
abbrev dktJ20_init_0 : List UInt8 := dkwJ20_init_0 ++ []
theorem dksJ20_init_0 : cJ20_init.data.toList.drop 0 = dktJ20_init_0 := by decide +kernel
theorem dJ20_init_0 : decode cJ20_init 0 = .ok (.aload_n 0, 1) := dk_42 (dk_at dksJ20_init_0 0 rfl rfl)
theorem dJ20_init_1 : decode cJ20_init 1 = .ok (.invokespecial 1, 3) := dk_183 0 1 (dk_at dksJ20_init_0 1 rfl rfl)
theorem dJ20_init_4 : decode cJ20_init 4 = .ok (.aload_n 0, 1) := dk_42 (dk_at dksJ20_init_0 4 rfl rfl)
theorem dJ20_init_5 : decode cJ20_init 5 = .ok (.getstatic 39, 3) := dk_178 0 39 (dk_at dksJ20_init_0 5 rfl rfl)
theorem dJ20_init_8 : decode cJ20_init 8 = .ok (.putfield 9, 3) := dk_181 0 9 (dk_at dksJ20_init_0 8 rfl rfl)
theorem dJ20_init_11 : decode cJ20_init 11 = .ok (.return_, 1) := dk_177 (dk_at dksJ20_init_0 11 rfl rfl)
abbrev cJ20_add : ByteArray := prog_49_method_25_code
def yJ20_add : MethodName := ⟨RJ20, "add", "(Ljava/lang/Object;)Z"⟩
def dkwJ20_add_1 : List UInt8 := [172]
abbrev dktJ20_add_1 : List UInt8 := dkwJ20_add_1 ++ []
def dkwJ20_add_0 : List UInt8 := [42, 89, 180, 0, 63, 4, 96, 181, 0, 63, 42, 43, 42, 180, 0, 9, 42, 180, 0, 48, 182, 0, 131, 4]
abbrev dktJ20_add_0 : List UInt8 := dkwJ20_add_0 ++ dktJ20_add_1
theorem dksJ20_add_0 : cJ20_add.data.toList.drop 0 = dktJ20_add_0 := by decide +kernel
theorem dksJ20_add_1 : cJ20_add.data.toList.drop 24 = dktJ20_add_1 := dk_seg dksJ20_add_0 24 rfl rfl
theorem dJ20_add_0 : decode cJ20_add 0 = .ok (.aload_n 0, 1) := dk_42 (dk_at dksJ20_add_0 0 rfl rfl)
theorem dJ20_add_1 : decode cJ20_add 1 = .ok (.dup, 1) := dk_89 (dk_at dksJ20_add_0 1 rfl rfl)
theorem dJ20_add_2 : decode cJ20_add 2 = .ok (.getfield 63, 3) := dk_180 0 63 (dk_at dksJ20_add_0 2 rfl rfl)
theorem dJ20_add_5 : decode cJ20_add 5 = .ok (.iconst 1, 1) := dk_4 (dk_at dksJ20_add_0 5 rfl rfl)
theorem dJ20_add_6 : decode cJ20_add 6 = .ok (.iadd, 1) := dk_96 (dk_at dksJ20_add_0 6 rfl rfl)
theorem dJ20_add_7 : decode cJ20_add 7 = .ok (.putfield 63, 3) := dk_181 0 63 (dk_at dksJ20_add_0 7 rfl rfl)
theorem dJ20_add_10 : decode cJ20_add 10 = .ok (.aload_n 0, 1) := dk_42 (dk_at dksJ20_add_0 10 rfl rfl)
theorem dJ20_add_11 : decode cJ20_add 11 = .ok (.aload_n 1, 1) := dk_43 (dk_at dksJ20_add_0 11 rfl rfl)
theorem dJ20_add_12 : decode cJ20_add 12 = .ok (.aload_n 0, 1) := dk_42 (dk_at dksJ20_add_0 12 rfl rfl)
theorem dJ20_add_13 : decode cJ20_add 13 = .ok (.getfield 9, 3) := dk_180 0 9 (dk_at dksJ20_add_0 13 rfl rfl)
theorem dJ20_add_16 : decode cJ20_add 16 = .ok (.aload_n 0, 1) := dk_42 (dk_at dksJ20_add_0 16 rfl rfl)
theorem dJ20_add_17 : decode cJ20_add 17 = .ok (.getfield 48, 3) := dk_180 0 48 (dk_at dksJ20_add_0 17 rfl rfl)
theorem dJ20_add_20 : decode cJ20_add 20 = .ok (.invokevirtual 131, 3) := dk_182 0 131 (dk_at dksJ20_add_0 20 rfl rfl)
theorem dJ20_add_23 : decode cJ20_add 23 = .ok (.iconst 1, 1) := dk_4 (dk_at dksJ20_add_0 23 rfl rfl)
theorem dJ20_add_24 : decode cJ20_add 24 = .ok (.ireturn, 1) := dk_172 (dk_at dksJ20_add_1 0 rfl rfl)
abbrev cJ20_add_2 : ByteArray := prog_49_method_24_code
def yJ20_add_2 : MethodName := ⟨RJ20, "add", "(Ljava/lang/Object;[Ljava/lang/Object;I)V"⟩
def dkwJ20_add_2_0 : List UInt8 := [29, 44, 190, 160, 0, 8, 42, 182, 0, 129, 77, 44, 29, 43, 83, 42, 29, 4, 96, 181, 0, 48, 177]
abbrev dktJ20_add_2_0 : List UInt8 := dkwJ20_add_2_0 ++ []
theorem dksJ20_add_2_0 : cJ20_add_2.data.toList.drop 0 = dktJ20_add_2_0 := by decide +kernel
theorem dJ20_add_2_0 : decode cJ20_add_2 0 = .ok (.iload_n 3, 1) := dk_29 (dk_at dksJ20_add_2_0 0 rfl rfl)
theorem dJ20_add_2_1 : decode cJ20_add_2 1 = .ok (.aload_n 2, 1) := dk_44 (dk_at dksJ20_add_2_0 1 rfl rfl)
theorem dJ20_add_2_2 : decode cJ20_add_2 2 = .ok (.arraylength, 1) := dk_190 (dk_at dksJ20_add_2_0 2 rfl rfl)
theorem dJ20_add_2_3 : decode cJ20_add_2 3 = .ok (.if_icmp .ne 8, 3) := dk_160 0 8 (dk_at dksJ20_add_2_0 3 rfl rfl)
theorem dJ20_add_2_6 : decode cJ20_add_2 6 = .ok (.aload_n 0, 1) := dk_42 (dk_at dksJ20_add_2_0 6 rfl rfl)
theorem dJ20_add_2_7 : decode cJ20_add_2 7 = .ok (.invokevirtual 129, 3) := dk_182 0 129 (dk_at dksJ20_add_2_0 7 rfl rfl)
theorem dJ20_add_2_10 : decode cJ20_add_2 10 = .ok (.astore_n 2, 1) := dk_77 (dk_at dksJ20_add_2_0 10 rfl rfl)
theorem dJ20_add_2_11 : decode cJ20_add_2 11 = .ok (.aload_n 2, 1) := dk_44 (dk_at dksJ20_add_2_0 11 rfl rfl)
theorem dJ20_add_2_12 : decode cJ20_add_2 12 = .ok (.iload_n 3, 1) := dk_29 (dk_at dksJ20_add_2_0 12 rfl rfl)
theorem dJ20_add_2_13 : decode cJ20_add_2 13 = .ok (.aload_n 1, 1) := dk_43 (dk_at dksJ20_add_2_0 13 rfl rfl)
theorem dJ20_add_2_14 : decode cJ20_add_2 14 = .ok (.aastore, 1) := dk_83 (dk_at dksJ20_add_2_0 14 rfl rfl)
theorem dJ20_add_2_15 : decode cJ20_add_2 15 = .ok (.aload_n 0, 1) := dk_42 (dk_at dksJ20_add_2_0 15 rfl rfl)
theorem dJ20_add_2_16 : decode cJ20_add_2 16 = .ok (.iload_n 3, 1) := dk_29 (dk_at dksJ20_add_2_0 16 rfl rfl)
theorem dJ20_add_2_17 : decode cJ20_add_2 17 = .ok (.iconst 1, 1) := dk_4 (dk_at dksJ20_add_2_0 17 rfl rfl)
theorem dJ20_add_2_18 : decode cJ20_add_2 18 = .ok (.iadd, 1) := dk_96 (dk_at dksJ20_add_2_0 18 rfl rfl)
theorem dJ20_add_2_19 : decode cJ20_add_2 19 = .ok (.putfield 48, 3) := dk_181 0 48 (dk_at dksJ20_add_2_0 19 rfl rfl)
theorem dJ20_add_2_22 : decode cJ20_add_2 22 = .ok (.return_, 1) := dk_177 (dk_at dksJ20_add_2_0 22 rfl rfl)
abbrev cJ20_grow : ByteArray := prog_49_method_7_code
def yJ20_grow : MethodName := ⟨RJ20, "grow", "()[Ljava/lang/Object;"⟩
def dkwJ20_grow_0 : List UInt8 := [42, 42, 180, 0, 48, 4, 96, 182, 0, 69, 176]
abbrev dktJ20_grow_0 : List UInt8 := dkwJ20_grow_0 ++ []
theorem dksJ20_grow_0 : cJ20_grow.data.toList.drop 0 = dktJ20_grow_0 := by decide +kernel
theorem dJ20_grow_0 : decode cJ20_grow 0 = .ok (.aload_n 0, 1) := dk_42 (dk_at dksJ20_grow_0 0 rfl rfl)
theorem dJ20_grow_1 : decode cJ20_grow 1 = .ok (.aload_n 0, 1) := dk_42 (dk_at dksJ20_grow_0 1 rfl rfl)
theorem dJ20_grow_2 : decode cJ20_grow 2 = .ok (.getfield 48, 3) := dk_180 0 48 (dk_at dksJ20_grow_0 2 rfl rfl)
theorem dJ20_grow_5 : decode cJ20_grow 5 = .ok (.iconst 1, 1) := dk_4 (dk_at dksJ20_grow_0 5 rfl rfl)
theorem dJ20_grow_6 : decode cJ20_grow 6 = .ok (.iadd, 1) := dk_96 (dk_at dksJ20_grow_0 6 rfl rfl)
theorem dJ20_grow_7 : decode cJ20_grow 7 = .ok (.invokevirtual 69, 3) := dk_182 0 69 (dk_at dksJ20_grow_0 7 rfl rfl)
theorem dJ20_grow_10 : decode cJ20_grow 10 = .ok (.areturn, 1) := dk_176 (dk_at dksJ20_grow_0 10 rfl rfl)
abbrev cJ20_grow_2 : ByteArray := prog_49_method_6_code
def yJ20_grow_2 : MethodName := ⟨RJ20, "grow", "(I)[Ljava/lang/Object;"⟩
def dkwJ20_grow_2_2 : List UInt8 := [27, 184, 0, 79, 189, 0, 7, 90, 181, 0, 9, 176]
abbrev dktJ20_grow_2_2 : List UInt8 := dkwJ20_grow_2_2 ++ []
def dkwJ20_grow_2_1 : List UInt8 := [28, 4, 122, 184, 0, 73, 62, 42, 42, 180, 0, 9, 29, 184, 0, 66, 90, 181, 0, 9, 176, 42, 16, 10]
abbrev dktJ20_grow_2_1 : List UInt8 := dkwJ20_grow_2_1 ++ dktJ20_grow_2_2
def dkwJ20_grow_2_0 : List UInt8 := [42, 180, 0, 9, 190, 61, 28, 157, 0, 13, 42, 180, 0, 9, 178, 0, 39, 165, 0, 28, 28, 27, 28, 100]
abbrev dktJ20_grow_2_0 : List UInt8 := dkwJ20_grow_2_0 ++ dktJ20_grow_2_1
theorem dksJ20_grow_2_0 : cJ20_grow_2.data.toList.drop 0 = dktJ20_grow_2_0 := by decide +kernel
theorem dksJ20_grow_2_1 : cJ20_grow_2.data.toList.drop 24 = dktJ20_grow_2_1 := dk_seg dksJ20_grow_2_0 24 rfl rfl
theorem dksJ20_grow_2_2 : cJ20_grow_2.data.toList.drop 48 = dktJ20_grow_2_2 := dk_seg dksJ20_grow_2_1 24 rfl rfl
theorem dJ20_grow_2_0 : decode cJ20_grow_2 0 = .ok (.aload_n 0, 1) := dk_42 (dk_at dksJ20_grow_2_0 0 rfl rfl)
theorem dJ20_grow_2_1 : decode cJ20_grow_2 1 = .ok (.getfield 9, 3) := dk_180 0 9 (dk_at dksJ20_grow_2_0 1 rfl rfl)
theorem dJ20_grow_2_4 : decode cJ20_grow_2 4 = .ok (.arraylength, 1) := dk_190 (dk_at dksJ20_grow_2_0 4 rfl rfl)
theorem dJ20_grow_2_5 : decode cJ20_grow_2 5 = .ok (.istore_n 2, 1) := dk_61 (dk_at dksJ20_grow_2_0 5 rfl rfl)
theorem dJ20_grow_2_6 : decode cJ20_grow_2 6 = .ok (.iload_n 2, 1) := dk_28 (dk_at dksJ20_grow_2_0 6 rfl rfl)
theorem dJ20_grow_2_7 : decode cJ20_grow_2 7 = .ok (.ifCond .gt 13, 3) := dk_157 0 13 (dk_at dksJ20_grow_2_0 7 rfl rfl)
theorem dJ20_grow_2_10 : decode cJ20_grow_2 10 = .ok (.aload_n 0, 1) := dk_42 (dk_at dksJ20_grow_2_0 10 rfl rfl)
theorem dJ20_grow_2_11 : decode cJ20_grow_2 11 = .ok (.getfield 9, 3) := dk_180 0 9 (dk_at dksJ20_grow_2_0 11 rfl rfl)
theorem dJ20_grow_2_14 : decode cJ20_grow_2 14 = .ok (.getstatic 39, 3) := dk_178 0 39 (dk_at dksJ20_grow_2_0 14 rfl rfl)
theorem dJ20_grow_2_17 : decode cJ20_grow_2 17 = .ok (.if_acmp .eq 28, 3) := dk_165 0 28 (dk_at dksJ20_grow_2_0 17 rfl rfl)
theorem dJ20_grow_2_20 : decode cJ20_grow_2 20 = .ok (.iload_n 2, 1) := dk_28 (dk_at dksJ20_grow_2_0 20 rfl rfl)
theorem dJ20_grow_2_21 : decode cJ20_grow_2 21 = .ok (.iload_n 1, 1) := dk_27 (dk_at dksJ20_grow_2_0 21 rfl rfl)
theorem dJ20_grow_2_22 : decode cJ20_grow_2 22 = .ok (.iload_n 2, 1) := dk_28 (dk_at dksJ20_grow_2_0 22 rfl rfl)
theorem dJ20_grow_2_23 : decode cJ20_grow_2 23 = .ok (.isub, 1) := dk_100 (dk_at dksJ20_grow_2_0 23 rfl rfl)
theorem dJ20_grow_2_24 : decode cJ20_grow_2 24 = .ok (.iload_n 2, 1) := dk_28 (dk_at dksJ20_grow_2_1 0 rfl rfl)
theorem dJ20_grow_2_25 : decode cJ20_grow_2 25 = .ok (.iconst 1, 1) := dk_4 (dk_at dksJ20_grow_2_1 1 rfl rfl)
theorem dJ20_grow_2_26 : decode cJ20_grow_2 26 = .ok (.ishr, 1) := dk_122 (dk_at dksJ20_grow_2_1 2 rfl rfl)
theorem dJ20_grow_2_27 : decode cJ20_grow_2 27 = .ok (.invokestatic 73, 3) := dk_184 0 73 (dk_at dksJ20_grow_2_1 3 rfl rfl)
theorem dJ20_grow_2_30 : decode cJ20_grow_2 30 = .ok (.istore_n 3, 1) := dk_62 (dk_at dksJ20_grow_2_1 6 rfl rfl)
theorem dJ20_grow_2_31 : decode cJ20_grow_2 31 = .ok (.aload_n 0, 1) := dk_42 (dk_at dksJ20_grow_2_1 7 rfl rfl)
theorem dJ20_grow_2_32 : decode cJ20_grow_2 32 = .ok (.aload_n 0, 1) := dk_42 (dk_at dksJ20_grow_2_1 8 rfl rfl)
theorem dJ20_grow_2_33 : decode cJ20_grow_2 33 = .ok (.getfield 9, 3) := dk_180 0 9 (dk_at dksJ20_grow_2_1 9 rfl rfl)
theorem dJ20_grow_2_36 : decode cJ20_grow_2 36 = .ok (.iload_n 3, 1) := dk_29 (dk_at dksJ20_grow_2_1 12 rfl rfl)
theorem dJ20_grow_2_37 : decode cJ20_grow_2 37 = .ok (.invokestatic 66, 3) := dk_184 0 66 (dk_at dksJ20_grow_2_1 13 rfl rfl)
theorem dJ20_grow_2_40 : decode cJ20_grow_2 40 = .ok (.dup_x1, 1) := dk_90 (dk_at dksJ20_grow_2_1 16 rfl rfl)
theorem dJ20_grow_2_41 : decode cJ20_grow_2 41 = .ok (.putfield 9, 3) := dk_181 0 9 (dk_at dksJ20_grow_2_1 17 rfl rfl)
theorem dJ20_grow_2_44 : decode cJ20_grow_2 44 = .ok (.areturn, 1) := dk_176 (dk_at dksJ20_grow_2_1 20 rfl rfl)
theorem dJ20_grow_2_45 : decode cJ20_grow_2 45 = .ok (.aload_n 0, 1) := dk_42 (dk_at dksJ20_grow_2_1 21 rfl rfl)
theorem dJ20_grow_2_46 : decode cJ20_grow_2 46 = .ok (.bipush 10, 2) := dk_16 10 (dk_at dksJ20_grow_2_1 22 rfl rfl)
theorem dJ20_grow_2_48 : decode cJ20_grow_2 48 = .ok (.iload_n 1, 1) := dk_27 (dk_at dksJ20_grow_2_2 0 rfl rfl)
theorem dJ20_grow_2_49 : decode cJ20_grow_2 49 = .ok (.invokestatic 79, 3) := dk_184 0 79 (dk_at dksJ20_grow_2_2 1 rfl rfl)
theorem dJ20_grow_2_52 : decode cJ20_grow_2 52 = .ok (.anewarray 7, 3) := dk_189 0 7 (dk_at dksJ20_grow_2_2 4 rfl rfl)
theorem dJ20_grow_2_55 : decode cJ20_grow_2 55 = .ok (.dup_x1, 1) := dk_90 (dk_at dksJ20_grow_2_2 7 rfl rfl)
theorem dJ20_grow_2_56 : decode cJ20_grow_2 56 = .ok (.putfield 9, 3) := dk_181 0 9 (dk_at dksJ20_grow_2_2 8 rfl rfl)
theorem dJ20_grow_2_59 : decode cJ20_grow_2 59 = .ok (.areturn, 1) := dk_176 (dk_at dksJ20_grow_2_2 11 rfl rfl)
abbrev cJ20_size : ByteArray := prog_49_method_8_code
def yJ20_size : MethodName := ⟨RJ20, "size", "()I"⟩
theorem dJ20_size_0 : decode cJ20_size 0 = .ok (.aload_n 0, 1) := by decide +kernel
theorem dJ20_size_1 : decode cJ20_size 1 = .ok (.getfield 48, 3) := by decide +kernel
theorem dJ20_size_4 : decode cJ20_size 4 = .ok (.ireturn, 1) := by decide +kernel
abbrev cJ20_get : ByteArray := prog_49_method_20_code
def yJ20_get : MethodName := ⟨RJ20, "get", "(I)Ljava/lang/Object;"⟩
def dkwJ20_get_0 : List UInt8 := [27, 42, 180, 0, 48, 184, 0, 118, 87, 42, 27, 182, 0, 123, 176]
abbrev dktJ20_get_0 : List UInt8 := dkwJ20_get_0 ++ []
theorem dksJ20_get_0 : cJ20_get.data.toList.drop 0 = dktJ20_get_0 := by decide +kernel
theorem dJ20_get_0 : decode cJ20_get 0 = .ok (.iload_n 1, 1) := dk_27 (dk_at dksJ20_get_0 0 rfl rfl)
theorem dJ20_get_1 : decode cJ20_get 1 = .ok (.aload_n 0, 1) := dk_42 (dk_at dksJ20_get_0 1 rfl rfl)
theorem dJ20_get_2 : decode cJ20_get 2 = .ok (.getfield 48, 3) := dk_180 0 48 (dk_at dksJ20_get_0 2 rfl rfl)
theorem dJ20_get_5 : decode cJ20_get 5 = .ok (.invokestatic 118, 3) := dk_184 0 118 (dk_at dksJ20_get_0 5 rfl rfl)
theorem dJ20_get_8 : decode cJ20_get 8 = .ok (.pop, 1) := dk_87 (dk_at dksJ20_get_0 8 rfl rfl)
theorem dJ20_get_9 : decode cJ20_get 9 = .ok (.aload_n 0, 1) := dk_42 (dk_at dksJ20_get_0 9 rfl rfl)
theorem dJ20_get_10 : decode cJ20_get 10 = .ok (.iload_n 1, 1) := dk_27 (dk_at dksJ20_get_0 10 rfl rfl)
theorem dJ20_get_11 : decode cJ20_get 11 = .ok (.invokevirtual 123, 3) := dk_182 0 123 (dk_at dksJ20_get_0 11 rfl rfl)
theorem dJ20_get_14 : decode cJ20_get 14 = .ok (.areturn, 1) := dk_176 (dk_at dksJ20_get_0 14 rfl rfl)
abbrev cJ20_elementData : ByteArray := prog_49_method_18_code
def yJ20_elementData : MethodName := ⟨RJ20, "elementData", "(I)Ljava/lang/Object;"⟩
def dkwJ20_elementData_0 : List UInt8 := [42, 180, 0, 9, 27, 50, 176]
abbrev dktJ20_elementData_0 : List UInt8 := dkwJ20_elementData_0 ++ []
theorem dksJ20_elementData_0 : cJ20_elementData.data.toList.drop 0 = dktJ20_elementData_0 := by decide +kernel
theorem dJ20_elementData_0 : decode cJ20_elementData 0 = .ok (.aload_n 0, 1) := dk_42 (dk_at dksJ20_elementData_0 0 rfl rfl)
theorem dJ20_elementData_1 : decode cJ20_elementData 1 = .ok (.getfield 9, 3) := dk_180 0 9 (dk_at dksJ20_elementData_0 1 rfl rfl)
theorem dJ20_elementData_4 : decode cJ20_elementData 4 = .ok (.iload_n 1, 1) := dk_27 (dk_at dksJ20_elementData_0 4 rfl rfl)
theorem dJ20_elementData_5 : decode cJ20_elementData 5 = .ok (.aaload, 1) := dk_50 (dk_at dksJ20_elementData_0 5 rfl rfl)
theorem dJ20_elementData_6 : decode cJ20_elementData 6 = .ok (.areturn, 1) := dk_176 (dk_at dksJ20_elementData_0 6 rfl rfl)
abbrev cJ20_iterator : ByteArray := prog_49_method_55_code
def yJ20_iterator : MethodName := ⟨RJ20, "iterator", "()Ljava/util/Iterator;"⟩
def dkwJ20_iterator_0 : List UInt8 := [187, 1, 11, 89, 42, 183, 1, 13, 176]
abbrev dktJ20_iterator_0 : List UInt8 := dkwJ20_iterator_0 ++ []
theorem dksJ20_iterator_0 : cJ20_iterator.data.toList.drop 0 = dktJ20_iterator_0 := by decide +kernel
theorem dJ20_iterator_0 : decode cJ20_iterator 0 = .ok (.new 267, 3) := dk_187 1 11 (dk_at dksJ20_iterator_0 0 rfl rfl)
theorem dJ20_iterator_3 : decode cJ20_iterator 3 = .ok (.dup, 1) := dk_89 (dk_at dksJ20_iterator_0 3 rfl rfl)
theorem dJ20_iterator_4 : decode cJ20_iterator 4 = .ok (.aload_n 0, 1) := dk_42 (dk_at dksJ20_iterator_0 4 rfl rfl)
theorem dJ20_iterator_5 : decode cJ20_iterator 5 = .ok (.invokespecial 269, 3) := dk_183 1 13 (dk_at dksJ20_iterator_0 5 rfl rfl)
theorem dJ20_iterator_8 : decode cJ20_iterator 8 = .ok (.areturn, 1) := dk_176 (dk_at dksJ20_iterator_0 8 rfl rfl)
theorem q130 : (Jvm.Cond.initialized "java/util/ArrayList") ∈ lw_all := lw_g (lw_at lw_m1 28 rfl) rfl
theorem q477 : (Jvm.Cond.instantiable "java/util/ArrayList" (3 : Nat)) ∈ lw_all := lw_g (lw_at lw_m2 135 rfl) rfl
theorem q479 : (Jvm.Cond.instanceMethod ({ cls := "java/util/ArrayList", name := "<init>", desc := "()V" } : Jvm.MethodName)) ∈ lw_all := lw_g (lw_at lw_m2 137 rfl) rfl
theorem q480 : (Jvm.Cond.code ({ cls := "java/util/ArrayList", name := "<init>", desc := "()V" } : Jvm.MethodName) prog_49_method_2_code (1 : Nat) (Option.none : Option Jvm.ClassFile.FieldType)) ∈ lw_all := lw_g (lw_at lw_m2 138 rfl) rfl
theorem q481 : (Jvm.Cond.methodLink "java/util/ArrayList" (1 : Nat) ({ cls := "java/util/AbstractList", name := "<init>", desc := "()V" } : Jvm.MethodName)) ∈ lw_all := lw_g (lw_at lw_m2 139 rfl) rfl
theorem q488 : (Jvm.Cond.fieldLink "java/util/ArrayList" (39 : Nat) "java/util/ArrayList" "DEFAULTCAPACITY_EMPTY_ELEMENTDATA" "[Ljava/lang/Object;") ∈ lw_all := lw_g (lw_at lw_m2 146 rfl) rfl
theorem q489 : (Jvm.Cond.laysStatic "java/util/ArrayList" "DEFAULTCAPACITY_EMPTY_ELEMENTDATA" "[Ljava/lang/Object;") ∈ lw_tbl := lw_at lw_m2 147 rfl
theorem q490 : (Jvm.Cond.fieldLink "java/util/ArrayList" (9 : Nat) "java/util/ArrayList" "elementData" "[Ljava/lang/Object;") ∈ lw_all := lw_g (lw_at lw_m2 148 rfl) rfl
theorem q493 : (Jvm.Cond.fieldLink "java/util/ArrayList" (48 : Nat) "java/util/ArrayList" "size" "I") ∈ lw_all := lw_g (lw_at lw_m2 151 rfl) rfl
theorem q496 : (Jvm.Cond.sameField "java/util/ArrayList" "java/util/AbstractList" "modCount" "I") ∈ lw_all := lw_g (lw_at lw_m2 154 rfl) rfl
theorem q497 : (Jvm.Cond.fieldLink "java/util/ArrayList" (63 : Nat) "java/util/ArrayList" "modCount" "I") ∈ lw_all := lw_g (lw_at lw_m2 155 rfl) rfl
theorem q498 : (Jvm.Cond.lays "java/util/ArrayList" "java/util/ArrayList" "elementData" "[Ljava/lang/Object;") ∈ lw_all := lw_g (lw_at lw_m2 156 rfl) rfl
theorem q499 : (Jvm.Cond.soleField "java/util/ArrayList" "elementData") ∈ lw_all := lw_g (lw_at lw_m2 157 rfl) rfl
theorem q500 : (Jvm.Cond.lays "java/util/ArrayList" "java/util/ArrayList" "size" "I") ∈ lw_all := lw_g (lw_at lw_m2 158 rfl) rfl
theorem q501 : (Jvm.Cond.soleField "java/util/ArrayList" "size") ∈ lw_all := lw_g (lw_at lw_m2 159 rfl) rfl
theorem q502 : (Jvm.Cond.lays "java/util/ArrayList" "java/util/AbstractList" "modCount" "I") ∈ lw_all := lw_g (lw_at lw_m2 160 rfl) rfl
theorem q504 : (Jvm.Cond.superclass "java/util/ArrayList" "java/util/AbstractList") ∈ lw_all := lw_g (lw_at lw_m2 162 rfl) rfl
theorem q542 : (Jvm.Cond.instanceMethod ({ cls := "java/util/ArrayList", name := "add", desc := "(Ljava/lang/Object;)Z" } : Jvm.MethodName)) ∈ lw_all := lw_g (lw_at lw_m2 200 rfl) rfl
theorem q543 : (Jvm.Cond.selects "java/util/ArrayList" ({ cls := "java/util/ArrayList", name := "add", desc := "(Ljava/lang/Object;)Z" } : Jvm.MethodName) ({ cls := "java/util/ArrayList", name := "add", desc := "(Ljava/lang/Object;)Z" } : Jvm.MethodName)) ∈ lw_all := lw_g (lw_at lw_m2 201 rfl) rfl
theorem q544 : (Jvm.Cond.code ({ cls := "java/util/ArrayList", name := "add", desc := "(Ljava/lang/Object;)Z" } : Jvm.MethodName) prog_49_method_25_code (2 : Nat) (Option.some Jvm.ClassFile.FieldType.boolean)) ∈ lw_all := lw_g (lw_at lw_m2 202 rfl) rfl
theorem q545 : (Jvm.Cond.methodLink "java/util/ArrayList" (131 : Nat) ({ cls := "java/util/ArrayList", name := "add", desc := "(Ljava/lang/Object;[Ljava/lang/Object;I)V" } : Jvm.MethodName)) ∈ lw_all := lw_g (lw_at lw_m2 203 rfl) rfl
theorem q546 : (Jvm.Cond.privateMethod ({ cls := "java/util/ArrayList", name := "add", desc := "(Ljava/lang/Object;[Ljava/lang/Object;I)V" } : Jvm.MethodName)) ∈ lw_tbl := lw_at lw_m2 204 rfl
theorem q547 : (Jvm.Cond.instanceMethod ({ cls := "java/util/ArrayList", name := "add", desc := "(Ljava/lang/Object;[Ljava/lang/Object;I)V" } : Jvm.MethodName)) ∈ lw_all := lw_g (lw_at lw_m2 205 rfl) rfl
theorem q548 : (Jvm.Cond.code ({ cls := "java/util/ArrayList", name := "add", desc := "(Ljava/lang/Object;[Ljava/lang/Object;I)V" } : Jvm.MethodName) prog_49_method_24_code (4 : Nat) (Option.none : Option Jvm.ClassFile.FieldType)) ∈ lw_all := lw_g (lw_at lw_m2 206 rfl) rfl
theorem q549 : (Jvm.Cond.methodLink "java/util/ArrayList" (129 : Nat) ({ cls := "java/util/ArrayList", name := "grow", desc := "()[Ljava/lang/Object;" } : Jvm.MethodName)) ∈ lw_all := lw_g (lw_at lw_m2 207 rfl) rfl
theorem q550 : (Jvm.Cond.privateMethod ({ cls := "java/util/ArrayList", name := "grow", desc := "()[Ljava/lang/Object;" } : Jvm.MethodName)) ∈ lw_tbl := lw_at lw_m2 208 rfl
theorem q551 : (Jvm.Cond.instanceMethod ({ cls := "java/util/ArrayList", name := "grow", desc := "()[Ljava/lang/Object;" } : Jvm.MethodName)) ∈ lw_all := lw_g (lw_at lw_m2 209 rfl) rfl
theorem q552 : (Jvm.Cond.code ({ cls := "java/util/ArrayList", name := "grow", desc := "()[Ljava/lang/Object;" } : Jvm.MethodName) prog_49_method_7_code (1 : Nat) (Option.some (Jvm.ClassFile.FieldType.array (Jvm.ClassFile.FieldType.object "java/lang/Object")))) ∈ lw_all := lw_g (lw_at lw_m2 210 rfl) rfl
theorem q553 : (Jvm.Cond.methodLink "java/util/ArrayList" (69 : Nat) ({ cls := "java/util/ArrayList", name := "grow", desc := "(I)[Ljava/lang/Object;" } : Jvm.MethodName)) ∈ lw_all := lw_g (lw_at lw_m2 211 rfl) rfl
theorem q554 : (Jvm.Cond.privateMethod ({ cls := "java/util/ArrayList", name := "grow", desc := "(I)[Ljava/lang/Object;" } : Jvm.MethodName)) ∈ lw_tbl := lw_at lw_m2 212 rfl
theorem q555 : (Jvm.Cond.instanceMethod ({ cls := "java/util/ArrayList", name := "grow", desc := "(I)[Ljava/lang/Object;" } : Jvm.MethodName)) ∈ lw_all := lw_g (lw_at lw_m2 213 rfl) rfl
theorem q556 : (Jvm.Cond.code ({ cls := "java/util/ArrayList", name := "grow", desc := "(I)[Ljava/lang/Object;" } : Jvm.MethodName) prog_49_method_6_code (4 : Nat) (Option.some (Jvm.ClassFile.FieldType.array (Jvm.ClassFile.FieldType.object "java/lang/Object")))) ∈ lw_all := lw_g (lw_at lw_m2 214 rfl) rfl
theorem q557 : (Jvm.Cond.methodLink "java/util/ArrayList" (73 : Nat) ({ cls := "jdk/internal/util/ArraysSupport", name := "newLength", desc := "(III)I" } : Jvm.MethodName)) ∈ lw_all := lw_g (lw_at lw_m2 215 rfl) rfl
theorem q567 : (Jvm.Cond.methodLink "java/util/ArrayList" (66 : Nat) ({ cls := "java/util/Arrays", name := "copyOf", desc := "([Ljava/lang/Object;I)[Ljava/lang/Object;" } : Jvm.MethodName)) ∈ lw_all := lw_g (lw_at lw_m2 225 rfl) rfl
theorem q597 : (Jvm.Cond.selects "java/util/ArrayList" ({ cls := "java/lang/Object", name := "getClass", desc := "()Ljava/lang/Class;" } : Jvm.MethodName) ({ cls := "java/lang/Object", name := "getClass", desc := "()Ljava/lang/Class;" } : Jvm.MethodName)) ∈ lw_all := lw_g (lw_at lw_m3 15 rfl) rfl
theorem q610 : (Jvm.Cond.methodLink "java/util/ArrayList" (79 : Nat) ({ cls := "java/lang/Math", name := "max", desc := "(II)I" } : Jvm.MethodName)) ∈ lw_all := lw_g (lw_at lw_m3 28 rfl) rfl
theorem q611 : (Jvm.Cond.classLink "java/util/ArrayList" (7 : Nat) "java/lang/Object") ∈ lw_all := lw_g (lw_at lw_m3 29 rfl) rfl
theorem q621 : (Jvm.Cond.instanceMethod ({ cls := "java/util/ArrayList", name := "size", desc := "()I" } : Jvm.MethodName)) ∈ lw_all := lw_g (lw_at lw_m3 39 rfl) rfl
theorem q622 : (Jvm.Cond.selects "java/util/ArrayList" ({ cls := "java/util/ArrayList", name := "size", desc := "()I" } : Jvm.MethodName) ({ cls := "java/util/ArrayList", name := "size", desc := "()I" } : Jvm.MethodName)) ∈ lw_all := lw_g (lw_at lw_m3 40 rfl) rfl
theorem q623 : (Jvm.Cond.code ({ cls := "java/util/ArrayList", name := "size", desc := "()I" } : Jvm.MethodName) prog_49_method_8_code (1 : Nat) (Option.some Jvm.ClassFile.FieldType.int)) ∈ lw_all := lw_g (lw_at lw_m3 41 rfl) rfl
theorem q625 : (Jvm.Cond.instanceMethod ({ cls := "java/util/ArrayList", name := "get", desc := "(I)Ljava/lang/Object;" } : Jvm.MethodName)) ∈ lw_all := lw_g (lw_at lw_m3 43 rfl) rfl
theorem q626 : (Jvm.Cond.selects "java/util/ArrayList" ({ cls := "java/util/ArrayList", name := "get", desc := "(I)Ljava/lang/Object;" } : Jvm.MethodName) ({ cls := "java/util/ArrayList", name := "get", desc := "(I)Ljava/lang/Object;" } : Jvm.MethodName)) ∈ lw_all := lw_g (lw_at lw_m3 44 rfl) rfl
theorem q627 : (Jvm.Cond.code ({ cls := "java/util/ArrayList", name := "get", desc := "(I)Ljava/lang/Object;" } : Jvm.MethodName) prog_49_method_20_code (2 : Nat) (Option.some (Jvm.ClassFile.FieldType.object "java/lang/Object"))) ∈ lw_all := lw_g (lw_at lw_m3 45 rfl) rfl
theorem q628 : (Jvm.Cond.methodLink "java/util/ArrayList" (118 : Nat) ({ cls := "java/util/Objects", name := "checkIndex", desc := "(II)I" } : Jvm.MethodName)) ∈ lw_all := lw_g (lw_at lw_m3 46 rfl) rfl
theorem q634 : (Jvm.Cond.methodLink "java/util/ArrayList" (123 : Nat) ({ cls := "java/util/ArrayList", name := "elementData", desc := "(I)Ljava/lang/Object;" } : Jvm.MethodName)) ∈ lw_all := lw_g (lw_at lw_m3 52 rfl) rfl
theorem q635 : (Jvm.Cond.instanceMethod ({ cls := "java/util/ArrayList", name := "elementData", desc := "(I)Ljava/lang/Object;" } : Jvm.MethodName)) ∈ lw_all := lw_g (lw_at lw_m3 53 rfl) rfl
theorem q636 : (Jvm.Cond.selects "java/util/ArrayList" ({ cls := "java/util/ArrayList", name := "elementData", desc := "(I)Ljava/lang/Object;" } : Jvm.MethodName) ({ cls := "java/util/ArrayList", name := "elementData", desc := "(I)Ljava/lang/Object;" } : Jvm.MethodName)) ∈ lw_all := lw_g (lw_at lw_m3 54 rfl) rfl
theorem q637 : (Jvm.Cond.code ({ cls := "java/util/ArrayList", name := "elementData", desc := "(I)Ljava/lang/Object;" } : Jvm.MethodName) prog_49_method_18_code (2 : Nat) (Option.some (Jvm.ClassFile.FieldType.object "java/lang/Object"))) ∈ lw_all := lw_g (lw_at lw_m3 55 rfl) rfl
theorem q1065 : (Jvm.Cond.instanceMethod ({ cls := "java/util/ArrayList", name := "iterator", desc := "()Ljava/util/Iterator;" } : Jvm.MethodName)) ∈ lw_all := lw_g (lw_at lw_m5 3 rfl) rfl
theorem q1066 : (Jvm.Cond.selects "java/util/ArrayList" ({ cls := "java/util/ArrayList", name := "iterator", desc := "()Ljava/util/Iterator;" } : Jvm.MethodName) ({ cls := "java/util/ArrayList", name := "iterator", desc := "()Ljava/util/Iterator;" } : Jvm.MethodName)) ∈ lw_all := lw_g (lw_at lw_m5 4 rfl) rfl
theorem q1067 : (Jvm.Cond.code ({ cls := "java/util/ArrayList", name := "iterator", desc := "()Ljava/util/Iterator;" } : Jvm.MethodName) prog_49_method_55_code (1 : Nat) (Option.some (Jvm.ClassFile.FieldType.object "java/util/Iterator"))) ∈ lw_all := lw_g (lw_at lw_m5 5 rfl) rfl
theorem q1068 : (Jvm.Cond.classLink "java/util/ArrayList" (267 : Nat) "java/util/ArrayList$Itr") ∈ lw_all := lw_g (lw_at lw_m5 6 rfl) rfl
theorem q1070 : (Jvm.Cond.methodLink "java/util/ArrayList" (269 : Nat) ({ cls := "java/util/ArrayList$Itr", name := "<init>", desc := "(Ljava/util/ArrayList;)V" } : Jvm.MethodName)) ∈ lw_all := lw_g (lw_at lw_m5 8 rfl) rfl
theorem q2639 : (Jvm.Cond.castable "java/util/ArrayList" "java/lang/Object") ∈ lw_tbl := lw_at lw_m11 137 rfl
theorem in_J20 : ∀ w ∈ wsJ200, w ∈ lw_all := lw_in wsJ200 [502, 498, 500] (by decide +kernel) (by decide +kernel)

/-! java/util/Objects -/
set_option maxRecDepth 100000
def RJ21 : String := "java/util/Objects"
abbrev cJ21_checkIndex : ByteArray := prog_55_method_17_code
def yJ21_checkIndex : MethodName := ⟨RJ21, "checkIndex", "(II)I"⟩
def dkwJ21_checkIndex_0 : List UInt8 := [26, 27, 1, 184, 0, 105, 172]
abbrev dktJ21_checkIndex_0 : List UInt8 := dkwJ21_checkIndex_0 ++ []
theorem dksJ21_checkIndex_0 : cJ21_checkIndex.data.toList.drop 0 = dktJ21_checkIndex_0 := by decide +kernel
theorem dJ21_checkIndex_0 : decode cJ21_checkIndex 0 = .ok (.iload_n 0, 1) := dk_26 (dk_at dksJ21_checkIndex_0 0 rfl rfl)
theorem dJ21_checkIndex_1 : decode cJ21_checkIndex 1 = .ok (.iload_n 1, 1) := dk_27 (dk_at dksJ21_checkIndex_0 1 rfl rfl)
theorem dJ21_checkIndex_2 : decode cJ21_checkIndex 2 = .ok (.aconst_null, 1) := dk_1 (dk_at dksJ21_checkIndex_0 2 rfl rfl)
theorem dJ21_checkIndex_3 : decode cJ21_checkIndex 3 = .ok (.invokestatic 105, 3) := dk_184 0 105 (dk_at dksJ21_checkIndex_0 3 rfl rfl)
theorem dJ21_checkIndex_6 : decode cJ21_checkIndex 6 = .ok (.ireturn, 1) := dk_172 (dk_at dksJ21_checkIndex_0 6 rfl rfl)
theorem q132 : (Jvm.Cond.initialized "java/util/Objects") ∈ lw_all := lw_g (lw_at lw_m1 30 rfl) rfl
theorem q629 : (Jvm.Cond.static ({ cls := "java/util/Objects", name := "checkIndex", desc := "(II)I" } : Jvm.MethodName)) ∈ lw_all := lw_g (lw_at lw_m3 47 rfl) rfl
theorem q630 : (Jvm.Cond.code ({ cls := "java/util/Objects", name := "checkIndex", desc := "(II)I" } : Jvm.MethodName) prog_55_method_17_code (2 : Nat) (Option.some Jvm.ClassFile.FieldType.int)) ∈ lw_all := lw_g (lw_at lw_m3 48 rfl) rfl
theorem q631 : (Jvm.Cond.methodLink "java/util/Objects" (105 : Nat) ({ cls := "jdk/internal/util/Preconditions", name := "checkIndex", desc := "(IILjava/util/function/BiFunction;)I" } : Jvm.MethodName)) ∈ lw_all := lw_g (lw_at lw_m3 49 rfl) rfl

/-! java/util/ArrayList$Itr -/
set_option maxRecDepth 100000
def RJ22 : String := "java/util/ArrayList$Itr"
def TJ22 : u_T := fun k => match k with
  | 0 => ("java/util/ArrayList$Itr", "cursor", "I", false)
  | 1 => ("java/util/ArrayList$Itr", "lastRet", "I", false)
  | 2 => ("java/util/ArrayList$Itr", "expectedModCount", "I", false)
  | _ => ("java/util/ArrayList$Itr", "this$0", "Ljava/util/ArrayList;", true)
def tyJ22 : Nat → FieldType := fun k => match k with
  | 0 => .int
  | 1 => .int
  | 2 => .int
  | _ => .object "java/util/ArrayList"
abbrev wsJ220 : List Cond := u_ws RJ22 TJ22 4
theorem nmJ22 : ∀ a, a < 4 → ∀ b, b < 4 → a ≠ b → (TJ22 a).2.1 ≠ (TJ22 b).2.1 := by decide +kernel
theorem tyJ22_ok : ∀ k, k < 4 → parseFieldDescriptor (TJ22 k).2.2.1 = some (tyJ22 k) := by decide +kernel
abbrev cJ22_init : ByteArray := prog_50_method_1_code
def yJ22_init : MethodName := ⟨RJ22, "<init>", "(Ljava/util/ArrayList;)V"⟩
def dkwJ22_init_1 : List UInt8 := [181, 0, 22, 177]
abbrev dktJ22_init_1 : List UInt8 := dkwJ22_init_1 ++ []
def dkwJ22_init_0 : List UInt8 := [42, 43, 181, 0, 1, 42, 183, 0, 7, 42, 2, 181, 0, 13, 42, 42, 180, 0, 1, 180, 0, 17]
abbrev dktJ22_init_0 : List UInt8 := dkwJ22_init_0 ++ dktJ22_init_1
theorem dksJ22_init_0 : cJ22_init.data.toList.drop 0 = dktJ22_init_0 := by decide +kernel
theorem dksJ22_init_1 : cJ22_init.data.toList.drop 22 = dktJ22_init_1 := dk_seg dksJ22_init_0 22 rfl rfl
theorem dJ22_init_0 : decode cJ22_init 0 = .ok (.aload_n 0, 1) := dk_42 (dk_at dksJ22_init_0 0 rfl rfl)
theorem dJ22_init_1 : decode cJ22_init 1 = .ok (.aload_n 1, 1) := dk_43 (dk_at dksJ22_init_0 1 rfl rfl)
theorem dJ22_init_2 : decode cJ22_init 2 = .ok (.putfield 1, 3) := dk_181 0 1 (dk_at dksJ22_init_0 2 rfl rfl)
theorem dJ22_init_5 : decode cJ22_init 5 = .ok (.aload_n 0, 1) := dk_42 (dk_at dksJ22_init_0 5 rfl rfl)
theorem dJ22_init_6 : decode cJ22_init 6 = .ok (.invokespecial 7, 3) := dk_183 0 7 (dk_at dksJ22_init_0 6 rfl rfl)
theorem dJ22_init_9 : decode cJ22_init 9 = .ok (.aload_n 0, 1) := dk_42 (dk_at dksJ22_init_0 9 rfl rfl)
theorem dJ22_init_10 : decode cJ22_init 10 = .ok (.iconst (-1), 1) := dk_2 (dk_at dksJ22_init_0 10 rfl rfl)
theorem dJ22_init_11 : decode cJ22_init 11 = .ok (.putfield 13, 3) := dk_181 0 13 (dk_at dksJ22_init_0 11 rfl rfl)
theorem dJ22_init_14 : decode cJ22_init 14 = .ok (.aload_n 0, 1) := dk_42 (dk_at dksJ22_init_0 14 rfl rfl)
theorem dJ22_init_15 : decode cJ22_init 15 = .ok (.aload_n 0, 1) := dk_42 (dk_at dksJ22_init_0 15 rfl rfl)
theorem dJ22_init_16 : decode cJ22_init 16 = .ok (.getfield 1, 3) := dk_180 0 1 (dk_at dksJ22_init_0 16 rfl rfl)
theorem dJ22_init_19 : decode cJ22_init 19 = .ok (.getfield 17, 3) := dk_180 0 17 (dk_at dksJ22_init_0 19 rfl rfl)
theorem dJ22_init_22 : decode cJ22_init 22 = .ok (.putfield 22, 3) := dk_181 0 22 (dk_at dksJ22_init_1 0 rfl rfl)
theorem dJ22_init_25 : decode cJ22_init 25 = .ok (.return_, 1) := dk_177 (dk_at dksJ22_init_1 3 rfl rfl)
abbrev cJ22_hasNext : ByteArray := prog_50_method_2_code
def yJ22_hasNext : MethodName := ⟨RJ22, "hasNext", "()Z"⟩
def dkwJ22_hasNext_0 : List UInt8 := [42, 180, 0, 25, 42, 180, 0, 1, 180, 0, 28, 159, 0, 7, 4, 167, 0, 4, 3, 172]
abbrev dktJ22_hasNext_0 : List UInt8 := dkwJ22_hasNext_0 ++ []
theorem dksJ22_hasNext_0 : cJ22_hasNext.data.toList.drop 0 = dktJ22_hasNext_0 := by decide +kernel
theorem dJ22_hasNext_0 : decode cJ22_hasNext 0 = .ok (.aload_n 0, 1) := dk_42 (dk_at dksJ22_hasNext_0 0 rfl rfl)
theorem dJ22_hasNext_1 : decode cJ22_hasNext 1 = .ok (.getfield 25, 3) := dk_180 0 25 (dk_at dksJ22_hasNext_0 1 rfl rfl)
theorem dJ22_hasNext_4 : decode cJ22_hasNext 4 = .ok (.aload_n 0, 1) := dk_42 (dk_at dksJ22_hasNext_0 4 rfl rfl)
theorem dJ22_hasNext_5 : decode cJ22_hasNext 5 = .ok (.getfield 1, 3) := dk_180 0 1 (dk_at dksJ22_hasNext_0 5 rfl rfl)
theorem dJ22_hasNext_8 : decode cJ22_hasNext 8 = .ok (.getfield 28, 3) := dk_180 0 28 (dk_at dksJ22_hasNext_0 8 rfl rfl)
theorem dJ22_hasNext_11 : decode cJ22_hasNext 11 = .ok (.if_icmp .eq 7, 3) := dk_159 0 7 (dk_at dksJ22_hasNext_0 11 rfl rfl)
theorem dJ22_hasNext_14 : decode cJ22_hasNext 14 = .ok (.iconst 1, 1) := dk_4 (dk_at dksJ22_hasNext_0 14 rfl rfl)
theorem dJ22_hasNext_15 : decode cJ22_hasNext 15 = .ok (.goto 4, 3) := dk_167 0 4 (dk_at dksJ22_hasNext_0 15 rfl rfl)
theorem dJ22_hasNext_18 : decode cJ22_hasNext 18 = .ok (.iconst 0, 1) := dk_3 (dk_at dksJ22_hasNext_0 18 rfl rfl)
theorem dJ22_hasNext_19 : decode cJ22_hasNext 19 = .ok (.ireturn, 1) := dk_172 (dk_at dksJ22_hasNext_0 19 rfl rfl)
abbrev cJ22_next : ByteArray := prog_50_method_3_code
def yJ22_next : MethodName := ⟨RJ22, "next", "()Ljava/lang/Object;"⟩
def dkwJ22_next_2 : List UInt8 := [183, 0, 43, 191, 42, 27, 4, 96, 181, 0, 25, 44, 42, 27, 90, 181, 0, 13, 50, 176]
abbrev dktJ22_next_2 : List UInt8 := dkwJ22_next_2 ++ []
def dkwJ22_next_1 : List UInt8 := [183, 0, 36, 191, 42, 180, 0, 1, 180, 0, 37, 77, 27, 44, 190, 161, 0, 11, 187, 0, 41, 89]
abbrev dktJ22_next_1 : List UInt8 := dkwJ22_next_1 ++ dktJ22_next_2
def dkwJ22_next_0 : List UInt8 := [42, 182, 0, 31, 42, 180, 0, 25, 60, 27, 42, 180, 0, 1, 180, 0, 28, 161, 0, 11, 187, 0, 34, 89]
abbrev dktJ22_next_0 : List UInt8 := dkwJ22_next_0 ++ dktJ22_next_1
theorem dksJ22_next_0 : cJ22_next.data.toList.drop 0 = dktJ22_next_0 := by decide +kernel
theorem dksJ22_next_1 : cJ22_next.data.toList.drop 24 = dktJ22_next_1 := dk_seg dksJ22_next_0 24 rfl rfl
theorem dksJ22_next_2 : cJ22_next.data.toList.drop 46 = dktJ22_next_2 := dk_seg dksJ22_next_1 22 rfl rfl
theorem dJ22_next_0 : decode cJ22_next 0 = .ok (.aload_n 0, 1) := dk_42 (dk_at dksJ22_next_0 0 rfl rfl)
theorem dJ22_next_1 : decode cJ22_next 1 = .ok (.invokevirtual 31, 3) := dk_182 0 31 (dk_at dksJ22_next_0 1 rfl rfl)
theorem dJ22_next_4 : decode cJ22_next 4 = .ok (.aload_n 0, 1) := dk_42 (dk_at dksJ22_next_0 4 rfl rfl)
theorem dJ22_next_5 : decode cJ22_next 5 = .ok (.getfield 25, 3) := dk_180 0 25 (dk_at dksJ22_next_0 5 rfl rfl)
theorem dJ22_next_8 : decode cJ22_next 8 = .ok (.istore_n 1, 1) := dk_60 (dk_at dksJ22_next_0 8 rfl rfl)
theorem dJ22_next_9 : decode cJ22_next 9 = .ok (.iload_n 1, 1) := dk_27 (dk_at dksJ22_next_0 9 rfl rfl)
theorem dJ22_next_10 : decode cJ22_next 10 = .ok (.aload_n 0, 1) := dk_42 (dk_at dksJ22_next_0 10 rfl rfl)
theorem dJ22_next_11 : decode cJ22_next 11 = .ok (.getfield 1, 3) := dk_180 0 1 (dk_at dksJ22_next_0 11 rfl rfl)
theorem dJ22_next_14 : decode cJ22_next 14 = .ok (.getfield 28, 3) := dk_180 0 28 (dk_at dksJ22_next_0 14 rfl rfl)
theorem dJ22_next_17 : decode cJ22_next 17 = .ok (.if_icmp .lt 11, 3) := dk_161 0 11 (dk_at dksJ22_next_0 17 rfl rfl)
theorem dJ22_next_20 : decode cJ22_next 20 = .ok (.new 34, 3) := dk_187 0 34 (dk_at dksJ22_next_0 20 rfl rfl)
theorem dJ22_next_23 : decode cJ22_next 23 = .ok (.dup, 1) := dk_89 (dk_at dksJ22_next_0 23 rfl rfl)
theorem dJ22_next_24 : decode cJ22_next 24 = .ok (.invokespecial 36, 3) := dk_183 0 36 (dk_at dksJ22_next_1 0 rfl rfl)
theorem dJ22_next_27 : decode cJ22_next 27 = .ok (.athrow, 1) := dk_191 (dk_at dksJ22_next_1 3 rfl rfl)
theorem dJ22_next_28 : decode cJ22_next 28 = .ok (.aload_n 0, 1) := dk_42 (dk_at dksJ22_next_1 4 rfl rfl)
theorem dJ22_next_29 : decode cJ22_next 29 = .ok (.getfield 1, 3) := dk_180 0 1 (dk_at dksJ22_next_1 5 rfl rfl)
theorem dJ22_next_32 : decode cJ22_next 32 = .ok (.getfield 37, 3) := dk_180 0 37 (dk_at dksJ22_next_1 8 rfl rfl)
theorem dJ22_next_35 : decode cJ22_next 35 = .ok (.astore_n 2, 1) := dk_77 (dk_at dksJ22_next_1 11 rfl rfl)
theorem dJ22_next_36 : decode cJ22_next 36 = .ok (.iload_n 1, 1) := dk_27 (dk_at dksJ22_next_1 12 rfl rfl)
theorem dJ22_next_37 : decode cJ22_next 37 = .ok (.aload_n 2, 1) := dk_44 (dk_at dksJ22_next_1 13 rfl rfl)
theorem dJ22_next_38 : decode cJ22_next 38 = .ok (.arraylength, 1) := dk_190 (dk_at dksJ22_next_1 14 rfl rfl)
theorem dJ22_next_39 : decode cJ22_next 39 = .ok (.if_icmp .lt 11, 3) := dk_161 0 11 (dk_at dksJ22_next_1 15 rfl rfl)
theorem dJ22_next_42 : decode cJ22_next 42 = .ok (.new 41, 3) := dk_187 0 41 (dk_at dksJ22_next_1 18 rfl rfl)
theorem dJ22_next_45 : decode cJ22_next 45 = .ok (.dup, 1) := dk_89 (dk_at dksJ22_next_1 21 rfl rfl)
theorem dJ22_next_46 : decode cJ22_next 46 = .ok (.invokespecial 43, 3) := dk_183 0 43 (dk_at dksJ22_next_2 0 rfl rfl)
theorem dJ22_next_49 : decode cJ22_next 49 = .ok (.athrow, 1) := dk_191 (dk_at dksJ22_next_2 3 rfl rfl)
theorem dJ22_next_50 : decode cJ22_next 50 = .ok (.aload_n 0, 1) := dk_42 (dk_at dksJ22_next_2 4 rfl rfl)
theorem dJ22_next_51 : decode cJ22_next 51 = .ok (.iload_n 1, 1) := dk_27 (dk_at dksJ22_next_2 5 rfl rfl)
theorem dJ22_next_52 : decode cJ22_next 52 = .ok (.iconst 1, 1) := dk_4 (dk_at dksJ22_next_2 6 rfl rfl)
theorem dJ22_next_53 : decode cJ22_next 53 = .ok (.iadd, 1) := dk_96 (dk_at dksJ22_next_2 7 rfl rfl)
theorem dJ22_next_54 : decode cJ22_next 54 = .ok (.putfield 25, 3) := dk_181 0 25 (dk_at dksJ22_next_2 8 rfl rfl)
theorem dJ22_next_57 : decode cJ22_next 57 = .ok (.aload_n 2, 1) := dk_44 (dk_at dksJ22_next_2 11 rfl rfl)
theorem dJ22_next_58 : decode cJ22_next 58 = .ok (.aload_n 0, 1) := dk_42 (dk_at dksJ22_next_2 12 rfl rfl)
theorem dJ22_next_59 : decode cJ22_next 59 = .ok (.iload_n 1, 1) := dk_27 (dk_at dksJ22_next_2 13 rfl rfl)
theorem dJ22_next_60 : decode cJ22_next 60 = .ok (.dup_x1, 1) := dk_90 (dk_at dksJ22_next_2 14 rfl rfl)
theorem dJ22_next_61 : decode cJ22_next 61 = .ok (.putfield 13, 3) := dk_181 0 13 (dk_at dksJ22_next_2 15 rfl rfl)
theorem dJ22_next_64 : decode cJ22_next 64 = .ok (.aaload, 1) := dk_50 (dk_at dksJ22_next_2 18 rfl rfl)
theorem dJ22_next_65 : decode cJ22_next 65 = .ok (.areturn, 1) := dk_176 (dk_at dksJ22_next_2 19 rfl rfl)
abbrev cJ22_checkForComodification : ByteArray := prog_50_method_6_code
def yJ22_checkForComodification : MethodName := ⟨RJ22, "checkForComodification", "()V"⟩
def dkwJ22_checkForComodification_0 : List UInt8 := [42, 180, 0, 1, 180, 0, 17, 42, 180, 0, 22, 159, 0, 11, 187, 0, 41, 89, 183, 0, 43, 191, 177]
abbrev dktJ22_checkForComodification_0 : List UInt8 := dkwJ22_checkForComodification_0 ++ []
theorem dksJ22_checkForComodification_0 : cJ22_checkForComodification.data.toList.drop 0 = dktJ22_checkForComodification_0 := by decide +kernel
theorem dJ22_checkForComodification_0 : decode cJ22_checkForComodification 0 = .ok (.aload_n 0, 1) := dk_42 (dk_at dksJ22_checkForComodification_0 0 rfl rfl)
theorem dJ22_checkForComodification_1 : decode cJ22_checkForComodification 1 = .ok (.getfield 1, 3) := dk_180 0 1 (dk_at dksJ22_checkForComodification_0 1 rfl rfl)
theorem dJ22_checkForComodification_4 : decode cJ22_checkForComodification 4 = .ok (.getfield 17, 3) := dk_180 0 17 (dk_at dksJ22_checkForComodification_0 4 rfl rfl)
theorem dJ22_checkForComodification_7 : decode cJ22_checkForComodification 7 = .ok (.aload_n 0, 1) := dk_42 (dk_at dksJ22_checkForComodification_0 7 rfl rfl)
theorem dJ22_checkForComodification_8 : decode cJ22_checkForComodification 8 = .ok (.getfield 22, 3) := dk_180 0 22 (dk_at dksJ22_checkForComodification_0 8 rfl rfl)
theorem dJ22_checkForComodification_11 : decode cJ22_checkForComodification 11 = .ok (.if_icmp .eq 11, 3) := dk_159 0 11 (dk_at dksJ22_checkForComodification_0 11 rfl rfl)
theorem dJ22_checkForComodification_14 : decode cJ22_checkForComodification 14 = .ok (.new 41, 3) := dk_187 0 41 (dk_at dksJ22_checkForComodification_0 14 rfl rfl)
theorem dJ22_checkForComodification_17 : decode cJ22_checkForComodification 17 = .ok (.dup, 1) := dk_89 (dk_at dksJ22_checkForComodification_0 17 rfl rfl)
theorem dJ22_checkForComodification_18 : decode cJ22_checkForComodification 18 = .ok (.invokespecial 43, 3) := dk_183 0 43 (dk_at dksJ22_checkForComodification_0 18 rfl rfl)
theorem dJ22_checkForComodification_21 : decode cJ22_checkForComodification 21 = .ok (.athrow, 1) := dk_191 (dk_at dksJ22_checkForComodification_0 21 rfl rfl)
theorem dJ22_checkForComodification_22 : decode cJ22_checkForComodification 22 = .ok (.return_, 1) := dk_177 (dk_at dksJ22_checkForComodification_0 22 rfl rfl)
theorem q134 : (Jvm.Cond.initialized "java/util/ArrayList$Itr") ∈ lw_all := lw_g (lw_at lw_m1 32 rfl) rfl
theorem q491 : (Jvm.Cond.fieldLink "java/util/ArrayList$Itr" (37 : Nat) "java/util/ArrayList" "elementData" "[Ljava/lang/Object;") ∈ lw_all := lw_g (lw_at lw_m2 149 rfl) rfl
theorem q492 : (Jvm.Cond.fieldLinkNest "java/util/ArrayList$Itr" (28 : Nat) "java/util/ArrayList" "size" "I" "java/util/ArrayList") ∈ lw_tbl := lw_at lw_m2 150 rfl
theorem q495 : (Jvm.Cond.fieldLink "java/util/ArrayList$Itr" (17 : Nat) "java/util/ArrayList" "modCount" "I") ∈ lw_all := lw_g (lw_at lw_m2 153 rfl) rfl
theorem q598 : (Jvm.Cond.selects "java/util/ArrayList$Itr" ({ cls := "java/lang/Object", name := "getClass", desc := "()Ljava/lang/Class;" } : Jvm.MethodName) ({ cls := "java/lang/Object", name := "getClass", desc := "()Ljava/lang/Class;" } : Jvm.MethodName)) ∈ lw_all := lw_g (lw_at lw_m3 16 rfl) rfl
theorem q1069 : (Jvm.Cond.instantiable "java/util/ArrayList$Itr" (4 : Nat)) ∈ lw_all := lw_g (lw_at lw_m5 7 rfl) rfl
theorem q1071 : (Jvm.Cond.instanceMethod ({ cls := "java/util/ArrayList$Itr", name := "<init>", desc := "(Ljava/util/ArrayList;)V" } : Jvm.MethodName)) ∈ lw_all := lw_g (lw_at lw_m5 9 rfl) rfl
theorem q1072 : (Jvm.Cond.code ({ cls := "java/util/ArrayList$Itr", name := "<init>", desc := "(Ljava/util/ArrayList;)V" } : Jvm.MethodName) prog_50_method_1_code (2 : Nat) (Option.none : Option Jvm.ClassFile.FieldType)) ∈ lw_all := lw_g (lw_at lw_m5 10 rfl) rfl
theorem q1073 : (Jvm.Cond.methodLink "java/util/ArrayList$Itr" (7 : Nat) ({ cls := "java/lang/Object", name := "<init>", desc := "()V" } : Jvm.MethodName)) ∈ lw_all := lw_g (lw_at lw_m5 11 rfl) rfl
theorem q1074 : (Jvm.Cond.fieldLink "java/util/ArrayList$Itr" (25 : Nat) "java/util/ArrayList$Itr" "cursor" "I") ∈ lw_all := lw_g (lw_at lw_m5 12 rfl) rfl
theorem q1075 : (Jvm.Cond.fieldLink "java/util/ArrayList$Itr" (13 : Nat) "java/util/ArrayList$Itr" "lastRet" "I") ∈ lw_all := lw_g (lw_at lw_m5 13 rfl) rfl
theorem q1076 : (Jvm.Cond.fieldLink "java/util/ArrayList$Itr" (22 : Nat) "java/util/ArrayList$Itr" "expectedModCount" "I") ∈ lw_all := lw_g (lw_at lw_m5 14 rfl) rfl
theorem q1077 : (Jvm.Cond.fieldLink "java/util/ArrayList$Itr" (1 : Nat) "java/util/ArrayList$Itr" "this$0" "Ljava/util/ArrayList;") ∈ lw_all := lw_g (lw_at lw_m5 15 rfl) rfl
theorem q1078 : (Jvm.Cond.lays "java/util/ArrayList$Itr" "java/util/ArrayList$Itr" "cursor" "I") ∈ lw_all := lw_g (lw_at lw_m5 16 rfl) rfl
theorem q1079 : (Jvm.Cond.soleField "java/util/ArrayList$Itr" "cursor") ∈ lw_all := lw_g (lw_at lw_m5 17 rfl) rfl
theorem q1080 : (Jvm.Cond.lays "java/util/ArrayList$Itr" "java/util/ArrayList$Itr" "lastRet" "I") ∈ lw_all := lw_g (lw_at lw_m5 18 rfl) rfl
theorem q1081 : (Jvm.Cond.soleField "java/util/ArrayList$Itr" "lastRet") ∈ lw_all := lw_g (lw_at lw_m5 19 rfl) rfl
theorem q1082 : (Jvm.Cond.lays "java/util/ArrayList$Itr" "java/util/ArrayList$Itr" "expectedModCount" "I") ∈ lw_all := lw_g (lw_at lw_m5 20 rfl) rfl
theorem q1083 : (Jvm.Cond.soleField "java/util/ArrayList$Itr" "expectedModCount") ∈ lw_all := lw_g (lw_at lw_m5 21 rfl) rfl
theorem q1084 : (Jvm.Cond.laysFinal "java/util/ArrayList$Itr" "java/util/ArrayList$Itr" "this$0" "Ljava/util/ArrayList;") ∈ lw_all := lw_g (lw_at lw_m5 22 rfl) rfl
theorem q1085 : (Jvm.Cond.soleField "java/util/ArrayList$Itr" "this$0") ∈ lw_all := lw_g (lw_at lw_m5 23 rfl) rfl
theorem q1086 : (Jvm.Cond.superclass "java/util/ArrayList$Itr" "java/lang/Object") ∈ lw_all := lw_g (lw_at lw_m5 24 rfl) rfl
theorem q1091 : (Jvm.Cond.castable "java/util/ArrayList$Itr" "java/util/Iterator") ∈ lw_tbl := lw_at lw_m5 29 rfl
theorem q1092 : (Jvm.Cond.selects "java/util/ArrayList$Itr" ({ cls := "java/util/Iterator", name := "hasNext", desc := "()Z" } : Jvm.MethodName) ({ cls := "java/util/ArrayList$Itr", name := "hasNext", desc := "()Z" } : Jvm.MethodName)) ∈ lw_all := lw_g (lw_at lw_m5 30 rfl) rfl
theorem q1093 : (Jvm.Cond.unhidden "java/util/ArrayList$Itr" "hasNext" "()Z") ∈ lw_tbl := lw_at lw_m5 31 rfl
theorem q1094 : (Jvm.Cond.instanceMethod ({ cls := "java/util/ArrayList$Itr", name := "hasNext", desc := "()Z" } : Jvm.MethodName)) ∈ lw_all := lw_g (lw_at lw_m5 32 rfl) rfl
theorem q1095 : (Jvm.Cond.publicMethod ({ cls := "java/util/ArrayList$Itr", name := "hasNext", desc := "()Z" } : Jvm.MethodName)) ∈ lw_tbl := lw_at lw_m5 33 rfl
theorem q1096 : (Jvm.Cond.code ({ cls := "java/util/ArrayList$Itr", name := "hasNext", desc := "()Z" } : Jvm.MethodName) prog_50_method_2_code (1 : Nat) (Option.some Jvm.ClassFile.FieldType.boolean)) ∈ lw_all := lw_g (lw_at lw_m5 34 rfl) rfl
theorem q1101 : (Jvm.Cond.selects "java/util/ArrayList$Itr" ({ cls := "java/util/Iterator", name := "next", desc := "()Ljava/lang/Object;" } : Jvm.MethodName) ({ cls := "java/util/ArrayList$Itr", name := "next", desc := "()Ljava/lang/Object;" } : Jvm.MethodName)) ∈ lw_all := lw_g (lw_at lw_m5 39 rfl) rfl
theorem q1102 : (Jvm.Cond.unhidden "java/util/ArrayList$Itr" "next" "()Ljava/lang/Object;") ∈ lw_tbl := lw_at lw_m5 40 rfl
theorem q1103 : (Jvm.Cond.instanceMethod ({ cls := "java/util/ArrayList$Itr", name := "next", desc := "()Ljava/lang/Object;" } : Jvm.MethodName)) ∈ lw_all := lw_g (lw_at lw_m5 41 rfl) rfl
theorem q1104 : (Jvm.Cond.publicMethod ({ cls := "java/util/ArrayList$Itr", name := "next", desc := "()Ljava/lang/Object;" } : Jvm.MethodName)) ∈ lw_tbl := lw_at lw_m5 42 rfl
theorem q1105 : (Jvm.Cond.code ({ cls := "java/util/ArrayList$Itr", name := "next", desc := "()Ljava/lang/Object;" } : Jvm.MethodName) prog_50_method_3_code (3 : Nat) (Option.some (Jvm.ClassFile.FieldType.object "java/lang/Object"))) ∈ lw_all := lw_g (lw_at lw_m5 43 rfl) rfl
theorem q1106 : (Jvm.Cond.methodLink "java/util/ArrayList$Itr" (31 : Nat) ({ cls := "java/util/ArrayList$Itr", name := "checkForComodification", desc := "()V" } : Jvm.MethodName)) ∈ lw_all := lw_g (lw_at lw_m5 44 rfl) rfl
theorem q1107 : (Jvm.Cond.instanceMethod ({ cls := "java/util/ArrayList$Itr", name := "checkForComodification", desc := "()V" } : Jvm.MethodName)) ∈ lw_all := lw_g (lw_at lw_m5 45 rfl) rfl
theorem q1108 : (Jvm.Cond.selects "java/util/ArrayList$Itr" ({ cls := "java/util/ArrayList$Itr", name := "checkForComodification", desc := "()V" } : Jvm.MethodName) ({ cls := "java/util/ArrayList$Itr", name := "checkForComodification", desc := "()V" } : Jvm.MethodName)) ∈ lw_all := lw_g (lw_at lw_m5 46 rfl) rfl
theorem q1109 : (Jvm.Cond.code ({ cls := "java/util/ArrayList$Itr", name := "checkForComodification", desc := "()V" } : Jvm.MethodName) prog_50_method_6_code (1 : Nat) (Option.none : Option Jvm.ClassFile.FieldType)) ∈ lw_all := lw_g (lw_at lw_m5 47 rfl) rfl
theorem q2642 : (Jvm.Cond.castable "java/util/ArrayList$Itr" "java/lang/Object") ∈ lw_tbl := lw_at lw_m11 140 rfl
theorem in_J22 : ∀ w ∈ wsJ220, w ∈ lw_all := lw_in wsJ220 [1078, 1080, 1082, 1084] (by decide +kernel) (by decide +kernel)

/-! java/lang/NullPointerException -/
set_option maxRecDepth 100000
def RJ23 : String := "java/lang/NullPointerException"
def TJ23 : u_T := fun k => match k with
  | 0 => ("java/lang/Throwable", "backtrace", "Ljava/lang/Object;", false)
  | 1 => ("java/lang/Throwable", "detailMessage", "Ljava/lang/String;", false)
  | 2 => ("java/lang/Throwable", "cause", "Ljava/lang/Throwable;", false)
  | 3 => ("java/lang/Throwable", "stackTrace", "[Ljava/lang/StackTraceElement;", false)
  | 4 => ("java/lang/Throwable", "depth", "I", false)
  | 5 => ("java/lang/Throwable", "suppressedExceptions", "Ljava/util/List;", false)
  | 6 => ("java/lang/NullPointerException", "extendedMessageState", "I", false)
  | _ => ("java/lang/NullPointerException", "extendedMessage", "Ljava/lang/String;", false)
def tyJ23 : Nat → FieldType := fun k => match k with
  | 0 => .object "java/lang/Object"
  | 1 => .object "java/lang/String"
  | 2 => .object "java/lang/Throwable"
  | 3 => .array (.object "java/lang/StackTraceElement")
  | 4 => .int
  | 5 => .object "java/util/List"
  | 6 => .int
  | _ => .object "java/lang/String"
abbrev wsJ230 : List Cond := u_ws RJ23 TJ23 8
theorem nmJ23 : ∀ a, a < 8 → ∀ b, b < 8 → a ≠ b → (TJ23 a).2.1 ≠ (TJ23 b).2.1 := by decide +kernel
theorem tyJ23_ok : ∀ k, k < 8 → parseFieldDescriptor (TJ23 k).2.2.1 = some (tyJ23 k) := by decide +kernel
abbrev cJ23_getMessage : ByteArray := prog_34_method_4_code
def yJ23_getMessage : MethodName := ⟨RJ23, "getMessage", "()Ljava/lang/String;"⟩
def dkwJ23_getMessage_2 : List UInt8 := [176]
abbrev dktJ23_getMessage_2 : List UInt8 := dkwJ23_getMessage_2 ++ []
def dkwJ23_getMessage_1 : List UInt8 := [182, 0, 16, 181, 0, 20, 42, 5, 181, 0, 10, 42, 180, 0, 20, 44, 195, 176, 78, 44, 195, 45, 191, 43]
abbrev dktJ23_getMessage_1 : List UInt8 := dkwJ23_getMessage_1 ++ dktJ23_getMessage_2
def dkwJ23_getMessage_0 : List UInt8 := [42, 183, 0, 28, 76, 43, 199, 0, 40, 42, 89, 77, 194, 42, 180, 0, 10, 4, 160, 0, 16, 42, 42]
abbrev dktJ23_getMessage_0 : List UInt8 := dkwJ23_getMessage_0 ++ dktJ23_getMessage_1
theorem dksJ23_getMessage_0 : cJ23_getMessage.data.toList.drop 0 = dktJ23_getMessage_0 := by decide +kernel
theorem dksJ23_getMessage_1 : cJ23_getMessage.data.toList.drop 23 = dktJ23_getMessage_1 := dk_seg dksJ23_getMessage_0 23 rfl rfl
theorem dksJ23_getMessage_2 : cJ23_getMessage.data.toList.drop 47 = dktJ23_getMessage_2 := dk_seg dksJ23_getMessage_1 24 rfl rfl
theorem dJ23_getMessage_0 : decode cJ23_getMessage 0 = .ok (.aload_n 0, 1) := dk_42 (dk_at dksJ23_getMessage_0 0 rfl rfl)
theorem dJ23_getMessage_1 : decode cJ23_getMessage 1 = .ok (.invokespecial 28, 3) := dk_183 0 28 (dk_at dksJ23_getMessage_0 1 rfl rfl)
theorem dJ23_getMessage_4 : decode cJ23_getMessage 4 = .ok (.astore_n 1, 1) := dk_76 (dk_at dksJ23_getMessage_0 4 rfl rfl)
theorem dJ23_getMessage_5 : decode cJ23_getMessage 5 = .ok (.aload_n 1, 1) := dk_43 (dk_at dksJ23_getMessage_0 5 rfl rfl)
theorem dJ23_getMessage_6 : decode cJ23_getMessage 6 = .ok (.ifnonnull 40, 3) := dk_199 0 40 (dk_at dksJ23_getMessage_0 6 rfl rfl)
theorem dJ23_getMessage_9 : decode cJ23_getMessage 9 = .ok (.aload_n 0, 1) := dk_42 (dk_at dksJ23_getMessage_0 9 rfl rfl)
theorem dJ23_getMessage_10 : decode cJ23_getMessage 10 = .ok (.dup, 1) := dk_89 (dk_at dksJ23_getMessage_0 10 rfl rfl)
theorem dJ23_getMessage_11 : decode cJ23_getMessage 11 = .ok (.astore_n 2, 1) := dk_77 (dk_at dksJ23_getMessage_0 11 rfl rfl)
theorem dJ23_getMessage_12 : decode cJ23_getMessage 12 = .ok (.monitorenter, 1) := dk_194 (dk_at dksJ23_getMessage_0 12 rfl rfl)
theorem dJ23_getMessage_13 : decode cJ23_getMessage 13 = .ok (.aload_n 0, 1) := dk_42 (dk_at dksJ23_getMessage_0 13 rfl rfl)
theorem dJ23_getMessage_14 : decode cJ23_getMessage 14 = .ok (.getfield 10, 3) := dk_180 0 10 (dk_at dksJ23_getMessage_0 14 rfl rfl)
theorem dJ23_getMessage_17 : decode cJ23_getMessage 17 = .ok (.iconst 1, 1) := dk_4 (dk_at dksJ23_getMessage_0 17 rfl rfl)
theorem dJ23_getMessage_18 : decode cJ23_getMessage 18 = .ok (.if_icmp .ne 16, 3) := dk_160 0 16 (dk_at dksJ23_getMessage_0 18 rfl rfl)
theorem dJ23_getMessage_21 : decode cJ23_getMessage 21 = .ok (.aload_n 0, 1) := dk_42 (dk_at dksJ23_getMessage_0 21 rfl rfl)
theorem dJ23_getMessage_22 : decode cJ23_getMessage 22 = .ok (.aload_n 0, 1) := dk_42 (dk_at dksJ23_getMessage_0 22 rfl rfl)
theorem dJ23_getMessage_23 : decode cJ23_getMessage 23 = .ok (.invokevirtual 16, 3) := dk_182 0 16 (dk_at dksJ23_getMessage_1 0 rfl rfl)
theorem dJ23_getMessage_26 : decode cJ23_getMessage 26 = .ok (.putfield 20, 3) := dk_181 0 20 (dk_at dksJ23_getMessage_1 3 rfl rfl)
theorem dJ23_getMessage_29 : decode cJ23_getMessage 29 = .ok (.aload_n 0, 1) := dk_42 (dk_at dksJ23_getMessage_1 6 rfl rfl)
theorem dJ23_getMessage_30 : decode cJ23_getMessage 30 = .ok (.iconst 2, 1) := dk_5 (dk_at dksJ23_getMessage_1 7 rfl rfl)
theorem dJ23_getMessage_31 : decode cJ23_getMessage 31 = .ok (.putfield 10, 3) := dk_181 0 10 (dk_at dksJ23_getMessage_1 8 rfl rfl)
theorem dJ23_getMessage_34 : decode cJ23_getMessage 34 = .ok (.aload_n 0, 1) := dk_42 (dk_at dksJ23_getMessage_1 11 rfl rfl)
theorem dJ23_getMessage_35 : decode cJ23_getMessage 35 = .ok (.getfield 20, 3) := dk_180 0 20 (dk_at dksJ23_getMessage_1 12 rfl rfl)
theorem dJ23_getMessage_38 : decode cJ23_getMessage 38 = .ok (.aload_n 2, 1) := dk_44 (dk_at dksJ23_getMessage_1 15 rfl rfl)
theorem dJ23_getMessage_39 : decode cJ23_getMessage 39 = .ok (.monitorexit, 1) := dk_195 (dk_at dksJ23_getMessage_1 16 rfl rfl)
theorem dJ23_getMessage_40 : decode cJ23_getMessage 40 = .ok (.areturn, 1) := dk_176 (dk_at dksJ23_getMessage_1 17 rfl rfl)
theorem dJ23_getMessage_41 : decode cJ23_getMessage 41 = .ok (.astore_n 3, 1) := dk_78 (dk_at dksJ23_getMessage_1 18 rfl rfl)
theorem dJ23_getMessage_42 : decode cJ23_getMessage 42 = .ok (.aload_n 2, 1) := dk_44 (dk_at dksJ23_getMessage_1 19 rfl rfl)
theorem dJ23_getMessage_43 : decode cJ23_getMessage 43 = .ok (.monitorexit, 1) := dk_195 (dk_at dksJ23_getMessage_1 20 rfl rfl)
theorem dJ23_getMessage_44 : decode cJ23_getMessage 44 = .ok (.aload_n 3, 1) := dk_45 (dk_at dksJ23_getMessage_1 21 rfl rfl)
theorem dJ23_getMessage_45 : decode cJ23_getMessage 45 = .ok (.athrow, 1) := dk_191 (dk_at dksJ23_getMessage_1 22 rfl rfl)
theorem dJ23_getMessage_46 : decode cJ23_getMessage 46 = .ok (.aload_n 1, 1) := dk_43 (dk_at dksJ23_getMessage_1 23 rfl rfl)
theorem dJ23_getMessage_47 : decode cJ23_getMessage 47 = .ok (.areturn, 1) := dk_176 (dk_at dksJ23_getMessage_2 0 rfl rfl)
abbrev cJ23_init : ByteArray := prog_34_method_1_code
def yJ23_init : MethodName := ⟨RJ23, "<init>", "()V"⟩
theorem dJ23_init_0 : decode cJ23_init 0 = .ok (.aload_n 0, 1) := by decide +kernel
theorem dJ23_init_1 : decode cJ23_init 1 = .ok (.invokespecial 1, 3) := by decide +kernel
theorem dJ23_init_4 : decode cJ23_init 4 = .ok (.return_, 1) := by decide +kernel
theorem q145 : (Jvm.Cond.initialized "java/lang/NullPointerException") ∈ lw_all := lw_g (lw_at lw_m1 43 rfl) rfl
theorem q218 : (Jvm.Cond.selects "java/lang/NullPointerException" ({ cls := "java/lang/Throwable", name := "fillInStackTrace", desc := "()Ljava/lang/Throwable;" } : Jvm.MethodName) ({ cls := "java/lang/NullPointerException", name := "fillInStackTrace", desc := "()Ljava/lang/Throwable;" } : Jvm.MethodName)) ∈ lw_all := lw_g (lw_at lw_m1 116 rfl) rfl
theorem q219 : (Jvm.Cond.instanceMethod ({ cls := "java/lang/NullPointerException", name := "fillInStackTrace", desc := "()Ljava/lang/Throwable;" } : Jvm.MethodName)) ∈ lw_all := lw_g (lw_at lw_m1 117 rfl) rfl
theorem q220 : (Jvm.Cond.codeSync ({ cls := "java/lang/NullPointerException", name := "fillInStackTrace", desc := "()Ljava/lang/Throwable;" } : Jvm.MethodName) prog_34_method_3_code (1 : Nat) (Option.some (Jvm.ClassFile.FieldType.object "java/lang/Throwable"))) ∈ lw_all := lw_g (lw_at lw_m1 118 rfl) rfl
theorem q221 : (Jvm.Cond.methodLink "java/lang/NullPointerException" (16 : Nat) ({ cls := "java/lang/NullPointerException", name := "getExtendedNPEMessage", desc := "()Ljava/lang/String;" } : Jvm.MethodName)) ∈ lw_all := lw_g (lw_at lw_m1 119 rfl) rfl
theorem q222 : (Jvm.Cond.privateMethod ({ cls := "java/lang/NullPointerException", name := "getExtendedNPEMessage", desc := "()Ljava/lang/String;" } : Jvm.MethodName)) ∈ lw_tbl := lw_at lw_m1 120 rfl
theorem q223 : (Jvm.Cond.instanceMethod ({ cls := "java/lang/NullPointerException", name := "getExtendedNPEMessage", desc := "()Ljava/lang/String;" } : Jvm.MethodName)) ∈ lw_all := lw_g (lw_at lw_m1 121 rfl) rfl
theorem q224 : (Jvm.Cond.instantiable "java/lang/NullPointerException" (8 : Nat)) ∈ lw_all := lw_g (lw_at lw_m1 122 rfl) rfl
theorem q225 : (Jvm.Cond.native ({ cls := "java/lang/NullPointerException", name := "getExtendedNPEMessage", desc := "()Ljava/lang/String;" } : Jvm.MethodName)) ∈ lw_all := lw_g (lw_at lw_m1 123 rfl) rfl
theorem q226 : (Jvm.Cond.methodLink "java/lang/NullPointerException" (24 : Nat) ({ cls := "java/lang/RuntimeException", name := "fillInStackTrace", desc := "()Ljava/lang/Throwable;" } : Jvm.MethodName)) ∈ lw_all := lw_g (lw_at lw_m1 124 rfl) rfl
theorem q229 : (Jvm.Cond.superclass "java/lang/NullPointerException" "java/lang/RuntimeException") ∈ lw_all := lw_g (lw_at lw_m1 127 rfl) rfl
theorem q592 : (Jvm.Cond.selects "java/lang/NullPointerException" ({ cls := "java/lang/Object", name := "getClass", desc := "()Ljava/lang/Class;" } : Jvm.MethodName) ({ cls := "java/lang/Object", name := "getClass", desc := "()Ljava/lang/Class;" } : Jvm.MethodName)) ∈ lw_all := lw_g (lw_at lw_m3 10 rfl) rfl
theorem q1555 : (Jvm.Cond.selects "java/lang/NullPointerException" ({ cls := "java/lang/Throwable", name := "getLocalizedMessage", desc := "()Ljava/lang/String;" } : Jvm.MethodName) ({ cls := "java/lang/Throwable", name := "getLocalizedMessage", desc := "()Ljava/lang/String;" } : Jvm.MethodName)) ∈ lw_all := lw_g (lw_at lw_m7 13 rfl) rfl
theorem q1566 : (Jvm.Cond.selects "java/lang/NullPointerException" ({ cls := "java/lang/Throwable", name := "getMessage", desc := "()Ljava/lang/String;" } : Jvm.MethodName) ({ cls := "java/lang/NullPointerException", name := "getMessage", desc := "()Ljava/lang/String;" } : Jvm.MethodName)) ∈ lw_all := lw_g (lw_at lw_m7 24 rfl) rfl
theorem q1567 : (Jvm.Cond.instanceMethod ({ cls := "java/lang/NullPointerException", name := "getMessage", desc := "()Ljava/lang/String;" } : Jvm.MethodName)) ∈ lw_all := lw_g (lw_at lw_m7 25 rfl) rfl
theorem q1568 : (Jvm.Cond.codeWith ({ cls := "java/lang/NullPointerException", name := "getMessage", desc := "()Ljava/lang/String;" } : Jvm.MethodName) prog_34_method_4_code (4 : Nat) (Option.some (Jvm.ClassFile.FieldType.object "java/lang/String")) [((13 : Nat), (40 : Nat), (41 : Nat), (0 : Nat)), ((41 : Nat), (44 : Nat), (41 : Nat), (0 : Nat))]) ∈ lw_all := lw_g (lw_at lw_m7 26 rfl) rfl
theorem q1569 : (Jvm.Cond.methodLink "java/lang/NullPointerException" (28 : Nat) ({ cls := "java/lang/RuntimeException", name := "getMessage", desc := "()Ljava/lang/String;" } : Jvm.MethodName)) ∈ lw_all := lw_g (lw_at lw_m7 27 rfl) rfl
theorem q1587 : (Jvm.Cond.selects "java/lang/NullPointerException" ({ cls := "java/lang/Object", name := "toString", desc := "()Ljava/lang/String;" } : Jvm.MethodName) ({ cls := "java/lang/Throwable", name := "toString", desc := "()Ljava/lang/String;" } : Jvm.MethodName)) ∈ lw_all := lw_g (lw_at lw_m7 45 rfl) rfl
theorem q1866 : (Jvm.Cond.instanceMethod ({ cls := "java/lang/NullPointerException", name := "<init>", desc := "()V" } : Jvm.MethodName)) ∈ lw_all := lw_g (lw_at lw_m8 84 rfl) rfl
theorem q1867 : (Jvm.Cond.code ({ cls := "java/lang/NullPointerException", name := "<init>", desc := "()V" } : Jvm.MethodName) prog_34_method_1_code (1 : Nat) (Option.none : Option Jvm.ClassFile.FieldType)) ∈ lw_all := lw_g (lw_at lw_m8 85 rfl) rfl
theorem q1868 : (Jvm.Cond.methodLink "java/lang/NullPointerException" (1 : Nat) ({ cls := "java/lang/RuntimeException", name := "<init>", desc := "()V" } : Jvm.MethodName)) ∈ lw_all := lw_g (lw_at lw_m8 86 rfl) rfl
theorem q1869 : (Jvm.Cond.fieldLink "java/lang/NullPointerException" (10 : Nat) "java/lang/NullPointerException" "extendedMessageState" "I") ∈ lw_all := lw_g (lw_at lw_m8 87 rfl) rfl
theorem q1870 : (Jvm.Cond.fieldLink "java/lang/NullPointerException" (20 : Nat) "java/lang/NullPointerException" "extendedMessage" "Ljava/lang/String;") ∈ lw_all := lw_g (lw_at lw_m8 88 rfl) rfl
theorem q1871 : (Jvm.Cond.lays "java/lang/NullPointerException" "java/lang/NullPointerException" "extendedMessageState" "I") ∈ lw_all := lw_g (lw_at lw_m8 89 rfl) rfl
theorem q1872 : (Jvm.Cond.soleField "java/lang/NullPointerException" "extendedMessageState") ∈ lw_all := lw_g (lw_at lw_m8 90 rfl) rfl
theorem q1873 : (Jvm.Cond.lays "java/lang/NullPointerException" "java/lang/NullPointerException" "extendedMessage" "Ljava/lang/String;") ∈ lw_all := lw_g (lw_at lw_m8 91 rfl) rfl
theorem q1874 : (Jvm.Cond.soleField "java/lang/NullPointerException" "extendedMessage") ∈ lw_all := lw_g (lw_at lw_m8 92 rfl) rfl
theorem q1875 : (Jvm.Cond.lays "java/lang/NullPointerException" "java/lang/Throwable" "backtrace" "Ljava/lang/Object;") ∈ lw_all := lw_g (lw_at lw_m8 93 rfl) rfl
theorem q1876 : (Jvm.Cond.lays "java/lang/NullPointerException" "java/lang/Throwable" "detailMessage" "Ljava/lang/String;") ∈ lw_all := lw_g (lw_at lw_m8 94 rfl) rfl
theorem q1877 : (Jvm.Cond.lays "java/lang/NullPointerException" "java/lang/Throwable" "cause" "Ljava/lang/Throwable;") ∈ lw_all := lw_g (lw_at lw_m8 95 rfl) rfl
theorem q1878 : (Jvm.Cond.lays "java/lang/NullPointerException" "java/lang/Throwable" "stackTrace" "[Ljava/lang/StackTraceElement;") ∈ lw_all := lw_g (lw_at lw_m8 96 rfl) rfl
theorem q1879 : (Jvm.Cond.lays "java/lang/NullPointerException" "java/lang/Throwable" "depth" "I") ∈ lw_all := lw_g (lw_at lw_m8 97 rfl) rfl
theorem q1880 : (Jvm.Cond.lays "java/lang/NullPointerException" "java/lang/Throwable" "suppressedExceptions" "Ljava/util/List;") ∈ lw_all := lw_g (lw_at lw_m8 98 rfl) rfl
theorem q1881 : (Jvm.Cond.castable "java/lang/NullPointerException" "java/lang/NullPointerException") ∈ lw_tbl := lw_at lw_m8 99 rfl
theorem q1882 : (Jvm.Cond.selects "java/lang/NullPointerException" ({ cls := "java/lang/Throwable", name := "fillInStackTrace", desc := "(I)Ljava/lang/Throwable;" } : Jvm.MethodName) ({ cls := "java/lang/Throwable", name := "fillInStackTrace", desc := "(I)Ljava/lang/Throwable;" } : Jvm.MethodName)) ∈ lw_all := lw_g (lw_at lw_m8 100 rfl) rfl
theorem q2651 : (Jvm.Cond.castable "java/lang/NullPointerException" "java/lang/Object") ∈ lw_tbl := lw_at lw_m11 149 rfl
theorem in_J23 : ∀ w ∈ wsJ230, w ∈ lw_all := lw_in wsJ230 [1875, 1876, 1877, 1878, 1879, 1880, 1871, 1873] (by decide +kernel) (by decide +kernel)

/-! java/lang/ArrayStoreException -/
set_option maxRecDepth 100000
def RJ24 : String := "java/lang/ArrayStoreException"
def TJ24 : u_T := fun k => match k with
  | 0 => ("java/lang/Throwable", "backtrace", "Ljava/lang/Object;", false)
  | 1 => ("java/lang/Throwable", "detailMessage", "Ljava/lang/String;", false)
  | 2 => ("java/lang/Throwable", "cause", "Ljava/lang/Throwable;", false)
  | 3 => ("java/lang/Throwable", "stackTrace", "[Ljava/lang/StackTraceElement;", false)
  | 4 => ("java/lang/Throwable", "depth", "I", false)
  | _ => ("java/lang/Throwable", "suppressedExceptions", "Ljava/util/List;", false)
def tyJ24 : Nat → FieldType := fun k => match k with
  | 0 => .object "java/lang/Object"
  | 1 => .object "java/lang/String"
  | 2 => .object "java/lang/Throwable"
  | 3 => .array (.object "java/lang/StackTraceElement")
  | 4 => .int
  | _ => .object "java/util/List"
abbrev wsJ240 : List Cond := u_ws RJ24 TJ24 6
theorem nmJ24 : ∀ a, a < 6 → ∀ b, b < 6 → a ≠ b → (TJ24 a).2.1 ≠ (TJ24 b).2.1 := by decide +kernel
theorem tyJ24_ok : ∀ k, k < 6 → parseFieldDescriptor (TJ24 k).2.2.1 = some (tyJ24 k) := by decide +kernel
abbrev cJ24_init : ByteArray := prog_24_method_2_code
def yJ24_init : MethodName := ⟨RJ24, "<init>", "(Ljava/lang/String;)V"⟩
def dkwJ24_init_0 : List UInt8 := [42, 43, 183, 0, 7, 177]
abbrev dktJ24_init_0 : List UInt8 := dkwJ24_init_0 ++ []
theorem dksJ24_init_0 : cJ24_init.data.toList.drop 0 = dktJ24_init_0 := by decide +kernel
theorem dJ24_init_0 : decode cJ24_init 0 = .ok (.aload_n 0, 1) := dk_42 (dk_at dksJ24_init_0 0 rfl rfl)
theorem dJ24_init_1 : decode cJ24_init 1 = .ok (.aload_n 1, 1) := dk_43 (dk_at dksJ24_init_0 1 rfl rfl)
theorem dJ24_init_2 : decode cJ24_init 2 = .ok (.invokespecial 7, 3) := dk_183 0 7 (dk_at dksJ24_init_0 2 rfl rfl)
theorem dJ24_init_5 : decode cJ24_init 5 = .ok (.return_, 1) := dk_177 (dk_at dksJ24_init_0 5 rfl rfl)
theorem q146 : (Jvm.Cond.initialized "java/lang/ArrayStoreException") ∈ lw_all := lw_g (lw_at lw_m1 44 rfl) rfl
theorem q217 : (Jvm.Cond.selects "java/lang/ArrayStoreException" ({ cls := "java/lang/Throwable", name := "fillInStackTrace", desc := "()Ljava/lang/Throwable;" } : Jvm.MethodName) ({ cls := "java/lang/Throwable", name := "fillInStackTrace", desc := "()Ljava/lang/Throwable;" } : Jvm.MethodName)) ∈ lw_all := lw_g (lw_at lw_m1 115 rfl) rfl
theorem q590 : (Jvm.Cond.selects "java/lang/ArrayStoreException" ({ cls := "java/lang/Object", name := "getClass", desc := "()Ljava/lang/Class;" } : Jvm.MethodName) ({ cls := "java/lang/Object", name := "getClass", desc := "()Ljava/lang/Class;" } : Jvm.MethodName)) ∈ lw_all := lw_g (lw_at lw_m3 8 rfl) rfl
theorem q1553 : (Jvm.Cond.selects "java/lang/ArrayStoreException" ({ cls := "java/lang/Throwable", name := "getLocalizedMessage", desc := "()Ljava/lang/String;" } : Jvm.MethodName) ({ cls := "java/lang/Throwable", name := "getLocalizedMessage", desc := "()Ljava/lang/String;" } : Jvm.MethodName)) ∈ lw_all := lw_g (lw_at lw_m7 11 rfl) rfl
theorem q1564 : (Jvm.Cond.selects "java/lang/ArrayStoreException" ({ cls := "java/lang/Throwable", name := "getMessage", desc := "()Ljava/lang/String;" } : Jvm.MethodName) ({ cls := "java/lang/Throwable", name := "getMessage", desc := "()Ljava/lang/String;" } : Jvm.MethodName)) ∈ lw_all := lw_g (lw_at lw_m7 22 rfl) rfl
theorem q1585 : (Jvm.Cond.selects "java/lang/ArrayStoreException" ({ cls := "java/lang/Object", name := "toString", desc := "()Ljava/lang/String;" } : Jvm.MethodName) ({ cls := "java/lang/Throwable", name := "toString", desc := "()Ljava/lang/String;" } : Jvm.MethodName)) ∈ lw_all := lw_g (lw_at lw_m7 43 rfl) rfl
theorem q1952 : (Jvm.Cond.instantiable "java/lang/ArrayStoreException" (6 : Nat)) ∈ lw_all := lw_g (lw_at lw_m8 170 rfl) rfl
theorem q1953 : (Jvm.Cond.instanceMethod ({ cls := "java/lang/ArrayStoreException", name := "<init>", desc := "(Ljava/lang/String;)V" } : Jvm.MethodName)) ∈ lw_all := lw_g (lw_at lw_m8 171 rfl) rfl
theorem q1954 : (Jvm.Cond.code ({ cls := "java/lang/ArrayStoreException", name := "<init>", desc := "(Ljava/lang/String;)V" } : Jvm.MethodName) prog_24_method_2_code (2 : Nat) (Option.none : Option Jvm.ClassFile.FieldType)) ∈ lw_all := lw_g (lw_at lw_m8 172 rfl) rfl
theorem q1955 : (Jvm.Cond.methodLink "java/lang/ArrayStoreException" (7 : Nat) ({ cls := "java/lang/RuntimeException", name := "<init>", desc := "(Ljava/lang/String;)V" } : Jvm.MethodName)) ∈ lw_all := lw_g (lw_at lw_m8 173 rfl) rfl
theorem q1956 : (Jvm.Cond.lays "java/lang/ArrayStoreException" "java/lang/Throwable" "backtrace" "Ljava/lang/Object;") ∈ lw_all := lw_g (lw_at lw_m8 174 rfl) rfl
theorem q1957 : (Jvm.Cond.lays "java/lang/ArrayStoreException" "java/lang/Throwable" "detailMessage" "Ljava/lang/String;") ∈ lw_all := lw_g (lw_at lw_m8 175 rfl) rfl
theorem q1958 : (Jvm.Cond.lays "java/lang/ArrayStoreException" "java/lang/Throwable" "cause" "Ljava/lang/Throwable;") ∈ lw_all := lw_g (lw_at lw_m8 176 rfl) rfl
theorem q1959 : (Jvm.Cond.lays "java/lang/ArrayStoreException" "java/lang/Throwable" "stackTrace" "[Ljava/lang/StackTraceElement;") ∈ lw_all := lw_g (lw_at lw_m8 177 rfl) rfl
theorem q1960 : (Jvm.Cond.lays "java/lang/ArrayStoreException" "java/lang/Throwable" "depth" "I") ∈ lw_all := lw_g (lw_at lw_m8 178 rfl) rfl
theorem q1961 : (Jvm.Cond.lays "java/lang/ArrayStoreException" "java/lang/Throwable" "suppressedExceptions" "Ljava/util/List;") ∈ lw_all := lw_g (lw_at lw_m8 179 rfl) rfl
theorem q1962 : (Jvm.Cond.superclass "java/lang/ArrayStoreException" "java/lang/RuntimeException") ∈ lw_all := lw_g (lw_at lw_m8 180 rfl) rfl
theorem q1963 : (Jvm.Cond.castable "java/lang/ArrayStoreException" "java/lang/ArrayStoreException") ∈ lw_tbl := lw_at lw_m8 181 rfl
theorem q1964 : (Jvm.Cond.selects "java/lang/ArrayStoreException" ({ cls := "java/lang/Throwable", name := "fillInStackTrace", desc := "(I)Ljava/lang/Throwable;" } : Jvm.MethodName) ({ cls := "java/lang/Throwable", name := "fillInStackTrace", desc := "(I)Ljava/lang/Throwable;" } : Jvm.MethodName)) ∈ lw_all := lw_g (lw_at lw_m8 182 rfl) rfl
theorem q2652 : (Jvm.Cond.castable "java/lang/ArrayStoreException" "java/lang/Object") ∈ lw_tbl := lw_at lw_m11 150 rfl
theorem in_J24 : ∀ w ∈ wsJ240, w ∈ lw_all := lw_in wsJ240 [1956, 1957, 1958, 1959, 1960, 1961] (by decide +kernel) (by decide +kernel)

/-! java/lang/Object -/
set_option maxRecDepth 100000
def RJ25 : String := "java/lang/Object"
abbrev cJ25_init : ByteArray := object_method_1_code
def yJ25_init : MethodName := ⟨RJ25, "<init>", "()V"⟩
theorem dJ25_init_0 : decode cJ25_init 0 = .ok (.return_, 1) := by decide +kernel
theorem q153 : (Jvm.Cond.instanceMethod ({ cls := "java/lang/Object", name := "<init>", desc := "()V" } : Jvm.MethodName)) ∈ lw_all := lw_g (lw_at lw_m1 51 rfl) rfl
theorem q154 : (Jvm.Cond.code ({ cls := "java/lang/Object", name := "<init>", desc := "()V" } : Jvm.MethodName) object_method_1_code (1 : Nat) (Option.none : Option Jvm.ClassFile.FieldType)) ∈ lw_all := lw_g (lw_at lw_m1 52 rfl) rfl
theorem q507 : (Jvm.Cond.native ({ cls := "java/lang/Object", name := "clone", desc := "()Ljava/lang/Object;" } : Jvm.MethodName)) ∈ lw_all := lw_g (lw_at lw_m2 165 rfl) rfl
theorem q508 : (Jvm.Cond.instanceMethod ({ cls := "java/lang/Object", name := "clone", desc := "()Ljava/lang/Object;" } : Jvm.MethodName)) ∈ lw_all := lw_g (lw_at lw_m2 166 rfl) rfl
theorem q571 : (Jvm.Cond.instanceMethod ({ cls := "java/lang/Object", name := "getClass", desc := "()Ljava/lang/Class;" } : Jvm.MethodName)) ∈ lw_all := lw_g (lw_at lw_m2 229 rfl) rfl
theorem q572 : (Jvm.Cond.sameMethod "java/lang/Object" "java/lang/Object" "getClass" "()Ljava/lang/Class;") ∈ lw_all := lw_g (lw_at lw_m2 230 rfl) rfl
theorem q599 : (Jvm.Cond.native ({ cls := "java/lang/Object", name := "getClass", desc := "()Ljava/lang/Class;" } : Jvm.MethodName)) ∈ lw_all := lw_g (lw_at lw_m3 17 rfl) rfl
theorem q1529 : (Jvm.Cond.declares ({ cls := "java/lang/Object", name := "toString", desc := "()Ljava/lang/String;" } : Jvm.MethodName)) ∈ lw_tbl := lw_at lw_m6 227 rfl
theorem q1531 : (Jvm.Cond.instanceMethod ({ cls := "java/lang/Object", name := "toString", desc := "()Ljava/lang/String;" } : Jvm.MethodName)) ∈ lw_all := lw_g (lw_at lw_m6 229 rfl) rfl
theorem q1532 : (Jvm.Cond.sameMethod "java/lang/Object" "java/lang/Object" "toString" "()Ljava/lang/String;") ∈ lw_all := lw_g (lw_at lw_m6 230 rfl) rfl
theorem q2616 : (Jvm.Cond.initialized "java/lang/Object") ∈ lw_all := lw_g (lw_at lw_m11 114 rfl) rfl
theorem q2656 : (Jvm.Cond.declares ({ cls := "java/lang/Object", name := "getClass", desc := "()Ljava/lang/Class;" } : Jvm.MethodName)) ∈ lw_tbl := lw_at lw_m11 154 rfl

/-! java/lang/System$2 -/
set_option maxRecDepth 100000
def RJ26 : String := "java/lang/System$2"
abbrev cJ26_getUTF16Char : ByteArray := prog_43_method_45_code
def yJ26_getUTF16Char : MethodName := ⟨RJ26, "getUTF16Char", "([BI)C"⟩
def dkwJ26_getUTF16Char_0 : List UInt8 := [43, 28, 184, 0, 185, 172]
abbrev dktJ26_getUTF16Char_0 : List UInt8 := dkwJ26_getUTF16Char_0 ++ []
theorem dksJ26_getUTF16Char_0 : cJ26_getUTF16Char.data.toList.drop 0 = dktJ26_getUTF16Char_0 := by decide +kernel
theorem dJ26_getUTF16Char_0 : decode cJ26_getUTF16Char 0 = .ok (.aload_n 1, 1) := dk_43 (dk_at dksJ26_getUTF16Char_0 0 rfl rfl)
theorem dJ26_getUTF16Char_1 : decode cJ26_getUTF16Char 1 = .ok (.iload_n 2, 1) := dk_28 (dk_at dksJ26_getUTF16Char_0 1 rfl rfl)
theorem dJ26_getUTF16Char_2 : decode cJ26_getUTF16Char 2 = .ok (.invokestatic 185, 3) := dk_184 0 185 (dk_at dksJ26_getUTF16Char_0 2 rfl rfl)
theorem dJ26_getUTF16Char_5 : decode cJ26_getUTF16Char 5 = .ok (.ireturn, 1) := dk_172 (dk_at dksJ26_getUTF16Char_0 5 rfl rfl)
theorem q596 : (Jvm.Cond.selects "java/lang/System$2" ({ cls := "java/lang/Object", name := "getClass", desc := "()Ljava/lang/Class;" } : Jvm.MethodName) ({ cls := "java/lang/Object", name := "getClass", desc := "()Ljava/lang/Class;" } : Jvm.MethodName)) ∈ lw_all := lw_g (lw_at lw_m3 14 rfl) rfl
theorem q1593 : (Jvm.Cond.selects "java/lang/System$2" ({ cls := "java/lang/Object", name := "toString", desc := "()Ljava/lang/String;" } : Jvm.MethodName) ({ cls := "java/lang/Object", name := "toString", desc := "()Ljava/lang/String;" } : Jvm.MethodName)) ∈ lw_all := lw_g (lw_at lw_m7 51 rfl) rfl
theorem q1817 : (Jvm.Cond.castable "java/lang/System$2" "jdk/internal/access/JavaLangAccess") ∈ lw_tbl := lw_at lw_m8 35 rfl
theorem q1818 : (Jvm.Cond.selects "java/lang/System$2" ({ cls := "jdk/internal/access/JavaLangAccess", name := "getUTF16Char", desc := "([BI)C" } : Jvm.MethodName) ({ cls := "java/lang/System$2", name := "getUTF16Char", desc := "([BI)C" } : Jvm.MethodName)) ∈ lw_all := lw_g (lw_at lw_m8 36 rfl) rfl
theorem q1819 : (Jvm.Cond.unhidden "java/lang/System$2" "getUTF16Char" "([BI)C") ∈ lw_tbl := lw_at lw_m8 37 rfl
theorem q1820 : (Jvm.Cond.instanceMethod ({ cls := "java/lang/System$2", name := "getUTF16Char", desc := "([BI)C" } : Jvm.MethodName)) ∈ lw_all := lw_g (lw_at lw_m8 38 rfl) rfl
theorem q1821 : (Jvm.Cond.publicMethod ({ cls := "java/lang/System$2", name := "getUTF16Char", desc := "([BI)C" } : Jvm.MethodName)) ∈ lw_tbl := lw_at lw_m8 39 rfl
theorem q1822 : (Jvm.Cond.code ({ cls := "java/lang/System$2", name := "getUTF16Char", desc := "([BI)C" } : Jvm.MethodName) prog_43_method_45_code (3 : Nat) (Option.some Jvm.ClassFile.FieldType.char)) ∈ lw_all := lw_g (lw_at lw_m8 40 rfl) rfl
theorem q1823 : (Jvm.Cond.methodLink "java/lang/System$2" (185 : Nat) ({ cls := "java/lang/StringUTF16", name := "getChar", desc := "([BI)C" } : Jvm.MethodName)) ∈ lw_all := lw_g (lw_at lw_m8 41 rfl) rfl
theorem q2650 : (Jvm.Cond.castable "java/lang/System$2" "java/lang/Object") ∈ lw_tbl := lw_at lw_m11 148 rfl

